/-! THE REFERENCE's METHODS: the page's readers, the survey -/
set_option maxRecDepth 100000
theorem cw_X3_sumOf {R : Room} {s : State} {args : Array Value} {own : String} {index lev mc ms : Nat} (hts : ∀ w ∈ lw_all, w.before args s = true) (hl : Cond.methodLink own index yX3_sumOf ∈ lw_all) (hR1 : (rmL lev mc ms).frames + 1 ≤ R.frames) (hR2 : 8 + (5 + 11) + (rmL lev mc ms).locals ≤ R.locals) : CallW R s args own RX3 index yX3_sumOf cX3_sumOf 5 (some .int) (ws_ yX3_sumOf cX3_sumOf 5 (some .int)) (rmL lev mc ms) mc ms 2 :=
  cwV 2 hts (lw_V hl q2473 qs71 q116 q2474) rfl rfl rfl (by decide +kernel) ⟨hR1, hR2⟩
set_option maxHeartbeats 4000000 in
theorem m_X3_sumOf {E : jE} (l : Launch) (o : Nat) (st : Ms) (w0 : Wl) (T : Int) (n : Int) (what : Int) (h1 : PWF T (st 0)) (h2 : 0 ≤ n) (h3 : n < st 0 2) (h4 : what = 1 ∨ what = 2 ∨ what = 3) : Met l yX3_sumOf (ws_ yX3_sumOf cX3_sumOf 5 (some .int)) (rmL 2 0 0) (va_Pc [.ref o, .int (iI n), .int (iI what)] (jP E (wM E o st w0))) (jQi E (fun u : Ms => wM E o u w0) (fun z u => z = sumO (st 0) n what ∧ u = st)) 0 0 (jA E) := by
  refine j_metI (by decide) (Nat.le_of_ble_eq_true rfl) ?_
  intro p e s m args below meth c Q hx hb hml hown hnm hts hV hH hret ls hl
  have hl : lv_has ls 5 [(0, .ref o), (1, .int (iI n)), (2, .int (iI what))] := hl
  have hA := h1.A
  refine j_iconst hx hb dX3_sumOf_0 ?_
  refine j_istore_n (lv' := fun x1 => [(3, .int (iI x1)), (0, .ref o), (1, .int (iI n)), (2, .int (iI what))]) hx hb dX3_sumOf_1 rfl hl (by decide) (fun _ => rfl) (fun x1 ex1 ls hl => ?_)
  refine lv_iload_n hx hb dX3_sumOf_2 rfl (lv_at hl 2 rfl) ?_
  refine j_istore (lv' := fun x2 => [(4, .int (iI x2)), (3, .int (iI x1)), (0, .ref o), (1, .int (iI n)), (2, .int (iI what))]) hx hb dX3_sumOf_3 hl (by decide) (fun _ => rfl) (fun x2 ex2 ls hl => ?_)
  have L5 : ∀ (n_ : Nat), ∀ (acc : Int) (its : Int) (hm_ : its + 1001 < (n_ : Int)) (i1 : okN (st 0) its) (i2 : acc + sumO (st 0) its what = sumO (st 0) n what) (H : Heap) (locs : List Loc), jH E s.heap (wM E o st w0) H locs → ∀ ls : Array Slot, lv_has ls 5 [(0, .ref o), (1, .int (iI n)), (2, .int (iI what)), (3, .int (iI acc)), (4, .int (iI its))] → W p l e (rmL 2 0 0) s m args below meth c H locs 0 0 Q (F0 m 5 ls []) := by
    intro n_
    induction n_ with
    | zero =>
      intro acc its hm_ i1 i2 H locs hH ls hl
      exact absurd hm_ (by omega)
    | succ n_ ih_5 =>
      intro acc its hm_ i1 i2 H locs hH ls hl
      refine lv_iload hx hb dX3_sumOf_5 (lv_at hl 4 rfl) ?_
      refine j_sipush hx hb dX3_sumOf_7 (by decide) ?_
      refine j_icmp_eq (tgt := 35) hx hb dX3_sumOf_10 (by decide) (by omega) (by omega) (fun c10 => ?_) (fun c10 => ?_)
      · refine lv_iload_n hx hb dX3_sumOf_35 rfl (lv_at hl 3 rfl) ?_
        exact hret st hH dX3_sumOf_36 (Nat.le_of_ble_eq_true rfl) (Nat.le_of_ble_eq_true rfl) (⟨by rw [c10, sumO_none] at i2; omega, rfl⟩)
      · have iq := i1.resolve_left c10
        have hq := h1.N iq.1 iq.2
        have hd := sumO_step h1 what iq.1 iq.2
        refine lv_iload_n hx hb dX3_sumOf_13 rfl (lv_at hl 3 rfl) ?_
        refine lv_aload_n hx hb dX3_sumOf_14 rfl (lv_at hl 0 rfl) ?_
        refine lv_iload hx hb dX3_sumOf_15 (lv_at hl 4 rfl) ?_
        refine lv_iload_n hx hb dX3_sumOf_17 rfl (lv_at hl 2 rfl) ?_
        refine j_callif (va_runV (As := [.int (iI its), .int (iI what)]) (rest := [.int (iI acc)]) ⟨hx, hb, hml, hown, hts⟩ (m_X3_of l o st w0 its what (by omega)) (cw_X3_of hts q2343 (Nat.le_of_ble_eq_true rfl) (Nat.le_of_ble_eq_true rfl)) (j_preV hV hH wM_o rfl) rfl rfl hl.1 rfl (lv_room (Nat.le_of_ble_eq_true rfl)) dX3_sumOf_18 ⟨Nat.le_of_ble_eq_true rfl, Nat.le_of_ble_eq_true rfl⟩) hH (fun H locs hH => ?_)
        refine j_iadd hx hb dX3_sumOf_21 ?_
        refine j_istore_n (lv' := fun x3 => [(3, .int (iI x3)), (0, .ref o), (1, .int (iI n)), (2, .int (iI what)), (4, .int (iI its))]) hx hb dX3_sumOf_22 rfl hl (by decide) (fun _ => rfl) (fun x3 ex3 ls hl => ?_)
        refine lv_aload_n hx hb dX3_sumOf_23 rfl (lv_at hl 1 rfl) ?_
        refine lv_iload hx hb dX3_sumOf_24 (lv_at hl 4 rfl) ?_
        refine j_iconst hx hb dX3_sumOf_26 ?_
        refine j_callif (va_runV (As := [.int (iI its), .int (iI 0)]) (rest := []) ⟨hx, hb, hml, hown, hts⟩ (m_X3_of l o st w0 its 0 (by omega)) (cw_X3_of hts q2343 (Nat.le_of_ble_eq_true rfl) (Nat.le_of_ble_eq_true rfl)) (j_preV hV hH wM_o rfl) rfl rfl hl.1 rfl (lv_room (Nat.le_of_ble_eq_true rfl)) dX3_sumOf_27 ⟨Nat.le_of_ble_eq_true rfl, Nat.le_of_ble_eq_true rfl⟩) hH (fun H locs hH => ?_)
        refine j_istore (lv' := fun x4 => [(4, .int (iI x4)), (3, .int (iI x3)), (0, .ref o), (1, .int (iI n)), (2, .int (iI what))]) hx hb dX3_sumOf_30 hl (by decide) (fun _ => rfl) (fun x4 ex4 ls hl => ?_)
        refine lv_goto (tgt := 5) hx hb dX3_sumOf_32 (by decide) ?_
        exact ih_5 x3 x4 (by omega) (by rw [ex4]; exact okN.parent h1 iq.1 iq.2) (by rw [ex4]; omega) _ _ hH ls (lv_sub hl [2, 3, 4, 1, 0] rfl)
  exact L5 ((x2 + 1001).toNat + 1) x1 x2 (by omega) (by rw [ex2]; exact Or.inr ⟨h2, h3⟩) (by rw [ex2]; omega) _ _ hH ls (lv_sub hl [2, 3, 4, 1, 0] rfl)
theorem cw_X3_isWithin {R : Room} {s : State} {args : Array Value} {own : String} {index lev mc ms : Nat} (hts : ∀ w ∈ lw_all, w.before args s = true) (hl : Cond.methodLink own index yX3_isWithin ∈ lw_all) (hR1 : (rmL lev mc ms).frames + 1 ≤ R.frames) (hR2 : 8 + (4 + 11) + (rmL lev mc ms).locals ≤ R.locals) : CallW R s args own RX3 index yX3_isWithin cX3_isWithin 4 (some .boolean) (ws_ yX3_isWithin cX3_isWithin 4 (some .boolean)) (rmL lev mc ms) mc ms 2 :=
  cwV 2 hts (lw_V hl q2396 qs60 q116 q2397) rfl rfl rfl (by decide +kernel) ⟨hR1, hR2⟩
set_option maxHeartbeats 4000000 in
theorem m_X3_isWithin {E : jE} (l : Launch) (o : Nat) (st : Ms) (w0 : Wl) (T : Int) (n : Int) (out : Int) (h1 : PWF T (st 0)) (h2 : 0 ≤ n) (h3 : n < st 0 2) (h4 : 0 ≤ out ∧ out < 20) : Met l yX3_isWithin (ws_ yX3_isWithin cX3_isWithin 4 (some .boolean)) (rmL 2 0 0) (va_Pc [.ref o, .int (iI n), .int (iI out)] (jP E (wM E o st w0))) (jQi E (fun u : Ms => wM E o u w0) (fun z u => z = bI (wiO (st 0) n out) ∧ u = st)) 0 0 (jA E) := by
  refine j_metZ (by decide) (Nat.le_of_ble_eq_true rfl) ?_
  intro p e s m args below meth c Q hx hb hml hown hnm hts hV hH hret ls hl
  have hl : lv_has ls 4 [(0, .ref o), (1, .int (iI n)), (2, .int (iI out))] := hl
  have hA := h1.A
  refine lv_iload_n hx hb dX3_isWithin_0 rfl (lv_at hl 1 rfl) ?_
  refine j_istore_n (lv' := fun x1 => [(3, .int (iI x1)), (0, .ref o), (1, .int (iI n)), (2, .int (iI out))]) hx hb dX3_isWithin_1 rfl hl (by decide) (fun _ => rfl) (fun x1 ex1 ls hl => ?_)
  have L2 : ∀ (n_ : Nat), ∀ (its : Int) (hm_ : its + 1001 < (n_ : Int)) (i1 : okN (st 0) its) (i2 : wiO (st 0) its out ↔ wiO (st 0) n out) (H : Heap) (locs : List Loc), jH E s.heap (wM E o st w0) H locs → ∀ ls : Array Slot, lv_has ls 4 [(0, .ref o), (1, .int (iI n)), (2, .int (iI out)), (3, .int (iI its))] → W p l e (rmL 2 0 0) s m args below meth c H locs 0 0 Q (F0 m 2 ls []) := by
    intro n_
    induction n_ with
    | zero =>
      intro its hm_ i1 i2 H locs hH ls hl
      exact absurd hm_ (by omega)
    | succ n_ ih_2 =>
      intro its hm_ i1 i2 H locs hH ls hl
      refine lv_iload_n hx hb dX3_isWithin_2 rfl (lv_at hl 3 rfl) ?_
      refine j_sipush hx hb dX3_isWithin_3 (by decide) ?_
      refine j_icmp_eq (tgt := 24) hx hb dX3_isWithin_6 (by decide) (by omega) (by omega) (fun c6 => ?_) (fun c6 => ?_)
      · refine lv_iload_n hx hb dX3_isWithin_24 rfl (lv_at hl 3 rfl) ?_
        refine lv_iload_n hx hb dX3_isWithin_25 rfl (lv_at hl 2 rfl) ?_
        refine j_icmp_ne (tgt := 33) hx hb dX3_isWithin_26 (by decide) (by omega) (by omega) (fun c26 => ?_) (fun c26 => ?_)
        · refine j_iconst hx hb dX3_isWithin_33 ?_
          exact hret st hH dX3_isWithin_34 (Nat.le_of_ble_eq_true rfl) (Nat.le_of_ble_eq_true rfl) (by decide) (⟨by first | exact (bI_t (i2.mp ((wiO_step h1 (by omega) (by omega) (by omega)).mpr (Or.inl c26)))).symm | exact (bI_f (fun h => wiO_none (P := st 0) (o := out) (by omega) (c6 ▸ i2.mpr h))).symm | exact absurd c11 c26, rfl⟩)
        · refine j_iconst hx hb dX3_isWithin_29 ?_
          refine lv_goto (tgt := 34) hx hb dX3_isWithin_30 (by decide) ?_
          exact hret st hH dX3_isWithin_34 (Nat.le_of_ble_eq_true rfl) (Nat.le_of_ble_eq_true rfl) (by decide) (⟨by first | exact (bI_t (i2.mp ((wiO_step h1 (by omega) (by omega) (by omega)).mpr (Or.inl c26)))).symm | exact (bI_f (fun h => wiO_none (P := st 0) (o := out) (by omega) (c6 ▸ i2.mpr h))).symm | exact absurd c11 c26, rfl⟩)
      · have iq := i1.resolve_left c6
        have hq := h1.N iq.1 iq.2
        refine lv_iload_n hx hb dX3_isWithin_9 rfl (lv_at hl 3 rfl) ?_
        refine lv_iload_n hx hb dX3_isWithin_10 rfl (lv_at hl 2 rfl) ?_
        refine j_icmp_eq (tgt := 24) hx hb dX3_isWithin_11 (by decide) (by omega) (by omega) (fun c11 => ?_) (fun c11 => ?_)
        · refine lv_iload_n hx hb dX3_isWithin_24 rfl (lv_at hl 3 rfl) ?_
          refine lv_iload_n hx hb dX3_isWithin_25 rfl (lv_at hl 2 rfl) ?_
          refine j_icmp_ne (tgt := 33) hx hb dX3_isWithin_26 (by decide) (by omega) (by omega) (fun c26 => ?_) (fun c26 => ?_)
          · refine j_iconst hx hb dX3_isWithin_33 ?_
            exact hret st hH dX3_isWithin_34 (Nat.le_of_ble_eq_true rfl) (Nat.le_of_ble_eq_true rfl) (by decide) (⟨by first | exact (bI_t (i2.mp ((wiO_step h1 (by omega) (by omega) (by omega)).mpr (Or.inl c26)))).symm | exact (bI_f (fun h => wiO_none (P := st 0) (o := out) (by omega) (c6 ▸ i2.mpr h))).symm | exact absurd c11 c26, rfl⟩)
          · refine j_iconst hx hb dX3_isWithin_29 ?_
            refine lv_goto (tgt := 34) hx hb dX3_isWithin_30 (by decide) ?_
            exact hret st hH dX3_isWithin_34 (Nat.le_of_ble_eq_true rfl) (Nat.le_of_ble_eq_true rfl) (by decide) (⟨by first | exact (bI_t (i2.mp ((wiO_step h1 (by omega) (by omega) (by omega)).mpr (Or.inl c26)))).symm | exact (bI_f (fun h => wiO_none (P := st 0) (o := out) (by omega) (c6 ▸ i2.mpr h))).symm | exact absurd c11 c26, rfl⟩)
        · refine lv_aload_n hx hb dX3_isWithin_14 rfl (lv_at hl 0 rfl) ?_
          refine lv_iload_n hx hb dX3_isWithin_15 rfl (lv_at hl 3 rfl) ?_
          refine j_iconst hx hb dX3_isWithin_16 ?_
          refine j_callif (va_runV (As := [.int (iI its), .int (iI 0)]) (rest := []) ⟨hx, hb, hml, hown, hts⟩ (m_X3_of l o st w0 its 0 (by omega)) (cw_X3_of hts q2343 (Nat.le_of_ble_eq_true rfl) (Nat.le_of_ble_eq_true rfl)) (j_preV hV hH wM_o rfl) rfl rfl hl.1 rfl (lv_room (Nat.le_of_ble_eq_true rfl)) dX3_isWithin_17 ⟨Nat.le_of_ble_eq_true rfl, Nat.le_of_ble_eq_true rfl⟩) hH (fun H locs hH => ?_)
          refine j_istore_n (lv' := fun x2 => [(3, .int (iI x2)), (0, .ref o), (1, .int (iI n)), (2, .int (iI out))]) hx hb dX3_isWithin_20 rfl hl (by decide) (fun _ => rfl) (fun x2 ex2 ls hl => ?_)
          refine lv_goto (tgt := 2) hx hb dX3_isWithin_21 (by decide) ?_
          exact ih_2 x2 (by omega) (by rw [ex2]; exact okN.parent h1 iq.1 iq.2) (by rw [ex2, ← i2, wiO_step h1 (by omega) iq.1 iq.2]; exact ⟨Or.inr, fun h => h.resolve_left c11⟩) _ _ hH ls (lv_sub hl [1, 2, 3, 0] rfl)
  exact L2 ((x1 + 1001).toNat + 1) x1 (by omega) (by rw [ex1]; exact Or.inr ⟨h2, h3⟩) (by rw [ex1]) _ _ hH ls (lv_sub hl [1, 2, 3, 0] rfl)
theorem cw_X3_sceneNow {R : Room} {s : State} {args : Array Value} {own : String} {index lev mc ms : Nat} (hts : ∀ w ∈ lw_all, w.before args s = true) (hl : Cond.methodLink own index yX3_sceneNow ∈ lw_all) (hR1 : (rmL lev mc ms).frames + 1 ≤ R.frames) (hR2 : 8 + (3 + 11) + (rmL lev mc ms).locals ≤ R.locals) : CallW R s args own RX3 index yX3_sceneNow cX3_sceneNow 3 (some .int) (ws_ yX3_sceneNow cX3_sceneNow 3 (some .int)) (rmL lev mc ms) mc ms 0 :=
  cwV 0 hts (lw_V hl q2454 qs68 q116 q2455) rfl rfl rfl (by decide +kernel) ⟨hR1, hR2⟩
set_option maxHeartbeats 4000000 in
theorem m_X3_sceneNow {E : jE} (l : Launch) (o : Nat) (st : Ms) (w0 : Wl) (T : Int) (h1 : PWF T (st 0)) (h2 : T ≤ 1000000000) : Met l yX3_sceneNow (ws_ yX3_sceneNow cX3_sceneNow 3 (some .int)) (rmL 1 0 0) (va_Pc [.ref o] (jP E (wM E o st w0))) (jQi E (fun u : Ms => wM E o u w0) (fun z u => z = nowO (st 0) ∧ u = st)) 0 0 (jA E) := by
  refine j_metI (by decide) (Nat.le_of_ble_eq_true rfl) ?_
  intro p e s m args below meth c Q hx hb hml hown hnm hts hV hH hret ls hl
  have hl : lv_has ls 3 [(0, .ref o)] := hl
  have hA := h1.A
  refine j_iconst hx hb dX3_sceneNow_0 ?_
  refine j_istore_n (lv' := fun x1 => [(1, .int (iI x1)), (0, .ref o)]) hx hb dX3_sceneNow_1 rfl hl (by decide) (fun _ => rfl) (fun x1 ex1 ls hl => ?_)
  refine j_iconst hx hb dX3_sceneNow_2 ?_
  refine j_istore_n (lv' := fun x2 => [(2, .int (iI x2)), (1, .int (iI x1)), (0, .ref o)]) hx hb dX3_sceneNow_3 rfl hl (by decide) (fun _ => rfl) (fun x2 ex2 ls hl => ?_)
  have L4 : ∀ (n_ : Nat), ∀ (fin : Int) (it : Int) (hm_ : 9 - it < (n_ : Int)) (i1 : 0 ≤ it) (i2 : it ≤ st 0 3) (i3 : fin = begO (st 0) it) (i4 : begO (st 0) it ≤ st 0 4) (i5 : 0 < st 0 3 → it < st 0 3) (H : Heap) (locs : List Loc), jH E s.heap (wM E o st w0) H locs → ∀ ls : Array Slot, lv_has ls 3 [(0, .ref o), (1, .int (iI fin)), (2, .int (iI it))] → W p l e (rmL 1 0 0) s m args below meth c H locs 0 0 Q (F0 m 4 ls []) := by
    intro n_
    induction n_ with
    | zero =>
      intro fin it hm_ i1 i2 i3 i4 i5 H locs hH ls hl
      exact absurd hm_ (by omega)
    | succ n_ ih_4 =>
      intro fin it hm_ i1 i2 i3 i4 i5 H locs hH ls hl
      refine lv_iload_n hx hb dX3_sceneNow_4 rfl (lv_at hl 2 rfl) ?_
      refine lv_aload_n hx hb dX3_sceneNow_5 rfl (lv_at hl 0 rfl) ?_
      refine j_get hx hb hts hown hV hH wM_o rfl in_X3 0 (Nat.le_of_ble_eq_true rfl) q2229 (fun _ h => h) rfl dX3_sceneNow_6 ?_
      refine j_iconst hx hb dX3_sceneNow_9 ?_
      refine j_iald (n := 198) hx hb hV hH wM_0 (by omega) (by omega) dX3_sceneNow_10 ?_
      refine j_icmp_ge (tgt := 61) hx hb dX3_sceneNow_11 (by decide) (by omega) (by omega) (fun c11 => ?_) (fun c11 => ?_)
      · refine j_sipush hx hb dX3_sceneNow_61 (by decide) ?_
        exact hret st hH dX3_sceneNow_64 (Nat.le_of_ble_eq_true rfl) (Nat.le_of_ble_eq_true rfl) (⟨nowO_of h1 (Or.inl ⟨by omega, rfl⟩), rfl⟩)
      · have hS := h1.S i1 c11
        have hbs := begO_s (st 0) i1
        refine lv_iload_n hx hb dX3_sceneNow_14 rfl (lv_at hl 1 rfl) ?_
        refine lv_aload_n hx hb dX3_sceneNow_15 rfl (lv_at hl 0 rfl) ?_
        refine j_get hx hb hts hown hV hH wM_o rfl in_X3 0 (Nat.le_of_ble_eq_true rfl) q2229 (fun _ h => h) rfl dX3_sceneNow_16 ?_
        refine j_sipush hx hb dX3_sceneNow_19 (by decide) ?_
        refine j_iconst hx hb dX3_sceneNow_22 ?_
        refine lv_iload_n hx hb dX3_sceneNow_23 rfl (lv_at hl 2 rfl) ?_
        refine j_imul hx hb dX3_sceneNow_24 ?_
        refine j_iadd hx hb dX3_sceneNow_25 ?_
        refine j_iconst hx hb dX3_sceneNow_26 ?_
        refine j_iadd hx hb dX3_sceneNow_27 ?_
        refine j_iald (n := 198) hx hb hV hH wM_0 (by omega) (by omega) dX3_sceneNow_28 ?_
        refine j_iadd hx hb dX3_sceneNow_29 ?_
        refine j_istore_n (lv' := fun x3 => [(1, .int (iI x3)), (0, .ref o), (2, .int (iI it))]) hx hb dX3_sceneNow_30 rfl hl (by decide) (fun _ => rfl) (fun x3 ex3 ls hl => ?_)
        have hbx := begO_b h1 (s := it + 1) (by omega) (by omega)
        have e3 : x3 = begO (st 0) (it + 1) := by rw [ex3, hbs, ← i3]; rfl
        refine lv_aload_n hx hb dX3_sceneNow_31 rfl (lv_at hl 1 rfl) ?_
        refine j_get hx hb hts hown hV hH wM_o rfl in_X3 0 (Nat.le_of_ble_eq_true rfl) q2229 (fun _ h => h) rfl dX3_sceneNow_32 ?_
        refine j_iconst hx hb dX3_sceneNow_35 ?_
        refine j_iald (n := 198) hx hb hV hH wM_0 (by omega) (by omega) dX3_sceneNow_36 ?_
        refine lv_iload_n hx hb dX3_sceneNow_37 rfl (lv_at hl 0 rfl) ?_
        refine j_icmp_lt (tgt := 53) hx hb dX3_sceneNow_38 (by decide) (by omega) (by omega) (fun c38 => ?_) (fun c38 => ?_)
        · refine lv_iload_n hx hb dX3_sceneNow_53 rfl (lv_at hl 2 rfl) ?_
          exact hret st hH dX3_sceneNow_54 (Nat.le_of_ble_eq_true rfl) (Nat.le_of_ble_eq_true rfl) (⟨nowO_of h1 (Or.inr ⟨i1, c11, i4, by first | exact Or.inl c50 | exact Or.inr (by omega)⟩), rfl⟩)
        · refine lv_iload_n hx hb dX3_sceneNow_41 rfl (lv_at hl 2 rfl) ?_
          refine lv_aload_n hx hb dX3_sceneNow_42 rfl (lv_at hl 1 rfl) ?_
          refine j_get hx hb hts hown hV hH wM_o rfl in_X3 0 (Nat.le_of_ble_eq_true rfl) q2229 (fun _ h => h) rfl dX3_sceneNow_43 ?_
          refine j_iconst hx hb dX3_sceneNow_46 ?_
          refine j_iald (n := 198) hx hb hV hH wM_0 (by omega) (by omega) dX3_sceneNow_47 ?_
          refine j_iconst hx hb dX3_sceneNow_48 ?_
          refine j_isub hx hb dX3_sceneNow_49 ?_
          refine j_icmp_ne (tgt := 55) hx hb dX3_sceneNow_50 (by decide) (by omega) (by omega) (fun c50 => ?_) (fun c50 => ?_)
          · refine j_iinc (k := 2) (lv' := fun x4 => [(2, .int (iI x4)), (1, .int (iI x3)), (0, .ref o)]) hx hb dX3_sceneNow_55 hl rfl (by decide) (fun _ => rfl) (fun x4 ex4 ls hl => ?_)
            refine lv_goto (tgt := 4) hx hb dX3_sceneNow_58 (by decide) ?_
            exact ih_4 x3 x4 (by omega) (by first | assumption | omega) (by first | assumption | omega) (by rw [ex4]; exact e3) (by rw [ex4]; omega) (by first | assumption | omega) _ _ hH ls (lv_sub hl [2, 1, 0] rfl)
          · refine lv_iload_n hx hb dX3_sceneNow_53 rfl (lv_at hl 2 rfl) ?_
            exact hret st hH dX3_sceneNow_54 (Nat.le_of_ble_eq_true rfl) (Nat.le_of_ble_eq_true rfl) (⟨nowO_of h1 (Or.inr ⟨i1, c11, i4, by first | exact Or.inl c50 | exact Or.inr (by omega)⟩), rfl⟩)
  exact L4 ((9 - x2).toNat + 1) x1 x2 (by omega) (by first | assumption | omega) (by first | assumption | omega) (by rw [ex1, ex2]; rfl) (by rw [ex2, begO_0]; omega) (by first | assumption | omega) _ _ hH ls (lv_sub hl [2, 1, 0] rfl)
theorem cw_X3_inside {R : Room} {s : State} {args : Array Value} {own : String} {index lev mc ms : Nat} (hts : ∀ w ∈ lw_all, w.before args s = true) (hl : Cond.methodLink own index yX3_inside ∈ lw_all) (hR1 : (rmL lev mc ms).frames + 1 ≤ R.frames) (hR2 : 8 + (4 + 11) + (rmL lev mc ms).locals ≤ R.locals) : CallW R s args own RX3 index yX3_inside cX3_inside 4 (some .int) (ws_ yX3_inside cX3_inside 4 (some .int)) (rmL lev mc ms) mc ms 1 :=
  cwV 1 hts (lw_V hl q2538 qs85 q116 q2539) rfl rfl rfl (by decide +kernel) ⟨hR1, hR2⟩
set_option maxHeartbeats 4000000 in
theorem m_X3_inside {E : jE} (l : Launch) (o : Nat) (st : Ms) (w0 : Wl) (T : Int) (n : Int) (h1 : PWF T (st 0)) (h2 : 0 ≤ n) (h3 : n < st 0 2) : Met l yX3_inside (ws_ yX3_inside cX3_inside 4 (some .int)) (rmL 2 0 0) (va_Pc [.ref o, .int (iI n)] (jP E (wM E o st w0))) (jQi E (fun u : Ms => wM E o u w0) (fun z u => z = chiO (st 0) n ∧ u = st)) 0 0 (jA E) := by
  refine j_metI (by decide) (Nat.le_of_ble_eq_true rfl) ?_
  intro p e s m args below meth c Q hx hb hml hown hnm hts hV hH hret ls hl
  have hl : lv_has ls 4 [(0, .ref o), (1, .int (iI n))] := hl
  have hA := h1.A
  refine j_iconst hx hb dX3_inside_0 ?_
  refine j_istore_n (lv' := fun x1 => [(2, .int (iI x1)), (0, .ref o), (1, .int (iI n))]) hx hb dX3_inside_1 rfl hl (by decide) (fun _ => rfl) (fun x1 ex1 ls hl => ?_)
  refine j_iconst hx hb dX3_inside_2 ?_
  refine j_istore_n (lv' := fun x2 => [(3, .int (iI x2)), (2, .int (iI x1)), (0, .ref o), (1, .int (iI n))]) hx hb dX3_inside_3 rfl hl (by decide) (fun _ => rfl) (fun x2 ex2 ls hl => ?_)
  have L4 : ∀ (n_ : Nat), ∀ (acc : Int) (it : Int) (hm_ : st 0 2 - it < (n_ : Int)) (i1 : 0 ≤ it) (i2 : it ≤ st 0 2) (i3 : acc = chiF (st 0) n it.toNat) (H : Heap) (locs : List Loc), jH E s.heap (wM E o st w0) H locs → ∀ ls : Array Slot, lv_has ls 4 [(0, .ref o), (1, .int (iI n)), (2, .int (iI acc)), (3, .int (iI it))] → W p l e (rmL 2 0 0) s m args below meth c H locs 0 0 Q (F0 m 4 ls []) := by
    intro n_
    induction n_ with
    | zero =>
      intro acc it hm_ i1 i2 i3 H locs hH ls hl
      exact absurd hm_ (by omega)
    | succ n_ ih_4 =>
      intro acc it hm_ i1 i2 i3 H locs hH ls hl
      refine lv_iload_n hx hb dX3_inside_4 rfl (lv_at hl 3 rfl) ?_
      refine lv_aload_n hx hb dX3_inside_5 rfl (lv_at hl 0 rfl) ?_
      refine j_get hx hb hts hown hV hH wM_o rfl in_X3 0 (Nat.le_of_ble_eq_true rfl) q2229 (fun _ h => h) rfl dX3_inside_6 ?_
      refine j_iconst hx hb dX3_inside_9 ?_
      refine j_iald (n := 198) hx hb hV hH wM_0 (by omega) (by omega) dX3_inside_10 ?_
      refine j_icmp_ge (tgt := 38) hx hb dX3_inside_11 (by decide) (by omega) (by omega) (fun c11 => ?_) (fun c11 => ?_)
      · refine lv_iload_n hx hb dX3_inside_38 rfl (lv_at hl 2 rfl) ?_
        exact hret st hH dX3_inside_39 (Nat.le_of_ble_eq_true rfl) (Nat.le_of_ble_eq_true rfl) (⟨by rw [i3]; unfold chiO; rw [show it.toNat = (st 0 2).toNat by omega], rfl⟩)
      · have hN := h1.N i1 c11
        refine lv_iload_n hx hb dX3_inside_14 rfl (lv_at hl 2 rfl) ?_
        refine lv_aload_n hx hb dX3_inside_15 rfl (lv_at hl 0 rfl) ?_
        refine lv_iload_n hx hb dX3_inside_16 rfl (lv_at hl 3 rfl) ?_
        refine j_iconst hx hb dX3_inside_17 ?_
        refine j_callif (va_runV (As := [.int (iI it), .int (iI 0)]) (rest := [.int (iI acc)]) ⟨hx, hb, hml, hown, hts⟩ (m_X3_of l o st w0 it 0 (by omega)) (cw_X3_of hts q2343 (Nat.le_of_ble_eq_true rfl) (Nat.le_of_ble_eq_true rfl)) (j_preV hV hH wM_o rfl) rfl rfl hl.1 rfl (lv_room (Nat.le_of_ble_eq_true rfl)) dX3_inside_18 ⟨Nat.le_of_ble_eq_true rfl, Nat.le_of_ble_eq_true rfl⟩) hH (fun H locs hH => ?_)
        refine lv_iload_n hx hb dX3_inside_21 rfl (lv_at hl 1 rfl) ?_
        refine j_icmp_ne (tgt := 29) hx hb dX3_inside_22 (by decide) (by omega) (by omega) (fun c22 => ?_) (fun c22 => ?_)
        · refine j_iconst hx hb dX3_inside_29 ?_
          refine j_iadd hx hb dX3_inside_30 ?_
          refine j_istore_n (lv' := fun x3 => [(2, .int (iI x3)), (0, .ref o), (1, .int (iI n)), (3, .int (iI it))]) hx hb dX3_inside_31 rfl hl (by decide) (fun _ => rfl) (fun x3 ex3 ls hl => ?_)
          refine j_iinc (k := 3) (lv' := fun x4 => [(3, .int (iI x4)), (2, .int (iI x3)), (0, .ref o), (1, .int (iI n))]) hx hb dX3_inside_32 hl rfl (by decide) (fun _ => rfl) (fun x4 ex4 ls hl => ?_)
          refine lv_goto (tgt := 4) hx hb dX3_inside_35 (by decide) ?_
          exact ih_4 x3 x4 (by omega) (by first | assumption | omega) (by first | assumption | omega) (by rw [ex4, show (it + 1).toNat = it.toNat + 1 by omega, chiF, show ((it.toNat : Nat) : Int) = it by omega, ← i3]; first | rw [if_pos c22]; omega | rw [if_neg c22]; omega) _ _ hH ls (lv_sub hl [2, 3, 1, 0] rfl)
        · refine j_iconst hx hb dX3_inside_25 ?_
          refine lv_goto (tgt := 30) hx hb dX3_inside_26 (by decide) ?_
          refine j_iadd hx hb dX3_inside_30 ?_
          refine j_istore_n (lv' := fun x5 => [(2, .int (iI x5)), (0, .ref o), (1, .int (iI n)), (3, .int (iI it))]) hx hb dX3_inside_31 rfl hl (by decide) (fun _ => rfl) (fun x5 ex5 ls hl => ?_)
          refine j_iinc (k := 3) (lv' := fun x6 => [(3, .int (iI x6)), (2, .int (iI x5)), (0, .ref o), (1, .int (iI n))]) hx hb dX3_inside_32 hl rfl (by decide) (fun _ => rfl) (fun x6 ex6 ls hl => ?_)
          refine lv_goto (tgt := 4) hx hb dX3_inside_35 (by decide) ?_
          exact ih_4 x5 x6 (by omega) (by first | assumption | omega) (by first | assumption | omega) (by rw [ex6, show (it + 1).toNat = it.toNat + 1 by omega, chiF, show ((it.toNat : Nat) : Int) = it by omega, ← i3]; first | rw [if_pos c22]; omega | rw [if_neg c22]; omega) _ _ hH ls (lv_sub hl [2, 3, 1, 0] rfl)
  exact L4 ((st 0 2 - x2).toNat + 1) x1 x2 (by omega) (by first | assumption | omega) (by first | assumption | omega) (by rw [ex1, ex2]; rfl) _ _ hH ls (lv_sub hl [2, 3, 1, 0] rfl)
theorem cw_X3_sceneOf {R : Room} {s : State} {args : Array Value} {own : String} {index lev mc ms : Nat} (hts : ∀ w ∈ lw_all, w.before args s = true) (hl : Cond.methodLink own index yX3_sceneOf ∈ lw_all) (hR1 : (rmL lev mc ms).frames + 1 ≤ R.frames) (hR2 : 8 + (5 + 11) + (rmL lev mc ms).locals ≤ R.locals) : CallW R s args own RX3 index yX3_sceneOf cX3_sceneOf 5 (some .int) (ws_ yX3_sceneOf cX3_sceneOf 5 (some .int)) (rmL lev mc ms) mc ms 2 :=
  cwV 2 hts (lw_V hl q2554 qs87 q116 q2555) rfl rfl rfl (by decide +kernel) ⟨hR1, hR2⟩
set_option maxHeartbeats 4000000 in
theorem m_X3_sceneOf {E : jE} (l : Launch) (o : Nat) (st : Ms) (w0 : Wl) (T : Int) (n : Int) (what : Int) (h1 : PWF T (st 0)) (h2 : 0 ≤ n) (h3 : n < st 0 3) (h4 : 0 ≤ what ∧ what ≤ 3) : Met l yX3_sceneOf (ws_ yX3_sceneOf cX3_sceneOf 5 (some .int)) (rmL 2 0 0) (va_Pc [.ref o, .int (iI n), .int (iI what)] (jP E (wM E o st w0))) (jQi E (fun u : Ms => wM E o u w0) (fun z u => z = scnV (st 0) n what ∧ u = st)) 0 0 (jA E) := by
  refine j_metI (by decide) (Nat.le_of_ble_eq_true rfl) ?_
  intro p e s m args below meth c Q hx hb hml hown hnm hts hV hH hret ls hl
  have hl : lv_has ls 5 [(0, .ref o), (1, .int (iI n)), (2, .int (iI what))] := hl
  have hA := h1.A
  refine j_iconst hx hb dX3_sceneOf_0 ?_
  refine j_istore_n (lv' := fun x1 => [(3, .int (iI x1)), (0, .ref o), (1, .int (iI n)), (2, .int (iI what))]) hx hb dX3_sceneOf_1 rfl hl (by decide) (fun _ => rfl) (fun x1 ex1 ls hl => ?_)
  refine j_iconst hx hb dX3_sceneOf_2 ?_
  refine j_istore (lv' := fun x2 => [(4, .int (iI x2)), (3, .int (iI x1)), (0, .ref o), (1, .int (iI n)), (2, .int (iI what))]) hx hb dX3_sceneOf_3 hl (by decide) (fun _ => rfl) (fun x2 ex2 ls hl => ?_)
  have L5 : ∀ (n_ : Nat), ∀ (acc : Int) (it : Int) (hm_ : n - it < (n_ : Int)) (i1 : 0 ≤ it) (i2 : it ≤ n) (i3 : acc = begO (st 0) it) (H : Heap) (locs : List Loc), jH E s.heap (wM E o st w0) H locs → ∀ ls : Array Slot, lv_has ls 5 [(0, .ref o), (1, .int (iI n)), (2, .int (iI what)), (3, .int (iI acc)), (4, .int (iI it))] → W p l e (rmL 2 0 0) s m args below meth c H locs 0 0 Q (F0 m 5 ls []) := by
    intro n_
    induction n_ with
    | zero =>
      intro acc it hm_ i1 i2 i3 H locs hH ls hl
      exact absurd hm_ (by omega)
    | succ n_ ih_5 =>
      intro acc it hm_ i1 i2 i3 H locs hH ls hl
      refine lv_iload hx hb dX3_sceneOf_5 (lv_at hl 4 rfl) ?_
      refine lv_iload_n hx hb dX3_sceneOf_7 rfl (lv_at hl 1 rfl) ?_
      refine j_icmp_ge (tgt := 35) hx hb dX3_sceneOf_8 (by decide) (by omega) (by omega) (fun c8 => ?_) (fun c8 => ?_)
      · refine lv_iload_n hx hb dX3_sceneOf_35 rfl (lv_at hl 2 rfl) ?_
        refine j_iconst hx hb dX3_sceneOf_36 ?_
        refine j_icmp_ne (tgt := 44) hx hb dX3_sceneOf_37 (by decide) (by omega) (by omega) (fun c37 => ?_) (fun c37 => ?_)
        · refine lv_aload_n hx hb dX3_sceneOf_44 rfl (lv_at hl 0 rfl) ?_
          refine j_get hx hb hts hown hV hH wM_o rfl in_X3 0 (Nat.le_of_ble_eq_true rfl) q2229 (fun _ h => h) rfl dX3_sceneOf_45 ?_
          refine j_sipush hx hb dX3_sceneOf_48 (by decide) ?_
          refine j_iconst hx hb dX3_sceneOf_51 ?_
          refine lv_iload_n hx hb dX3_sceneOf_52 rfl (lv_at hl 1 rfl) ?_
          refine j_imul hx hb dX3_sceneOf_53 ?_
          refine j_iadd hx hb dX3_sceneOf_54 ?_
          refine lv_iload_n hx hb dX3_sceneOf_55 rfl (lv_at hl 2 rfl) ?_
          refine j_iadd hx hb dX3_sceneOf_56 ?_
          refine j_iald (n := 198) hx hb hV hH wM_0 (by omega) (by omega) dX3_sceneOf_57 ?_
          exact hret st hH dX3_sceneOf_58 (Nat.le_of_ble_eq_true rfl) (Nat.le_of_ble_eq_true rfl) (⟨by unfold scnV; first | (rw [if_pos c37, i3, show it = n by omega]; done) | (rw [if_neg c37]; rfl), rfl⟩)
        · refine lv_iload_n hx hb dX3_sceneOf_40 rfl (lv_at hl 3 rfl) ?_
          refine lv_goto (tgt := 58) hx hb dX3_sceneOf_41 (by decide) ?_
          exact hret st hH dX3_sceneOf_58 (Nat.le_of_ble_eq_true rfl) (Nat.le_of_ble_eq_true rfl) (⟨by unfold scnV; first | (rw [if_pos c37, i3, show it = n by omega]; done) | (rw [if_neg c37]; rfl), rfl⟩)
      · have hbs := begO_s (st 0) i1
        refine lv_iload_n hx hb dX3_sceneOf_11 rfl (lv_at hl 3 rfl) ?_
        refine lv_aload_n hx hb dX3_sceneOf_12 rfl (lv_at hl 0 rfl) ?_
        refine j_get hx hb hts hown hV hH wM_o rfl in_X3 0 (Nat.le_of_ble_eq_true rfl) q2229 (fun _ h => h) rfl dX3_sceneOf_13 ?_
        refine j_sipush hx hb dX3_sceneOf_16 (by decide) ?_
        refine j_iconst hx hb dX3_sceneOf_19 ?_
        refine lv_iload hx hb dX3_sceneOf_20 (lv_at hl 4 rfl) ?_
        refine j_imul hx hb dX3_sceneOf_22 ?_
        refine j_iadd hx hb dX3_sceneOf_23 ?_
        refine j_iconst hx hb dX3_sceneOf_24 ?_
        refine j_iadd hx hb dX3_sceneOf_25 ?_
        refine j_iald (n := 198) hx hb hV hH wM_0 (by omega) (by omega) dX3_sceneOf_26 ?_
        refine j_iadd hx hb dX3_sceneOf_27 ?_
        refine j_istore_n (lv' := fun x3 => [(3, .int (iI x3)), (0, .ref o), (1, .int (iI n)), (2, .int (iI what)), (4, .int (iI it))]) hx hb dX3_sceneOf_28 rfl hl (by decide) (fun _ => rfl) (fun x3 ex3 ls hl => ?_)
        have e3 : x3 = begO (st 0) (it + 1) := by rw [ex3, hbs, ← i3]; rfl
        refine j_iinc (k := 4) (lv' := fun x4 => [(4, .int (iI x4)), (3, .int (iI x3)), (0, .ref o), (1, .int (iI n)), (2, .int (iI what))]) hx hb dX3_sceneOf_29 hl rfl (by decide) (fun _ => rfl) (fun x4 ex4 ls hl => ?_)
        refine lv_goto (tgt := 5) hx hb dX3_sceneOf_32 (by decide) ?_
        exact ih_5 x3 x4 (by omega) (by first | assumption | omega) (by first | assumption | omega) (by rw [ex4]; exact e3) _ _ hH ls (lv_sub hl [2, 3, 4, 1, 0] rfl)
  exact L5 ((n - x2).toNat + 1) x1 x2 (by omega) (by first | assumption | omega) (by first | assumption | omega) (by rw [ex1, ex2]; rfl) _ _ hH ls (lv_sub hl [2, 3, 4, 1, 0] rfl)
theorem cw_X3_raw {R : Room} {s : State} {args : Array Value} {own : String} {index lev mc ms : Nat} (hts : ∀ w ∈ lw_all, w.before args s = true) (hl : Cond.methodLink own index yX3_raw ∈ lw_all) (hR1 : (rmL lev mc ms).frames + 1 ≤ R.frames) (hR2 : 8 + (2 + 11) + (rmL lev mc ms).locals ≤ R.locals) : CallW R s args own RX3 index yX3_raw cX3_raw 2 (some .int) (ws_ yX3_raw cX3_raw 2 (some .int)) (rmL lev mc ms) mc ms 1 :=
  cwV 1 hts (lw_V hl q2485 qs74 q116 q2486) rfl rfl rfl (by decide +kernel) ⟨hR1, hR2⟩
set_option maxHeartbeats 4000000 in
theorem m_X3_raw {E : jE} (l : Launch) (o : Nat) (st : Ms) (w0 : Wl) (T : Int) (n : Int) (h1 : PWF T (st 0)) (h2 : 0 ≤ n) (h3 : n < st 0 2) (h4 : st 10 n = sumO (st 0) n 3) : Met l yX3_raw (ws_ yX3_raw cX3_raw 2 (some .int)) (rmL 2 0 0) (va_Pc [.ref o, .int (iI n)] (jP E (wM E o st w0))) (jQi E (fun u : Ms => wM E o u w0) (fun z u => z = rawO (st 0) n ∧ u = st)) 0 0 (jA E) := by
  refine j_metI (by decide) (Nat.le_of_ble_eq_true rfl) ?_
  intro p e s m args below meth c Q hx hb hml hown hnm hts hV hH hret ls hl
  have hl : lv_has ls 2 [(0, .ref o), (1, .int (iI n))] := hl
  have hA := h1.A
  have hgz := gz_b h1 (n := n) (g := st 0 7) (Or.inr ⟨h2, h3⟩) h1.B.2.2.1
  refine lv_aload_n hx hb dX3_raw_0 rfl (lv_at hl 0 rfl) ?_
  refine j_get hx hb hts hown hV hH wM_o rfl in_X3 0 (Nat.le_of_ble_eq_true rfl) q2229 (fun _ h => h) rfl dX3_raw_1 ?_
  refine j_bipush hx hb dX3_raw_4 (by decide) ?_
  refine j_iald (n := 198) hx hb hV hH wM_0 (by omega) (by omega) dX3_raw_6 ?_
  refine lv_aload_n hx hb dX3_raw_7 rfl (lv_at hl 0 rfl) ?_
  refine j_get hx hb hts hown hV hH wM_o rfl in_X3 10 (Nat.le_of_ble_eq_true rfl) q2239 (fun _ h => h) rfl dX3_raw_8 ?_
  refine lv_iload_n hx hb dX3_raw_11 rfl (lv_at hl 1 rfl) ?_
  refine j_iald (n := 20) hx hb hV hH wM_10 (by omega) (by omega) dX3_raw_12 ?_
  refine j_top (b := sumO (st 0) n 3) (h4) ?_
  refine j_imul hx hb dX3_raw_13 ?_
  refine j_bipush hx hb dX3_raw_14 (by decide) ?_
  refine j_callip (va_runS (As := [.int (iI ((st 0 7) * (sumO (st 0) n 3))), .int (iI 100)]) (rest := []) ⟨hx, hb, hml, hown, hts⟩ (m_X3_floor l _ ((st 0 7) * (sumO (st 0) n 3)) 100 (by omega) (by omega)) (cw_X3_floor hts q2487 (Nat.le_of_ble_eq_true rfl) (Nat.le_of_ble_eq_true rfl)) (j_preS hV hH) rfl rfl hl.1 rfl (lv_room (Nat.le_of_ble_eq_true rfl)) dX3_raw_16 ⟨Nat.le_of_ble_eq_true rfl, Nat.le_of_ble_eq_true rfl⟩) hH (fun H locs hH => ?_)
  exact hret st hH dX3_raw_19 (Nat.le_of_ble_eq_true rfl) (Nat.le_of_ble_eq_true rfl) ⟨by first | rfl | omega, rfl⟩
theorem cw_X3_fits {R : Room} {s : State} {args : Array Value} {own : String} {index lev mc ms : Nat} (hts : ∀ w ∈ lw_all, w.before args s = true) (hl : Cond.methodLink own index yX3_fits ∈ lw_all) (hR1 : (rmL lev mc ms).frames + 1 ≤ R.frames) (hR2 : 8 + (6 + 11) + (rmL lev mc ms).locals ≤ R.locals) : CallW R s args own RX3 index yX3_fits cX3_fits 6 (some .boolean) (ws_ yX3_fits cX3_fits 6 (some .boolean)) (rmL lev mc ms) mc ms 3 :=
  cwV 3 hts (lw_V hl q2481 qs73 q116 q2482) rfl rfl rfl (by decide +kernel) ⟨hR1, hR2⟩
set_option maxHeartbeats 4000000 in
theorem m_X3_fits {E : jE} (l : Launch) (o : Nat) (st : Ms) (w0 : Wl) (T : Int) (g : Int) (lo : Int) (hi : Int) (h1 : PWF T (st 0)) (h2 : PLC st) (h3 : 0 ≤ g ∧ g ≤ 100) (h4 : -2147483648 ≤ lo ∧ lo ≤ 2147483647) (h5 : -2147483648 ≤ hi ∧ hi ≤ 2147483647) : Met l yX3_fits (ws_ yX3_fits cX3_fits 6 (some .boolean)) (rmL 3 0 0) (va_Pc [.ref o, .int (iI g), .int (iI lo), .int (iI hi)] (jP E (wM E o st w0))) (jQi E (fun u : Ms => wM E o u w0) (fun z u => z = bI (fitsG (st 0) (st 0 7) g lo hi) ∧ u = st)) 0 0 (jA E) := by
  refine j_metZ (by decide) (Nat.le_of_ble_eq_true rfl) ?_
  intro p e s m args below meth c Q hx hb hml hown hnm hts hV hH hret ls hl
  have hl : lv_has ls 6 [(0, .ref o), (1, .int (iI g)), (2, .int (iI lo)), (3, .int (iI hi))] := hl
  have hA := h1.A
  refine j_iconst hx hb dX3_fits_0 ?_
  refine j_istore (lv' := fun x1 => [(4, .int (iI x1)), (0, .ref o), (1, .int (iI g)), (2, .int (iI lo)), (3, .int (iI hi))]) hx hb dX3_fits_1 hl (by decide) (fun _ => rfl) (fun x1 ex1 ls hl => ?_)
  refine j_iconst hx hb dX3_fits_3 ?_
  refine j_istore (lv' := fun x2 => [(5, .int (iI x2)), (4, .int (iI x1)), (0, .ref o), (1, .int (iI g)), (2, .int (iI lo)), (3, .int (iI hi))]) hx hb dX3_fits_4 hl (by decide) (fun _ => rfl) (fun x2 ex2 ls hl => ?_)
  have L6 : ∀ (n_ : Nat), ∀ (is : Int) (it : Int) (hm_ : st 0 2 - it < (n_ : Int)) (i1 : is = bI (fitsT (st 0) (st 0 7) g lo hi it)) (i2 : 0 ≤ it) (i3 : it ≤ st 0 2) (H : Heap) (locs : List Loc), jH E s.heap (wM E o st w0) H locs → ∀ ls : Array Slot, lv_has ls 6 [(0, .ref o), (1, .int (iI g)), (2, .int (iI lo)), (3, .int (iI hi)), (4, .int (iI is)), (5, .int (iI it))] → W p l e (rmL 3 0 0) s m args below meth c H locs 0 0 Q (F0 m 6 ls []) := by
    intro n_
    induction n_ with
    | zero =>
      intro is it hm_ i1 i2 i3 H locs hH ls hl
      exact absurd hm_ (by omega)
    | succ n_ ih_6 =>
      intro is it hm_ i1 i2 i3 H locs hH ls hl
      have hib := bI_01 (fitsT (st 0) (st 0 7) g lo hi it)
      refine lv_iload hx hb dX3_fits_6 (lv_at hl 5 rfl) ?_
      refine lv_aload_n hx hb dX3_fits_8 rfl (lv_at hl 0 rfl) ?_
      refine j_get hx hb hts hown hV hH wM_o rfl in_X3 0 (Nat.le_of_ble_eq_true rfl) q2229 (fun _ h => h) rfl dX3_fits_9 ?_
      refine j_iconst hx hb dX3_fits_12 ?_
      refine j_iald (n := 198) hx hb hV hH wM_0 (by omega) (by omega) dX3_fits_13 ?_
      refine j_icmp_ge (tgt := 65) hx hb dX3_fits_14 (by decide) (by omega) (by omega) (fun c14 => ?_) (fun c14 => ?_)
      · refine lv_iload hx hb dX3_fits_65 (lv_at hl 4 rfl) ?_
        exact hret st hH dX3_fits_67 (Nat.le_of_ble_eq_true rfl) (Nat.le_of_ble_eq_true rfl) (by omega) (⟨by rw [i1, show it = st 0 2 by omega]; rfl, rfl⟩)
      · have hrq := rawOq_b h1 (n := it) (Or.inr ⟨i2, c14⟩) h3
        refine lv_iload hx hb dX3_fits_17 (lv_at hl 4 rfl) ?_
        refine j_if_eq (tgt := 56) hx hb dX3_fits_19 (by decide) (by omega) (fun c19 => ?_) (fun c19 => ?_)
        · refine j_iconst hx hb dX3_fits_56 ?_
          refine j_istore (lv' := fun x3 => [(4, .int (iI x3)), (0, .ref o), (1, .int (iI g)), (2, .int (iI lo)), (3, .int (iI hi)), (5, .int (iI it))]) hx hb dX3_fits_57 hl (by decide) (fun _ => rfl) (fun x3 ex3 ls hl => ?_)
          refine j_iinc (k := 5) (lv' := fun x4 => [(5, .int (iI x4)), (4, .int (iI x3)), (0, .ref o), (1, .int (iI g)), (2, .int (iI lo)), (3, .int (iI hi))]) hx hb dX3_fits_59 hl rfl (by decide) (fun _ => rfl) (fun x4 ex4 ls hl => ?_)
          refine lv_goto (tgt := 6) hx hb dX3_fits_62 (by decide) ?_
          exact ih_6 x3 x4 (by omega) (by rw [ex3, ex4]; first | exact (bI_f (fun h => bI_no i1 c19 ((fitsT_s i2).mp h).1)).symm | exact (bI_t ((fitsT_s i2).mpr ⟨bI_yes i1 c19, fun q => absurd q c28⟩)).symm | exact (bI_t ((fitsT_s i2).mpr ⟨bI_yes i1 c19, fun _ => c49⟩)).symm | exact (bI_f (fun h => c49 (((fitsT_s i2).mp h).2 c28))).symm) (by first | assumption | omega) (by first | assumption | omega) _ _ hH ls (lv_sub hl [2, 3, 4, 5, 1, 0] rfl)
        · refine lv_aload_n hx hb dX3_fits_22 rfl (lv_at hl 0 rfl) ?_
          refine lv_iload hx hb dX3_fits_23 (lv_at hl 5 rfl) ?_
          refine j_callif (va_runV (As := [.int (iI it)]) (rest := []) ⟨hx, hb, hml, hown, hts⟩ (m_X3_isBox l o st w0 _ it (h1) (by omega) (by omega)) (cw_X3_isBox hts q2339 (Nat.le_of_ble_eq_true rfl) (Nat.le_of_ble_eq_true rfl)) (j_preV hV hH wM_o rfl) rfl rfl hl.1 rfl (lv_room (Nat.le_of_ble_eq_true rfl)) dX3_fits_25 ⟨Nat.le_of_ble_eq_true rfl, Nat.le_of_ble_eq_true rfl⟩) hH (fun H locs hH => ?_)
          refine j_ifeq_b (tgt := 52) hx hb dX3_fits_28 (by decide) (fun c28 => ?_) (fun c28 => ?_)
          · refine j_iconst hx hb dX3_fits_52 ?_
            refine lv_goto (tgt := 57) hx hb dX3_fits_53 (by decide) ?_
            refine j_istore (lv' := fun x5 => [(4, .int (iI x5)), (0, .ref o), (1, .int (iI g)), (2, .int (iI lo)), (3, .int (iI hi)), (5, .int (iI it))]) hx hb dX3_fits_57 hl (by decide) (fun _ => rfl) (fun x5 ex5 ls hl => ?_)
            refine j_iinc (k := 5) (lv' := fun x6 => [(5, .int (iI x6)), (4, .int (iI x5)), (0, .ref o), (1, .int (iI g)), (2, .int (iI lo)), (3, .int (iI hi))]) hx hb dX3_fits_59 hl rfl (by decide) (fun _ => rfl) (fun x6 ex6 ls hl => ?_)
            refine lv_goto (tgt := 6) hx hb dX3_fits_62 (by decide) ?_
            exact ih_6 x5 x6 (by omega) (by rw [ex5, ex6]; first | exact (bI_f (fun h => bI_no i1 c19 ((fitsT_s i2).mp h).1)).symm | exact (bI_t ((fitsT_s i2).mpr ⟨bI_yes i1 c19, fun q => absurd q c28⟩)).symm | exact (bI_t ((fitsT_s i2).mpr ⟨bI_yes i1 c19, fun _ => c49⟩)).symm | exact (bI_f (fun h => c49 (((fitsT_s i2).mp h).2 c28))).symm) (by first | assumption | omega) (by first | assumption | omega) _ _ hH ls (lv_sub hl [2, 3, 4, 5, 1, 0] rfl)
          · refine lv_aload_n hx hb dX3_fits_31 rfl (lv_at hl 0 rfl) ?_
            refine lv_iload hx hb dX3_fits_32 (lv_at hl 5 rfl) ?_
            refine j_callif (va_runV (As := [.int (iI it)]) (rest := []) ⟨hx, hb, hml, hown, hts⟩ (m_X3_raw l o st w0 _ it (h1) (by omega) (by omega) ((h2 it i2 c14).2.2)) (cw_X3_raw hts q2483 (Nat.le_of_ble_eq_true rfl) (Nat.le_of_ble_eq_true rfl)) (j_preV hV hH wM_o rfl) rfl rfl hl.1 rfl (lv_room (Nat.le_of_ble_eq_true rfl)) dX3_fits_34 ⟨Nat.le_of_ble_eq_true rfl, Nat.le_of_ble_eq_true rfl⟩) hH (fun H locs hH => ?_)
            refine lv_iload_n hx hb dX3_fits_37 rfl (lv_at hl 1 rfl) ?_
            refine j_imul hx hb dX3_fits_38 ?_
            refine j_bipush hx hb dX3_fits_39 (by decide) ?_
            refine j_callip (va_runS (As := [.int (iI ((rawO (st 0) it) * g)), .int (iI 100)]) (rest := []) ⟨hx, hb, hml, hown, hts⟩ (m_X3_floor l _ ((rawO (st 0) it) * g) 100 (by omega) (by omega)) (cw_X3_floor hts q2487 (Nat.le_of_ble_eq_true rfl) (Nat.le_of_ble_eq_true rfl)) (j_preS hV hH) rfl rfl hl.1 rfl (lv_room (Nat.le_of_ble_eq_true rfl)) dX3_fits_41 ⟨Nat.le_of_ble_eq_true rfl, Nat.le_of_ble_eq_true rfl⟩) hH (fun H locs hH => ?_)
            refine lv_iload_n hx hb dX3_fits_44 rfl (lv_at hl 2 rfl) ?_
            refine lv_iload_n hx hb dX3_fits_45 rfl (lv_at hl 3 rfl) ?_
            refine j_callip (va_runS (As := [.int (iI (((rawO (st 0) it) * g) / 100)), .int (iI lo), .int (iI hi)]) (rest := []) ⟨hx, hb, hml, hown, hts⟩ (m_X3_in l _ (((rawO (st 0) it) * g) / 100) lo hi (by omega) (by omega) (by omega)) (cw_X3_in hts q2313 (Nat.le_of_ble_eq_true rfl) (Nat.le_of_ble_eq_true rfl)) (j_preS hV hH) rfl rfl hl.1 rfl (lv_room (Nat.le_of_ble_eq_true rfl)) dX3_fits_46 ⟨Nat.le_of_ble_eq_true rfl, Nat.le_of_ble_eq_true rfl⟩) hH (fun H locs hH => ?_)
            refine j_ifeq_b (tgt := 56) hx hb dX3_fits_49 (by decide) (fun c49 => ?_) (fun c49 => ?_)
            · refine j_iconst hx hb dX3_fits_56 ?_
              refine j_istore (lv' := fun x7 => [(4, .int (iI x7)), (0, .ref o), (1, .int (iI g)), (2, .int (iI lo)), (3, .int (iI hi)), (5, .int (iI it))]) hx hb dX3_fits_57 hl (by decide) (fun _ => rfl) (fun x7 ex7 ls hl => ?_)
              refine j_iinc (k := 5) (lv' := fun x8 => [(5, .int (iI x8)), (4, .int (iI x7)), (0, .ref o), (1, .int (iI g)), (2, .int (iI lo)), (3, .int (iI hi))]) hx hb dX3_fits_59 hl rfl (by decide) (fun _ => rfl) (fun x8 ex8 ls hl => ?_)
              refine lv_goto (tgt := 6) hx hb dX3_fits_62 (by decide) ?_
              exact ih_6 x7 x8 (by omega) (by rw [ex7, ex8]; first | exact (bI_f (fun h => bI_no i1 c19 ((fitsT_s i2).mp h).1)).symm | exact (bI_t ((fitsT_s i2).mpr ⟨bI_yes i1 c19, fun q => absurd q c28⟩)).symm | exact (bI_t ((fitsT_s i2).mpr ⟨bI_yes i1 c19, fun _ => c49⟩)).symm | exact (bI_f (fun h => c49 (((fitsT_s i2).mp h).2 c28))).symm) (by first | assumption | omega) (by first | assumption | omega) _ _ hH ls (lv_sub hl [2, 3, 4, 5, 1, 0] rfl)
            · refine j_iconst hx hb dX3_fits_52 ?_
              refine lv_goto (tgt := 57) hx hb dX3_fits_53 (by decide) ?_
              refine j_istore (lv' := fun x9 => [(4, .int (iI x9)), (0, .ref o), (1, .int (iI g)), (2, .int (iI lo)), (3, .int (iI hi)), (5, .int (iI it))]) hx hb dX3_fits_57 hl (by decide) (fun _ => rfl) (fun x9 ex9 ls hl => ?_)
              refine j_iinc (k := 5) (lv' := fun x10 => [(5, .int (iI x10)), (4, .int (iI x9)), (0, .ref o), (1, .int (iI g)), (2, .int (iI lo)), (3, .int (iI hi))]) hx hb dX3_fits_59 hl rfl (by decide) (fun _ => rfl) (fun x10 ex10 ls hl => ?_)
              refine lv_goto (tgt := 6) hx hb dX3_fits_62 (by decide) ?_
              exact ih_6 x9 x10 (by omega) (by rw [ex9, ex10]; first | exact (bI_f (fun h => bI_no i1 c19 ((fitsT_s i2).mp h).1)).symm | exact (bI_t ((fitsT_s i2).mpr ⟨bI_yes i1 c19, fun q => absurd q c28⟩)).symm | exact (bI_t ((fitsT_s i2).mpr ⟨bI_yes i1 c19, fun _ => c49⟩)).symm | exact (bI_f (fun h => c49 (((fitsT_s i2).mp h).2 c28))).symm) (by first | assumption | omega) (by first | assumption | omega) _ _ hH ls (lv_sub hl [2, 3, 4, 5, 1, 0] rfl)
  exact L6 ((st 0 2 - x2).toNat + 1) x1 x2 (by omega) (by rw [ex1, ex2]; exact (bI_t fitsT_0).symm) (by first | assumption | omega) (by first | assumption | omega) _ _ hH ls (lv_sub hl [2, 3, 4, 5, 1, 0] rfl)
theorem cw_X3_percentageBy {R : Room} {s : State} {args : Array Value} {own : String} {index lev mc ms : Nat} (hts : ∀ w ∈ lw_all, w.before args s = true) (hl : Cond.methodLink own index yX3_percentageBy ∈ lw_all) (hR1 : (rmL lev mc ms).frames + 1 ≤ R.frames) (hR2 : 8 + (4 + 11) + (rmL lev mc ms).locals ≤ R.locals) : CallW R s args own RX3 index yX3_percentageBy cX3_percentageBy 4 (some .int) (ws_ yX3_percentageBy cX3_percentageBy 4 (some .int)) (rmL lev mc ms) mc ms 2 :=
  cwV 2 hts (lw_V hl q2477 qs72 q116 q2478) rfl rfl rfl (by decide +kernel) ⟨hR1, hR2⟩
set_option maxHeartbeats 4000000 in
theorem m_X3_percentageBy {E : jE} (l : Launch) (o : Nat) (st : Ms) (w0 : Wl) (T : Int) (lo : Int) (hi : Int) (h1 : PWF T (st 0)) (h2 : PLC st) (h3 : -1000 ≤ lo ∧ lo ≤ 0) (h4 : 0 ≤ hi ∧ hi ≤ 1000) : Met l yX3_percentageBy (ws_ yX3_percentageBy cX3_percentageBy 4 (some .int)) (rmL 4 0 0) (va_Pc [.ref o, .int (iI lo), .int (iI hi)] (jP E (wM E o st w0))) (jQi E (fun u : Ms => wM E o u w0) (fun z u => z = pctO (st 0) lo hi ∧ u = st)) 0 0 (jA E) := by
  refine j_metI (by decide) (Nat.le_of_ble_eq_true rfl) ?_
  intro p e s m args below meth c Q hx hb hml hown hnm hts hV hH hret ls hl
  have hl : lv_has ls 4 [(0, .ref o), (1, .int (iI lo)), (2, .int (iI hi))] := hl
  have hA := h1.A
  refine j_bipush hx hb dX3_percentageBy_0 (by decide) ?_
  refine j_istore_n (lv' := fun x1 => [(3, .int (iI x1)), (0, .ref o), (1, .int (iI lo)), (2, .int (iI hi))]) hx hb dX3_percentageBy_2 rfl hl (by decide) (fun _ => rfl) (fun x1 ex1 ls hl => ?_)
  have L3 : ∀ (n_ : Nat), ∀ (g : Int) (hm_ : g < (n_ : Int)) (i1 : 0 ≤ g ∧ g ≤ 100) (i2 : pctO (st 0) lo hi = dnF (fun q => fitsG (st 0) (st 0 7) q lo hi) g.toNat g) (H : Heap) (locs : List Loc), jH E s.heap (wM E o st w0) H locs → ∀ ls : Array Slot, lv_has ls 4 [(0, .ref o), (1, .int (iI lo)), (2, .int (iI hi)), (3, .int (iI g))] → W p l e (rmL 4 0 0) s m args below meth c H locs 0 0 Q (F0 m 3 ls []) := by
    intro n_
    induction n_ with
    | zero =>
      intro g hm_ i1 i2 H locs hH ls hl
      exact absurd hm_ (by omega)
    | succ n_ ih_3 =>
      intro g hm_ i1 i2 H locs hH ls hl
      refine lv_aload_n hx hb dX3_percentageBy_3 rfl (lv_at hl 0 rfl) ?_
      refine lv_iload_n hx hb dX3_percentageBy_4 rfl (lv_at hl 3 rfl) ?_
      refine lv_iload_n hx hb dX3_percentageBy_5 rfl (lv_at hl 1 rfl) ?_
      refine lv_iload_n hx hb dX3_percentageBy_6 rfl (lv_at hl 2 rfl) ?_
      refine j_callif (va_runV (As := [.int (iI g), .int (iI lo), .int (iI hi)]) (rest := []) ⟨hx, hb, hml, hown, hts⟩ (m_X3_fits l o st w0 _ g lo hi (h1) (h2) (i1) (by omega) (by omega)) (cw_X3_fits hts q2479 (Nat.le_of_ble_eq_true rfl) (Nat.le_of_ble_eq_true rfl)) (j_preV hV hH wM_o rfl) rfl rfl hl.1 rfl (lv_room (Nat.le_of_ble_eq_true rfl)) dX3_percentageBy_7 ⟨Nat.le_of_ble_eq_true rfl, Nat.le_of_ble_eq_true rfl⟩) hH (fun H locs hH => ?_)
      refine j_ifne_b (tgt := 19) hx hb dX3_percentageBy_10 (by decide) (fun c10 => ?_) (fun c10 => ?_)
      · refine lv_iload_n hx hb dX3_percentageBy_19 rfl (lv_at hl 3 rfl) ?_
        exact hret st hH dX3_percentageBy_20 (Nat.le_of_ble_eq_true rfl) (Nat.le_of_ble_eq_true rfl) (⟨by rw [i2]; exact (dnF_t (p := fun q => fitsG (st 0) (st 0 7) q lo hi) c10 _).symm, rfl⟩)
      · have hg0 : g ≠ 0 := fun h => c10 (h ▸ fitsG_q0 h3.2 h4.1)
        refine j_iinc (k := 3) (lv' := fun x2 => [(3, .int (iI x2)), (0, .ref o), (1, .int (iI lo)), (2, .int (iI hi))]) hx hb dX3_percentageBy_13 hl rfl (by decide) (fun _ => rfl) (fun x2 ex2 ls hl => ?_)
        refine lv_goto (tgt := 3) hx hb dX3_percentageBy_16 (by decide) ?_
        exact ih_3 x2 (by omega) (by omega) (by rw [ex2, i2, show g.toNat = (g + -1).toNat + 1 by omega]; exact dnF_f (p := fun q => fitsG (st 0) (st 0 7) q lo hi) c10 _) _ _ hH ls (lv_sub hl [1, 2, 3, 0] rfl)
  exact L3 ((x1).toNat + 1) x1 (by omega) (by omega) (by rw [ex1]; rfl) _ _ hH ls (lv_sub hl [1, 2, 3, 0] rfl)
theorem cw_X3_places {R : Room} {s : State} {args : Array Value} {own : String} {index lev mc ms : Nat} (hts : ∀ w ∈ lw_all, w.before args s = true) (hl : Cond.methodLink own index yX3_places ∈ lw_all) (hR1 : (rmL lev mc ms).frames + 1 ≤ R.frames) (hR2 : 8 + (2 + 11) + (rmL lev mc ms).locals ≤ R.locals) : CallW R s args own RX3 index yX3_places cX3_places 2 none (ws_ yX3_places cX3_places 2 none) (rmL lev mc ms) mc ms 0 :=
  cwV 0 hts (lw_V hl q2469 qs70 q116 q2470) rfl rfl rfl (by decide +kernel) ⟨hR1, hR2⟩
set_option maxHeartbeats 4000000 in
theorem m_X3_places {E : jE} (l : Launch) (o : Nat) (st : Ms) (w0 : Wl) (T : Int) (h1 : PWF T (st 0)) : Met l yX3_places (ws_ yX3_places cX3_places 2 none) (rmL 3 0 0) (va_Pc [.ref o] (jP E (wM E o st w0))) (jQv E (fun u : Ms => wM E o u w0) (fun u => u = plO st (st 0 2))) 0 0 (jA E) := by
  refine j_metV (by decide) (Nat.le_of_ble_eq_true rfl) ?_
  intro p e s m args below meth c Q hx hb hml hown hnm hts hV hH hret ls hl
  have hl : lv_has ls 2 [(0, .ref o)] := hl
  have hA := h1.A
  refine j_iconst hx hb dX3_places_0 ?_
  refine j_istore_n (lv' := fun x1 => [(1, .int (iI x1)), (0, .ref o)]) hx hb dX3_places_1 rfl hl (by decide) (fun _ => rfl) (fun x1 ex1 ls hl => ?_)
  have L2 : ∀ (n_ : Nat), ∀ (it : Int) (hm_ : st 0 2 - it < (n_ : Int)) (i1 : 0 ≤ it) (i2 : it ≤ st 0 2) (H : Heap) (locs : List Loc), jH E s.heap (wM E o (plO st it) w0) H locs → ∀ ls : Array Slot, lv_has ls 2 [(0, .ref o), (1, .int (iI it))] → W p l e (rmL 3 0 0) s m args below meth c H locs 0 0 Q (F0 m 2 ls []) := by
    intro n_
    induction n_ with
    | zero =>
      intro it hm_ i1 i2 H locs hH ls hl
      exact absurd hm_ (by omega)
    | succ n_ ih_2 =>
      intro it hm_ i1 i2 H locs hH ls hl
      refine lv_iload_n hx hb dX3_places_2 rfl (lv_at hl 1 rfl) ?_
      refine lv_aload_n hx hb dX3_places_3 rfl (lv_at hl 0 rfl) ?_
      refine j_get hx hb hts hown hV hH wM_o rfl in_X3 0 (Nat.le_of_ble_eq_true rfl) q2229 (fun _ h => h) rfl dX3_places_4 ?_
      refine j_iconst hx hb dX3_places_7 ?_
      refine j_iald (n := 198) hx hb hV hH wM_0 (by omega) (by omega) dX3_places_8 ?_
      refine j_top (b := st 0 2) (rfl) ?_
      refine j_icmp_ge (tgt := 54) hx hb dX3_places_9 (by decide) (by omega) (by omega) (fun c9 => ?_) (fun c9 => ?_)
      · exact hret (plO st it) hH dX3_places_54 (Nat.le_of_ble_eq_true rfl) (Nat.le_of_ble_eq_true rfl) ((by rw [show it = st 0 2 by omega]))
      · refine lv_aload_n hx hb dX3_places_12 rfl (lv_at hl 0 rfl) ?_
        refine j_get hx hb hts hown hV hH wM_o rfl in_X3 8 (Nat.le_of_ble_eq_true rfl) q2237 (fun _ h => h) rfl dX3_places_13 ?_
        refine lv_iload_n hx hb dX3_places_16 rfl (lv_at hl 1 rfl) ?_
        refine lv_aload_n hx hb dX3_places_17 rfl (lv_at hl 0 rfl) ?_
        refine lv_iload_n hx hb dX3_places_18 rfl (lv_at hl 1 rfl) ?_
        refine j_iconst hx hb dX3_places_19 ?_
        refine j_callif (va_runV (As := [.int (iI it), .int (iI 1)]) (rest := [.int (iI it), .ref (o + 6)]) ⟨hx, hb, hml, hown, hts⟩ (m_X3_sumOf l o (plO st it) w0 _ it 1 (h1) (i1) (c9) (by decide)) (cw_X3_sumOf hts q2471 (Nat.le_of_ble_eq_true rfl) (Nat.le_of_ble_eq_true rfl)) (j_preV hV hH wM_o rfl) rfl rfl hl.1 rfl (lv_room (Nat.le_of_ble_eq_true rfl)) dX3_places_20 ⟨Nat.le_of_ble_eq_true rfl, Nat.le_of_ble_eq_true rfl⟩) hH (fun H locs hH => ?_)
        refine j_top (b := sumO (st 0) it 1) rfl ?_
        refine j_iast (n := 20) hx hb hV hH wM_8 (by omega) (by omega) dX3_places_23 (fun H locs hH => ?_)
        rw [wM_s8] at hH
        refine lv_aload_n hx hb dX3_places_24 rfl (lv_at hl 0 rfl) ?_
        refine j_get hx hb hts hown hV hH wM_o rfl in_X3 9 (Nat.le_of_ble_eq_true rfl) q2238 (fun _ h => h) rfl dX3_places_25 ?_
        refine lv_iload_n hx hb dX3_places_28 rfl (lv_at hl 1 rfl) ?_
        refine lv_aload_n hx hb dX3_places_29 rfl (lv_at hl 0 rfl) ?_
        refine lv_iload_n hx hb dX3_places_30 rfl (lv_at hl 1 rfl) ?_
        refine j_iconst hx hb dX3_places_31 ?_
        refine j_callif (va_runV (As := [.int (iI it), .int (iI 2)]) (rest := [.int (iI it), .ref (o + 7)]) ⟨hx, hb, hml, hown, hts⟩ (m_X3_sumOf l o (su (plO st it) 8 it (sumO (st 0) it 1)) w0 _ it 2 (h1) (i1) (c9) (by decide)) (cw_X3_sumOf hts q2471 (Nat.le_of_ble_eq_true rfl) (Nat.le_of_ble_eq_true rfl)) (j_preV hV hH wM_o rfl) rfl rfl hl.1 rfl (lv_room (Nat.le_of_ble_eq_true rfl)) dX3_places_32 ⟨Nat.le_of_ble_eq_true rfl, Nat.le_of_ble_eq_true rfl⟩) hH (fun H locs hH => ?_)
        refine j_top (b := sumO (st 0) it 2) rfl ?_
        refine j_iast (n := 20) hx hb hV hH wM_9 (by omega) (by omega) dX3_places_35 (fun H locs hH => ?_)
        rw [wM_s9] at hH
        refine lv_aload_n hx hb dX3_places_36 rfl (lv_at hl 0 rfl) ?_
        refine j_get hx hb hts hown hV hH wM_o rfl in_X3 10 (Nat.le_of_ble_eq_true rfl) q2239 (fun _ h => h) rfl dX3_places_37 ?_
        refine lv_iload_n hx hb dX3_places_40 rfl (lv_at hl 1 rfl) ?_
        refine lv_aload_n hx hb dX3_places_41 rfl (lv_at hl 0 rfl) ?_
        refine lv_iload_n hx hb dX3_places_42 rfl (lv_at hl 1 rfl) ?_
        refine j_iconst hx hb dX3_places_43 ?_
        refine j_callif (va_runV (As := [.int (iI it), .int (iI 3)]) (rest := [.int (iI it), .ref (o + 8)]) ⟨hx, hb, hml, hown, hts⟩ (m_X3_sumOf l o (su (su (plO st it) 8 it (sumO (st 0) it 1)) 9 it (sumO (st 0) it 2)) w0 _ it 3 (h1) (i1) (c9) (by decide)) (cw_X3_sumOf hts q2471 (Nat.le_of_ble_eq_true rfl) (Nat.le_of_ble_eq_true rfl)) (j_preV hV hH wM_o rfl) rfl rfl hl.1 rfl (lv_room (Nat.le_of_ble_eq_true rfl)) dX3_places_44 ⟨Nat.le_of_ble_eq_true rfl, Nat.le_of_ble_eq_true rfl⟩) hH (fun H locs hH => ?_)
        refine j_top (b := sumO (st 0) it 3) rfl ?_
        refine j_iast (n := 20) hx hb hV hH wM_10 (by omega) (by omega) dX3_places_47 (fun H locs hH => ?_)
        rw [wM_s10] at hH
        refine j_iinc (k := 1) (lv' := fun x2 => [(1, .int (iI x2)), (0, .ref o)]) hx hb dX3_places_48 hl rfl (by decide) (fun _ => rfl) (fun x2 ex2 ls hl => ?_)
        refine lv_goto (tgt := 2) hx hb dX3_places_51 (by decide) ?_
        rw [plO_s st i1, ← ex2] at hH
        exact ih_2 x2 (by omega) (by first | assumption | omega) (by first | assumption | omega) _ _ hH ls (lv_sub hl [1, 0] rfl)
  rw [← plO_0 st, ← ex1] at hH
  exact L2 ((st 0 2 - x1).toNat + 1) x1 (by omega) (by first | assumption | omega) (by first | assumption | omega) _ _ hH ls (lv_sub hl [1, 0] rfl)
