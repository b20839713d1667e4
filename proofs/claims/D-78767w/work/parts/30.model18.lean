/-! THE REFERENCE's METHODS: the mean of a row's ghosts -/
set_option maxRecDepth 100000
/-- the mean of the ghosts of a row -/
noncomputable def menO (P : Int → Int) (row : Int) : UInt64 := FP.ddiv (FP.i2d (iI (gsmO P row))) (FP.i2d (iI (P 0)))
theorem cw_X3_meanGhost {R : Room} {s : State} {args : Array Value} {own : String} {index lev mc ms : Nat} (hts : ∀ w ∈ lw_all, w.before args s = true) (hl : Cond.methodLink own index yX3_meanGhost ∈ lw_all) (hR1 : (rmL lev mc ms).frames + 1 ≤ R.frames) (hR2 : 8 + (4 + 11) + (rmL lev mc ms).locals ≤ R.locals) : CallW R s args own RX3 index yX3_meanGhost cX3_meanGhost 4 (some .double) (ws_ yX3_meanGhost cX3_meanGhost 4 (some .double)) (rmL lev mc ms) mc ms 1 :=
  cwV 1 hts (lw_V hl q2613 q2614 q116 q2615) rfl rfl rfl (by decide +kernel) ⟨hR1, hR2⟩
set_option maxHeartbeats 4000000 in
theorem m_X3_meanGhost {E : jE} (l : Launch) (o : Nat) (st : Ms) (w0 : Wl) (T : Int) (row : Int) (h1 : PWF T (st 0)) (h2 : -2147483648 ≤ row ∧ row ≤ 2147483647) : Met l yX3_meanGhost (ws_ yX3_meanGhost cX3_meanGhost 4 (some .double)) (rmL 8 0 0) (va_Pc [.ref o, .int (iI row)] (jP E (wM E o st w0))) (jQd E (fun u : Ms => wM E o (svO (su st 6 0 (cdB 0 (st 0 1 - 1) row)) u) w0) (fun z u => z = if cdB 0 (st 0 1 - 1) row = 0 then menO (st 0) row else 0)) 0 0 (jA E) := by
  refine j_metD (by decide) (Nat.le_of_ble_eq_true rfl) ?_
  intro p e s m args below meth c Q hx hb hml hown hnm hts hV hH hret ls hl
  have hl : lv_has ls 4 [(0, .ref o), (1, .int (iI row))] := hl
  have hA := h1.A
  have hcd := cdB_or 0 (st 0 1 - 1) row
  refine lv_aload_n hx hb dX3_meanGhost_0 rfl (lv_at hl 0 rfl) ?_
  refine lv_iload_n hx hb dX3_meanGhost_1 rfl (lv_at hl 1 rfl) ?_
  refine j_iconst hx hb dX3_meanGhost_2 ?_
  refine lv_aload_n hx hb dX3_meanGhost_3 rfl (lv_at hl 0 rfl) ?_
  refine j_get hx hb hts hown hV hH wM_o rfl in_X3 0 (Nat.le_of_ble_eq_true rfl) q2229 (fun _ h => h) rfl dX3_meanGhost_4 ?_
  refine j_iconst hx hb dX3_meanGhost_7 ?_
  refine j_iald (n := 198) hx hb hV hH wM_0 (by omega) (by omega) dX3_meanGhost_8 ?_
  refine j_iconst hx hb dX3_meanGhost_9 ?_
  refine j_isub hx hb dX3_meanGhost_10 ?_
  refine j_callip (va_runS (As := [.int (iI row), .int (iI 0), .int (iI ((st 0 1) - 1))]) (rest := [.ref o]) ⟨hx, hb, hml, hown, hts⟩ (m_X3_in l _ row 0 ((st 0 1) - 1) (by omega) (by omega) (by omega)) (cw_X3_in hts q2313 (Nat.le_of_ble_eq_true rfl) (Nat.le_of_ble_eq_true rfl)) (j_preS hV hH) rfl rfl hl.1 rfl (lv_room (Nat.le_of_ble_eq_true rfl)) dX3_meanGhost_11 ⟨Nat.le_of_ble_eq_true rfl, Nat.le_of_ble_eq_true rfl⟩) hH (fun H locs hH => ?_)
  refine j_ifeq_b (tgt := 21) hx hb dX3_meanGhost_14 (by decide) (fun c14 => ?_) (fun c14 => ?_)
  · refine j_iconst hx hb dX3_meanGhost_21 ?_
    refine j_top (b := cdB 0 (st 0 1 - 1) row) (by omega) ?_
    refine j_put hx hb hts hown hV hH wM_o rfl in_X3 tyX3 tyX3_ok nmX3 6 (Nat.le_of_ble_eq_true rfl) q2235 (fun _ h => h) rfl rfl rfl (Nat.le_of_ble_eq_true rfl) dX3_meanGhost_22 (fun H locs hH => ?_)
    rw [wM_f6] at hH
    refine lv_aload_n hx hb dX3_meanGhost_25 rfl (lv_at hl 0 rfl) ?_
    refine j_get hx hb hts hown hV hH wM_o rfl in_X3 6 (Nat.le_of_ble_eq_true rfl) q2235 (fun _ h => h) rfl dX3_meanGhost_26 ?_
    refine j_top (b := cdB 0 (st 0 1 - 1) row) rfl ?_
    refine j_if_eq (tgt := 34) hx hb dX3_meanGhost_29 (by decide) (by omega) (fun c29 => ?_) (fun c29 => ?_)
    · refine lv_aload_n hx hb dX3_meanGhost_34 rfl (lv_at hl 0 rfl) ?_
      refine j_callv (va_runV (As := []) (rest := []) ⟨hx, hb, hml, hown, hts⟩ (m_X3_survey l o (su st 6 0 (cdB 0 (st 0 1 - 1) row)) w0 _ (h1)) (cw_X3_survey hts q2463 (Nat.le_of_ble_eq_true rfl) (Nat.le_of_ble_eq_true rfl)) (j_preV hV hH wM_o rfl) rfl rfl hl.1 rfl (lv_room (Nat.le_of_ble_eq_true rfl)) dX3_meanGhost_35 ⟨Nat.le_of_ble_eq_true rfl, Nat.le_of_ble_eq_true rfl⟩) hH (fun u H locs hp hH => ?_)
      obtain ⟨u2, huu2⟩ : ∃ q, q = u := ⟨_, rfl⟩
      subst huu2
      have hH : jH E s.heap (wM E o (svO (su st 6 0 (cdB 0 (st 0 1 - 1) row)) u2) w0) H locs := hH
      have hp35 : (fun u => SVC (svO (su st 6 0 (cdB 0 (st 0 1 - 1) row)) u)) u2 := hp
      refine j_iconst hx hb dX3_meanGhost_38 ?_
      refine j_istore_n (lv' := fun x3 => [(2, .int (iI x3)), (0, .ref o), (1, .int (iI row))]) hx hb dX3_meanGhost_39 rfl hl (by decide) (fun _ => rfl) (fun x3 ex3 ls hl => ?_)
      refine j_iconst hx hb dX3_meanGhost_40 ?_
      refine j_istore_n (lv' := fun x4 => [(3, .int (iI x4)), (2, .int (iI x3)), (0, .ref o), (1, .int (iI row))]) hx hb dX3_meanGhost_41 rfl hl (by decide) (fun _ => rfl) (fun x4 ex4 ls hl => ?_)
      have L42 : ∀ (n_ : Nat), ∀ (acc : Int) (it : Int) (hm_ : st 0 0 - it < (n_ : Int)) (i1 : 0 ≤ it) (i2 : it ≤ st 0 0) (i3 : acc = gsmF (st 0) row it.toNat) (H : Heap) (locs : List Loc), jH E s.heap (wM E o (svO (su st 6 0 (cdB 0 (st 0 1 - 1) row)) u2) w0) H locs → ∀ ls : Array Slot, lv_has ls 4 [(0, .ref o), (1, .int (iI row)), (2, .int (iI acc)), (3, .int (iI it))] → W p l e (rmL 8 0 0) s m args below meth c H locs 0 0 Q (F0 m 42 ls []) := by
        intro n_
        induction n_ with
        | zero =>
          intro acc it hm_ i1 i2 i3 H locs hH ls hl
          exact absurd hm_ (by omega)
        | succ n_ ih_42 =>
          intro acc it hm_ i1 i2 i3 H locs hH ls hl
          have hgb := gsmF_b h1 row it.toNat
          refine lv_iload_n hx hb dX3_meanGhost_42 rfl (lv_at hl 3 rfl) ?_
          refine lv_aload_n hx hb dX3_meanGhost_43 rfl (lv_at hl 0 rfl) ?_
          refine j_get hx hb hts hown hV hH wM_o rfl in_X3 0 (Nat.le_of_ble_eq_true rfl) q2229 (fun _ h => h) rfl dX3_meanGhost_44 ?_
          refine j_iconst hx hb dX3_meanGhost_47 ?_
          refine j_iald (n := 198) hx hb hV hH wM_0 (by omega) (by omega) dX3_meanGhost_48 ?_
          refine j_top (b := st 0 0) (rfl) ?_
          refine j_icmp_ge (tgt := 67) hx hb dX3_meanGhost_49 (by decide) (by omega) (by omega) (fun c49 => ?_) (fun c49 => ?_)
          · have hsm : acc = gsmO (st 0) row := by rw [i3]; unfold gsmO; rw [show it.toNat = (st 0 0).toNat by omega]
            refine lv_iload_n hx hb dX3_meanGhost_67 rfl (lv_at hl 2 rfl) ?_
            refine lv_i2d hx hb dX3_meanGhost_68 ?_
            refine lv_aload_n hx hb dX3_meanGhost_69 rfl (lv_at hl 0 rfl) ?_
            refine j_get hx hb hts hown hV hH wM_o rfl in_X3 0 (Nat.le_of_ble_eq_true rfl) q2229 (fun _ h => h) rfl dX3_meanGhost_70 ?_
            refine j_iconst hx hb dX3_meanGhost_73 ?_
            refine j_iald (n := 198) hx hb hV hH wM_0 (by omega) (by omega) dX3_meanGhost_74 ?_
            refine j_top (b := st 0 0) (rfl) ?_
            refine lv_i2d hx hb dX3_meanGhost_75 ?_
            refine lv_ddiv hx hb dX3_meanGhost_76 (fp_mean (by omega) (by omega)) ?_
            exact hret u2 hH dX3_meanGhost_77 (Nat.le_of_ble_eq_true rfl) (Nat.le_of_ble_eq_true rfl) ((by rw [if_pos (by omega), hsm]; rfl))
          · have hgo := ghoO_b h1 it row
            refine lv_iload_n hx hb dX3_meanGhost_52 rfl (lv_at hl 2 rfl) ?_
            refine lv_aload_n hx hb dX3_meanGhost_53 rfl (lv_at hl 0 rfl) ?_
            refine lv_iload_n hx hb dX3_meanGhost_54 rfl (lv_at hl 3 rfl) ?_
            refine lv_iload_n hx hb dX3_meanGhost_55 rfl (lv_at hl 1 rfl) ?_
            refine j_callif (va_runV (As := [.int (iI it), .int (iI row)]) (rest := [.int (iI acc)]) ⟨hx, hb, hml, hown, hts⟩ (m_X3_ghostOf l o (svO (su st 6 0 (cdB 0 (st 0 1 - 1) row)) u2) w0 _ it row (h1) (hp35) (by omega) (by omega)) (cw_X3_ghostOf hts q2600 (Nat.le_of_ble_eq_true rfl) (Nat.le_of_ble_eq_true rfl)) (j_preV hV hH wM_o rfl) rfl rfl hl.1 rfl (lv_room (Nat.le_of_ble_eq_true rfl)) dX3_meanGhost_56 ⟨Nat.le_of_ble_eq_true rfl, Nat.le_of_ble_eq_true rfl⟩) hH (fun H locs hH => ?_)
            refine j_top (b := ghoO (st 0) it row) rfl ?_
            refine j_iadd hx hb dX3_meanGhost_59 ?_
            refine j_istore_n (lv' := fun x5 => [(2, .int (iI x5)), (0, .ref o), (1, .int (iI row)), (3, .int (iI it))]) hx hb dX3_meanGhost_60 rfl hl (by decide) (fun _ => rfl) (fun x5 ex5 ls hl => ?_)
            refine j_iinc (k := 3) (lv' := fun x6 => [(3, .int (iI x6)), (2, .int (iI x5)), (0, .ref o), (1, .int (iI row))]) hx hb dX3_meanGhost_61 hl rfl (by decide) (fun _ => rfl) (fun x6 ex6 ls hl => ?_)
            refine lv_goto (tgt := 42) hx hb dX3_meanGhost_64 (by decide) ?_
            exact ih_42 x5 x6 (by omega) (by first | assumption | omega) (by first | assumption | omega) (by rw [ex5, ex6, show (it + 1).toNat = it.toNat + 1 by omega, gsmF, show ((it.toNat : Nat) : Int) = it by omega, ← i3]) _ _ hH ls (lv_sub hl [2, 3, 1, 0] rfl)
      exact L42 ((st 0 0 - x4).toNat + 1) x3 x4 (by omega) (by first | assumption | omega) (by first | assumption | omega) (by rw [ex3, ex4]; rfl) _ _ hH ls (lv_sub hl [2, 3, 1, 0] rfl)
    · refine lv_dconst0 hx hb dX3_meanGhost_32 ?_
      have hH : jH E s.heap (wM E o (svO (su st 6 0 (cdB 0 (st 0 1 - 1) row)) ((su st 6 0 (cdB 0 (st 0 1 - 1) row)))) w0) H locs := by rw [svO_self]; exact hH
      exact hret (su st 6 0 (cdB 0 (st 0 1 - 1) row)) hH dX3_meanGhost_33 (Nat.le_of_ble_eq_true rfl) (Nat.le_of_ble_eq_true rfl) ((by rw [if_neg (by omega)]; rfl))
  · refine j_iconst hx hb dX3_meanGhost_17 ?_
    refine lv_goto (tgt := 22) hx hb dX3_meanGhost_18 (by decide) ?_
    refine j_top (b := cdB 0 (st 0 1 - 1) row) (by omega) ?_
    refine j_put hx hb hts hown hV hH wM_o rfl in_X3 tyX3 tyX3_ok nmX3 6 (Nat.le_of_ble_eq_true rfl) q2235 (fun _ h => h) rfl rfl rfl (Nat.le_of_ble_eq_true rfl) dX3_meanGhost_22 (fun H locs hH => ?_)
    rw [wM_f6] at hH
    refine lv_aload_n hx hb dX3_meanGhost_25 rfl (lv_at hl 0 rfl) ?_
    refine j_get hx hb hts hown hV hH wM_o rfl in_X3 6 (Nat.le_of_ble_eq_true rfl) q2235 (fun _ h => h) rfl dX3_meanGhost_26 ?_
    refine j_top (b := cdB 0 (st 0 1 - 1) row) rfl ?_
    refine j_if_eq (tgt := 34) hx hb dX3_meanGhost_29 (by decide) (by omega) (fun c29 => ?_) (fun c29 => ?_)
    · refine lv_aload_n hx hb dX3_meanGhost_34 rfl (lv_at hl 0 rfl) ?_
      refine j_callv (va_runV (As := []) (rest := []) ⟨hx, hb, hml, hown, hts⟩ (m_X3_survey l o (su st 6 0 (cdB 0 (st 0 1 - 1) row)) w0 _ (h1)) (cw_X3_survey hts q2463 (Nat.le_of_ble_eq_true rfl) (Nat.le_of_ble_eq_true rfl)) (j_preV hV hH wM_o rfl) rfl rfl hl.1 rfl (lv_room (Nat.le_of_ble_eq_true rfl)) dX3_meanGhost_35 ⟨Nat.le_of_ble_eq_true rfl, Nat.le_of_ble_eq_true rfl⟩) hH (fun u H locs hp hH => ?_)
      obtain ⟨u8, huu8⟩ : ∃ q, q = u := ⟨_, rfl⟩
      subst huu8
      have hH : jH E s.heap (wM E o (svO (su st 6 0 (cdB 0 (st 0 1 - 1) row)) u8) w0) H locs := hH
      have hp35 : (fun u => SVC (svO (su st 6 0 (cdB 0 (st 0 1 - 1) row)) u)) u8 := hp
      refine j_iconst hx hb dX3_meanGhost_38 ?_
      refine j_istore_n (lv' := fun x9 => [(2, .int (iI x9)), (0, .ref o), (1, .int (iI row))]) hx hb dX3_meanGhost_39 rfl hl (by decide) (fun _ => rfl) (fun x9 ex9 ls hl => ?_)
      refine j_iconst hx hb dX3_meanGhost_40 ?_
      refine j_istore_n (lv' := fun x10 => [(3, .int (iI x10)), (2, .int (iI x9)), (0, .ref o), (1, .int (iI row))]) hx hb dX3_meanGhost_41 rfl hl (by decide) (fun _ => rfl) (fun x10 ex10 ls hl => ?_)
      have L42 : ∀ (n_ : Nat), ∀ (acc : Int) (it : Int) (hm_ : st 0 0 - it < (n_ : Int)) (i1 : 0 ≤ it) (i2 : it ≤ st 0 0) (i3 : acc = gsmF (st 0) row it.toNat) (H : Heap) (locs : List Loc), jH E s.heap (wM E o (svO (su st 6 0 (cdB 0 (st 0 1 - 1) row)) u8) w0) H locs → ∀ ls : Array Slot, lv_has ls 4 [(0, .ref o), (1, .int (iI row)), (2, .int (iI acc)), (3, .int (iI it))] → W p l e (rmL 8 0 0) s m args below meth c H locs 0 0 Q (F0 m 42 ls []) := by
        intro n_
        induction n_ with
        | zero =>
          intro acc it hm_ i1 i2 i3 H locs hH ls hl
          exact absurd hm_ (by omega)
        | succ n_ ih_42 =>
          intro acc it hm_ i1 i2 i3 H locs hH ls hl
          have hgb := gsmF_b h1 row it.toNat
          refine lv_iload_n hx hb dX3_meanGhost_42 rfl (lv_at hl 3 rfl) ?_
          refine lv_aload_n hx hb dX3_meanGhost_43 rfl (lv_at hl 0 rfl) ?_
          refine j_get hx hb hts hown hV hH wM_o rfl in_X3 0 (Nat.le_of_ble_eq_true rfl) q2229 (fun _ h => h) rfl dX3_meanGhost_44 ?_
          refine j_iconst hx hb dX3_meanGhost_47 ?_
          refine j_iald (n := 198) hx hb hV hH wM_0 (by omega) (by omega) dX3_meanGhost_48 ?_
          refine j_top (b := st 0 0) (rfl) ?_
          refine j_icmp_ge (tgt := 67) hx hb dX3_meanGhost_49 (by decide) (by omega) (by omega) (fun c49 => ?_) (fun c49 => ?_)
          · have hsm : acc = gsmO (st 0) row := by rw [i3]; unfold gsmO; rw [show it.toNat = (st 0 0).toNat by omega]
            refine lv_iload_n hx hb dX3_meanGhost_67 rfl (lv_at hl 2 rfl) ?_
            refine lv_i2d hx hb dX3_meanGhost_68 ?_
            refine lv_aload_n hx hb dX3_meanGhost_69 rfl (lv_at hl 0 rfl) ?_
            refine j_get hx hb hts hown hV hH wM_o rfl in_X3 0 (Nat.le_of_ble_eq_true rfl) q2229 (fun _ h => h) rfl dX3_meanGhost_70 ?_
            refine j_iconst hx hb dX3_meanGhost_73 ?_
            refine j_iald (n := 198) hx hb hV hH wM_0 (by omega) (by omega) dX3_meanGhost_74 ?_
            refine j_top (b := st 0 0) (rfl) ?_
            refine lv_i2d hx hb dX3_meanGhost_75 ?_
            refine lv_ddiv hx hb dX3_meanGhost_76 (fp_mean (by omega) (by omega)) ?_
            exact hret u8 hH dX3_meanGhost_77 (Nat.le_of_ble_eq_true rfl) (Nat.le_of_ble_eq_true rfl) ((by rw [if_pos (by omega), hsm]; rfl))
          · have hgo := ghoO_b h1 it row
            refine lv_iload_n hx hb dX3_meanGhost_52 rfl (lv_at hl 2 rfl) ?_
            refine lv_aload_n hx hb dX3_meanGhost_53 rfl (lv_at hl 0 rfl) ?_
            refine lv_iload_n hx hb dX3_meanGhost_54 rfl (lv_at hl 3 rfl) ?_
            refine lv_iload_n hx hb dX3_meanGhost_55 rfl (lv_at hl 1 rfl) ?_
            refine j_callif (va_runV (As := [.int (iI it), .int (iI row)]) (rest := [.int (iI acc)]) ⟨hx, hb, hml, hown, hts⟩ (m_X3_ghostOf l o (svO (su st 6 0 (cdB 0 (st 0 1 - 1) row)) u8) w0 _ it row (h1) (hp35) (by omega) (by omega)) (cw_X3_ghostOf hts q2600 (Nat.le_of_ble_eq_true rfl) (Nat.le_of_ble_eq_true rfl)) (j_preV hV hH wM_o rfl) rfl rfl hl.1 rfl (lv_room (Nat.le_of_ble_eq_true rfl)) dX3_meanGhost_56 ⟨Nat.le_of_ble_eq_true rfl, Nat.le_of_ble_eq_true rfl⟩) hH (fun H locs hH => ?_)
            refine j_top (b := ghoO (st 0) it row) rfl ?_
            refine j_iadd hx hb dX3_meanGhost_59 ?_
            refine j_istore_n (lv' := fun x11 => [(2, .int (iI x11)), (0, .ref o), (1, .int (iI row)), (3, .int (iI it))]) hx hb dX3_meanGhost_60 rfl hl (by decide) (fun _ => rfl) (fun x11 ex11 ls hl => ?_)
            refine j_iinc (k := 3) (lv' := fun x12 => [(3, .int (iI x12)), (2, .int (iI x11)), (0, .ref o), (1, .int (iI row))]) hx hb dX3_meanGhost_61 hl rfl (by decide) (fun _ => rfl) (fun x12 ex12 ls hl => ?_)
            refine lv_goto (tgt := 42) hx hb dX3_meanGhost_64 (by decide) ?_
            exact ih_42 x11 x12 (by omega) (by first | assumption | omega) (by first | assumption | omega) (by rw [ex11, ex12, show (it + 1).toNat = it.toNat + 1 by omega, gsmF, show ((it.toNat : Nat) : Int) = it by omega, ← i3]) _ _ hH ls (lv_sub hl [2, 3, 1, 0] rfl)
      exact L42 ((st 0 0 - x10).toNat + 1) x9 x10 (by omega) (by first | assumption | omega) (by first | assumption | omega) (by rw [ex9, ex10]; rfl) _ _ hH ls (lv_sub hl [2, 3, 1, 0] rfl)
    · refine lv_dconst0 hx hb dX3_meanGhost_32 ?_
      have hH : jH E s.heap (wM E o (svO (su st 6 0 (cdB 0 (st 0 1 - 1) row)) ((su st 6 0 (cdB 0 (st 0 1 - 1) row)))) w0) H locs := by rw [svO_self]; exact hH
      exact hret (su st 6 0 (cdB 0 (st 0 1 - 1) row)) hH dX3_meanGhost_33 (Nat.le_of_ble_eq_true rfl) (Nat.le_of_ble_eq_true rfl) ((by rw [if_neg (by omega)]; rfl))
