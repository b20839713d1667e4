/-! THE REFERENCE's METHODS: what a surveyed page answers -/
set_option maxRecDepth 100000
theorem tic_or {T : Int} {st : Ms} (h : PWF T (st 0)) (ht : TIC st) : (trO (st 0) = -1 ∧ st 17 0 = 0) ∨ (0 ≤ trO (st 0) ∧ trO (st 0) ≤ 119 ∧ st 17 0 = 1 ∧ st 18 0 = trO (st 0) ∧ st 19 0 = tsO (st 0) ∧ 0 ≤ tsO (st 0) ∧ tsO (st 0) ≤ 20) := by
  have hb := trO_b h
  by_cases h0 : trO (st 0) = -1
  · exact Or.inl ⟨h0, ht.1.trans (if_pos h0)⟩
  · have h2 := ht.2 h0
    have h3 := ht.1.trans (if_neg h0)
    have h4 := hb.resolve_left h0
    exact Or.inr ⟨h4.1, h4.2.1, h3, h2.1, h2.2, h4.2.2.2.1, h4.2.2.2.2⟩
theorem nodV_b {P : Int → Int} {n what : Int} (h : what < 0 ∨ 8 < what) : nodV P n what = if 0 < nd P n 4 then boxV P n what else -1000 := by
  unfold nodV
  rw [if_neg (by omega), if_neg (by omega), if_neg (by omega), if_neg (by omega), if_neg (by omega), if_neg (by omega), if_neg (by omega), if_neg (by omega), if_neg (by omega)]
theorem boxV_c {P : Int → Int} {n what : Int} (h : what < 9 ∨ 13 < what) : boxV P n what = colN P n (what = 14) := by
  unfold boxV
  rw [if_neg (by omega), if_neg (by omega), if_neg (by omega), if_neg (by omega), if_neg (by omega)]
theorem whoV_c {P : Int → Int} {what : Int} (h : 11 < what) : whoV P what = P (what - 5) := by
  unfold whoV
  rw [if_neg (by omega), if_neg (by omega), if_neg (by omega), if_neg (by omega), if_neg (by omega), if_neg (by omega), if_neg (by omega), if_neg (by omega), if_neg (by omega), if_neg (by omega), if_neg (by omega), if_neg (by omega)]
theorem whoV_s {P : Int → Int} {what : Int} (h0 : 0 ≤ what) (h : what < 3) : whoV P what = P what := by
  rcases (by omega : what = 0 ∨ what = 1 ∨ what = 2) with h | h | h <;> rw [h] <;> rfl
theorem titV_s {P : Int → Int} {what : Int} (h0 : 0 ≤ what) (h : what < 3) (hp : P 13 ≠ 0) : titV P what = P (11 + what) := by
  unfold titV
  rw [if_neg (by omega)]
  rcases (by omega : what = 0 ∨ what = 1 ∨ what = 2) with h | h | h <;> rw [h] <;> rfl
theorem titV_c {P : Int → Int} {what : Int} (h : 4 < what) (hp : P 13 ≠ 0) (ht : trO P ≠ -1) : titV P what = colO (P 11) (tsO P) (what = 5) := by
  unfold titV
  rw [if_neg (by omega), if_neg (by omega), if_neg (by omega), if_neg (by omega), if_neg (by omega), if_neg (by omega)]
theorem cw_X3_isCell {R : Room} {s : State} {args : Array Value} {own : String} {index lev mc ms : Nat} (hts : ∀ w ∈ lw_all, w.before args s = true) (hl : Cond.methodLink own index yX3_isCell ∈ lw_all) (hR1 : (rmL lev mc ms).frames + 1 ≤ R.frames) (hR2 : 8 + (3 + 11) + (rmL lev mc ms).locals ≤ R.locals) : CallW R s args own RX3 index yX3_isCell cX3_isCell 3 (some .boolean) (ws_ yX3_isCell cX3_isCell 3 (some .boolean)) (rmL lev mc ms) mc ms 2 :=
  cwV 2 hts (lw_V hl q2578 qs90 q116 q2579) rfl rfl rfl (by decide +kernel) ⟨hR1, hR2⟩
set_option maxHeartbeats 4000000 in
theorem m_X3_isCell {E : jE} (l : Launch) (o : Nat) (st : Ms) (w0 : Wl) (T : Int) (col : Int) (row : Int) (h1 : PWF T (st 0)) (h2 : -2147483648 ≤ col ∧ col ≤ 2147483647) (h3 : -2147483648 ≤ row ∧ row ≤ 2147483647) : Met l yX3_isCell (ws_ yX3_isCell cX3_isCell 3 (some .boolean)) (rmL 2 0 0) (va_Pc [.ref o, .int (iI col), .int (iI row)] (jP E (wM E o st w0))) (jQi E (fun u : Ms => wM E o u w0) (fun z u => z = bI ((0 ≤ col ∧ col < st 0 0) ∧ 0 ≤ row ∧ row < st 0 1) ∧ u = st)) 0 0 (jA E) := by
  refine j_metZ (by decide) (Nat.le_of_ble_eq_true rfl) ?_
  intro p e s m args below meth c Q hx hb hml hown hnm hts hV hH hret ls hl
  have hl : lv_has ls 3 [(0, .ref o), (1, .int (iI col)), (2, .int (iI row))] := hl
  have hA := h1.A
  have hB := h1.B
  refine lv_iload_n hx hb dX3_isCell_0 rfl (lv_at hl 1 rfl) ?_
  refine j_iconst hx hb dX3_isCell_1 ?_
  refine lv_aload_n hx hb dX3_isCell_2 rfl (lv_at hl 0 rfl) ?_
  refine j_get hx hb hts hown hV hH wM_o rfl in_X3 0 (Nat.le_of_ble_eq_true rfl) q2229 (fun _ h => h) rfl dX3_isCell_3 ?_
  refine j_iconst hx hb dX3_isCell_6 ?_
  refine j_iald (n := 198) hx hb hV hH wM_0 (by omega) (by omega) dX3_isCell_7 ?_
  refine j_iconst hx hb dX3_isCell_8 ?_
  refine j_isub hx hb dX3_isCell_9 ?_
  refine j_callip (va_runS (As := [.int (iI col), .int (iI 0), .int (iI ((st 0 0) - 1))]) (rest := []) ⟨hx, hb, hml, hown, hts⟩ (m_X3_in l _ col 0 ((st 0 0) - 1) (by omega) (by omega) (by omega)) (cw_X3_in hts q2313 (Nat.le_of_ble_eq_true rfl) (Nat.le_of_ble_eq_true rfl)) (j_preS hV hH) rfl rfl hl.1 rfl (lv_room (Nat.le_of_ble_eq_true rfl)) dX3_isCell_10 ⟨Nat.le_of_ble_eq_true rfl, Nat.le_of_ble_eq_true rfl⟩) hH (fun H locs hH => ?_)
  refine j_ifeq_b (tgt := 36) hx hb dX3_isCell_13 (by decide) (fun c13 => ?_) (fun c13 => ?_)
  · refine j_iconst hx hb dX3_isCell_36 ?_
    exact hret st hH dX3_isCell_37 (Nat.le_of_ble_eq_true rfl) (Nat.le_of_ble_eq_true rfl) (by decide) (⟨by first | exact bT (by omega) | exact bF (by omega), rfl⟩)
  · refine lv_iload_n hx hb dX3_isCell_16 rfl (lv_at hl 2 rfl) ?_
    refine j_iconst hx hb dX3_isCell_17 ?_
    refine lv_aload_n hx hb dX3_isCell_18 rfl (lv_at hl 0 rfl) ?_
    refine j_get hx hb hts hown hV hH wM_o rfl in_X3 0 (Nat.le_of_ble_eq_true rfl) q2229 (fun _ h => h) rfl dX3_isCell_19 ?_
    refine j_iconst hx hb dX3_isCell_22 ?_
    refine j_iald (n := 198) hx hb hV hH wM_0 (by omega) (by omega) dX3_isCell_23 ?_
    refine j_iconst hx hb dX3_isCell_24 ?_
    refine j_isub hx hb dX3_isCell_25 ?_
    refine j_callip (va_runS (As := [.int (iI row), .int (iI 0), .int (iI ((st 0 1) - 1))]) (rest := []) ⟨hx, hb, hml, hown, hts⟩ (m_X3_in l _ row 0 ((st 0 1) - 1) (by omega) (by omega) (by omega)) (cw_X3_in hts q2313 (Nat.le_of_ble_eq_true rfl) (Nat.le_of_ble_eq_true rfl)) (j_preS hV hH) rfl rfl hl.1 rfl (lv_room (Nat.le_of_ble_eq_true rfl)) dX3_isCell_26 ⟨Nat.le_of_ble_eq_true rfl, Nat.le_of_ble_eq_true rfl⟩) hH (fun H locs hH => ?_)
    refine j_ifeq_b (tgt := 36) hx hb dX3_isCell_29 (by decide) (fun c29 => ?_) (fun c29 => ?_)
    · refine j_iconst hx hb dX3_isCell_36 ?_
      exact hret st hH dX3_isCell_37 (Nat.le_of_ble_eq_true rfl) (Nat.le_of_ble_eq_true rfl) (by decide) (⟨by first | exact bT (by omega) | exact bF (by omega), rfl⟩)
    · refine j_iconst hx hb dX3_isCell_32 ?_
      refine lv_goto (tgt := 37) hx hb dX3_isCell_33 (by decide) ?_
      exact hret st hH dX3_isCell_37 (Nat.le_of_ble_eq_true rfl) (Nat.le_of_ble_eq_true rfl) (by decide) (⟨by first | exact bT (by omega) | exact bF (by omega), rfl⟩)
theorem cw_X3_top {R : Room} {s : State} {args : Array Value} {own : String} {index lev mc ms : Nat} (hts : ∀ w ∈ lw_all, w.before args s = true) (hl : Cond.methodLink own index yX3_top ∈ lw_all) (hR1 : (rmL lev mc ms).frames + 1 ≤ R.frames) (hR2 : 8 + (8 + 11) + (rmL lev mc ms).locals ≤ R.locals) : CallW R s args own RX3 index yX3_top cX3_top 8 (some .int) (ws_ yX3_top cX3_top 8 (some .int)) (rmL lev mc ms) mc ms 3 :=
  cwV 3 hts (lw_V hl q2586 qs92 q116 q2587) rfl rfl rfl (by decide +kernel) ⟨hR1, hR2⟩
set_option maxHeartbeats 4000000 in
theorem m_X3_top {E : jE} (l : Launch) (o : Nat) (st : Ms) (w0 : Wl) (T : Int) (left : Prop) (col : Int) (row : Int) (h1 : PWF T (st 0)) (h2 : SVC st) (h3 : -1 ≤ col ∧ col ≤ 200) (h4 : -1 ≤ row ∧ row ≤ 200) : Met l yX3_top (ws_ yX3_top cX3_top 8 (some .int)) (rmL 4 0 0) (va_Pc [.ref o, .int (iI (bI left)), .int (iI col), .int (iI row)] (jP E (wM E o st w0))) (jQi E (fun u : Ms => wM E o u w0) (fun z u => z = topO (st 0) left col row ∧ u = st)) 0 0 (jA E) := by
  refine j_metI (by decide) (Nat.le_of_ble_eq_true rfl) ?_
  intro p e s m args below meth c Q hx hb hml hown hnm hts hV hH hret ls hl
  have hl : lv_has ls 8 [(0, .ref o), (1, .int (iI (bI left))), (2, .int (iI col)), (3, .int (iI row))] := hl
  have hA := h1.A
  have hB := h1.B
  have hC := h1.C
  obtain ⟨hPL, hSH, hOR, hMK, hTI, hPC⟩ := id h2
  have hcn := cntO_b h1
  refine j_sipush hx hb dX3_top_0 (by decide) ?_
  refine j_istore (lv' := fun x1 => [(4, .int (iI x1)), (0, .ref o), (1, .int (iI (bI left))), (2, .int (iI col)), (3, .int (iI row))]) hx hb dX3_top_3 hl (by decide) (fun _ => rfl) (fun x1 ex1 ls hl => ?_)
  refine j_iconst hx hb dX3_top_5 ?_
  refine j_istore (lv' := fun x2 => [(5, .int (iI x2)), (4, .int (iI x1)), (0, .ref o), (1, .int (iI (bI left))), (2, .int (iI col)), (3, .int (iI row))]) hx hb dX3_top_6 hl (by decide) (fun _ => rfl) (fun x2 ex2 ls hl => ?_)
  have L8 : ∀ (n_ : Nat), ∀ (fd : Int) (it : Int) (hm_ : cntO (st 0) - it < (n_ : Int)) (i1 : 0 ≤ it) (i2 : it ≤ cntO (st 0)) (i3 : fd = topF (st 0) left col row it.toNat) (H : Heap) (locs : List Loc), jH E s.heap (wM E o st w0) H locs → ∀ ls : Array Slot, lv_has ls 8 [(0, .ref o), (1, .int (iI (bI left))), (2, .int (iI col)), (3, .int (iI row)), (4, .int (iI fd)), (5, .int (iI it))] → W p l e (rmL 4 0 0) s m args below meth c H locs 0 0 Q (F0 m 8 ls []) := by
    intro n_
    induction n_ with
    | zero =>
      intro fd it hm_ i1 i2 i3 H locs hH ls hl
      exact absurd hm_ (by omega)
    | succ n_ ih_8 =>
      intro fd it hm_ i1 i2 i3 H locs hH ls hl
      refine lv_iload hx hb dX3_top_8 (lv_at hl 5 rfl) ?_
      refine lv_aload_n hx hb dX3_top_10 rfl (lv_at hl 0 rfl) ?_
      refine j_get hx hb hts hown hV hH wM_o rfl in_X3 14 (Nat.le_of_ble_eq_true rfl) q2243 (fun _ h => h) rfl dX3_top_11 ?_
      refine j_top (b := cntO (st 0)) (hOR.1) ?_
      refine j_icmp_ge (tgt := 103) hx hb dX3_top_14 (by decide) (by omega) (by omega) (fun c14 => ?_) (fun c14 => ?_)
      · refine lv_iload hx hb dX3_top_103 (lv_at hl 4 rfl) ?_
        exact hret st hH dX3_top_105 (Nat.le_of_ble_eq_true rfl) (Nat.le_of_ble_eq_true rfl) (⟨by rw [i3, show it.toNat = (cntO (st 0)).toNat by omega]; rfl, rfl⟩)
      · have hob := ordO_b h1 i1 c14
        refine lv_aload_n hx hb dX3_top_17 rfl (lv_at hl 0 rfl) ?_
        refine j_get hx hb hts hown hV hH wM_o rfl in_X3 13 (Nat.le_of_ble_eq_true rfl) q2242 (fun _ h => h) rfl dX3_top_18 ?_
        refine lv_iload hx hb dX3_top_21 (lv_at hl 5 rfl) ?_
        refine j_iald (n := 20) hx hb hV hH wM_13 (by omega) (by omega) dX3_top_23 ?_
        refine j_top (b := ordO (st 0) it) (hOR.2 it i1 c14) ?_
        refine j_istore (lv' := fun x3 => [(6, .int (iI x3)), (0, .ref o), (1, .int (iI (bI left))), (2, .int (iI col)), (3, .int (iI row)), (4, .int (iI fd)), (5, .int (iI it))]) hx hb dX3_top_24 hl (by decide) (fun _ => rfl) (fun x3 ex3 ls hl => ?_)
        rw [← ex3] at hob
        have hN := h1.N hob.1 hob.2.1
        have hcN := colN_b h1 (n := x3) (Or.inr ⟨hob.1, hob.2.1⟩) left
        have hyN := sumO_b h1 (k := 2) (n := x3) (by omega) (Or.inr ⟨hob.1, hob.2.1⟩)
        refine lv_iload_n hx hb dX3_top_26 rfl (lv_at hl 4 rfl) ?_
        refine lv_aload_n hx hb dX3_top_27 rfl (lv_at hl 1 rfl) ?_
        refine j_get hx hb hts hown hV hH wM_o rfl in_X3 9 (Nat.le_of_ble_eq_true rfl) q2238 (fun _ h => h) rfl dX3_top_28 ?_
        refine lv_iload hx hb dX3_top_31 (lv_at hl 0 rfl) ?_
        refine j_iald (n := 20) hx hb hV hH wM_9 (by omega) (by omega) dX3_top_33 ?_
        refine j_top (b := sumO (st 0) x3 2) ((hPL _ hob.1 hob.2.1).2.1) ?_
        refine j_isub hx hb dX3_top_34 ?_
        refine j_iconst hx hb dX3_top_35 ?_
        refine lv_aload_n hx hb dX3_top_36 rfl (lv_at hl 1 rfl) ?_
        refine lv_iload hx hb dX3_top_37 (lv_at hl 0 rfl) ?_
        refine j_iconst hx hb dX3_top_39 ?_
        refine j_callif (va_runV (As := [.int (iI x3), .int (iI 5)]) (rest := [.int (iI 0), .int (iI (row - (sumO (st 0) x3 2)))]) ⟨hx, hb, hml, hown, hts⟩ (m_X3_of l o st w0 x3 5 (by omega)) (cw_X3_of hts q2343 (Nat.le_of_ble_eq_true rfl) (Nat.le_of_ble_eq_true rfl)) (j_preV hV hH wM_o rfl) rfl rfl hl.1 rfl (lv_room (Nat.le_of_ble_eq_true rfl)) dX3_top_40 ⟨Nat.le_of_ble_eq_true rfl, Nat.le_of_ble_eq_true rfl⟩) hH (fun H locs hH => ?_)
        refine j_iconst hx hb dX3_top_43 ?_
        refine j_isub hx hb dX3_top_44 ?_
        refine j_callip (va_runS (As := [.int (iI (row - (sumO (st 0) x3 2))), .int (iI 0), .int (iI ((nd (st 0) x3 5) - 1))]) (rest := []) ⟨hx, hb, hml, hown, hts⟩ (m_X3_in l _ (row - (sumO (st 0) x3 2)) 0 ((nd (st 0) x3 5) - 1) (by omega) (by omega) (by omega)) (cw_X3_in hts q2313 (Nat.le_of_ble_eq_true rfl) (Nat.le_of_ble_eq_true rfl)) (j_preS hV hH) rfl rfl hl.1 rfl (lv_room (Nat.le_of_ble_eq_true rfl)) dX3_top_45 ⟨Nat.le_of_ble_eq_true rfl, Nat.le_of_ble_eq_true rfl⟩) hH (fun H locs hH => ?_)
        refine j_ifeq_b (tgt := 80) hx hb dX3_top_48 (by decide) (fun c48 => ?_) (fun c48 => ?_)
        · refine j_iconst hx hb dX3_top_80 ?_
          refine j_istore (lv' := fun x4 => [(7, .int (iI x4)), (6, .int (iI x3)), (0, .ref o), (1, .int (iI (bI left))), (2, .int (iI col)), (3, .int (iI row)), (4, .int (iI fd)), (5, .int (iI it))]) hx hb dX3_top_81 hl (by decide) (fun _ => rfl) (fun x4 ex4 ls hl => ?_)
          refine lv_iload hx hb dX3_top_83 (lv_at hl 0 rfl) ?_
          refine j_if_eq (tgt := 93) hx hb dX3_top_85 (by decide) (by omega) (fun c85 => ?_) (fun c85 => ?_)
          · refine lv_iload hx hb dX3_top_93 (lv_at hl 6 rfl) ?_
            refine j_istore (lv' := fun x5 => [(4, .int (iI x5)), (7, .int (iI x4)), (6, .int (iI x3)), (0, .ref o), (1, .int (iI (bI left))), (2, .int (iI col)), (3, .int (iI row)), (5, .int (iI it))]) hx hb dX3_top_95 hl (by decide) (fun _ => rfl) (fun x5 ex5 ls hl => ?_)
            refine j_iinc (k := 7) (lv' := fun x6 => [(5, .int (iI x6)), (4, .int (iI x5)), (7, .int (iI x4)), (6, .int (iI x3)), (0, .ref o), (1, .int (iI (bI left))), (2, .int (iI col)), (3, .int (iI row))]) hx hb dX3_top_97 hl rfl (by decide) (fun _ => rfl) (fun x6 ex6 ls hl => ?_)
            refine lv_goto (tgt := 8) hx hb dX3_top_100 (by decide) ?_
            exact ih_8 x5 x6 (by omega) (by first | assumption | omega) (by first | assumption | omega) (by first | exact absurd ex4 c85 | exact absurd (ex4.symm.trans c85) (by decide) | skip; rw [ex5, ex6, show (it + 1).toNat = it.toNat + 1 by omega, topF, show ((it.toNat : Nat) : Int) = it by omega, ← i3, ← ex3]; first | exact (pI_t ⟨c48, c73⟩).symm | exact (pI_f (fun q => c48 q.1)).symm | exact (pI_f (fun q => c73 q.2)).symm) _ _ hH ls (lv_sub hl [4, 5, 6, 7, 1, 0] rfl)
          · refine lv_iload hx hb dX3_top_88 (lv_at hl 1 rfl) ?_
            refine lv_goto (tgt := 95) hx hb dX3_top_90 (by decide) ?_
            refine j_istore (lv' := fun x7 => [(4, .int (iI x7)), (7, .int (iI x4)), (6, .int (iI x3)), (0, .ref o), (1, .int (iI (bI left))), (2, .int (iI col)), (3, .int (iI row)), (5, .int (iI it))]) hx hb dX3_top_95 hl (by decide) (fun _ => rfl) (fun x7 ex7 ls hl => ?_)
            refine j_iinc (k := 7) (lv' := fun x8 => [(5, .int (iI x8)), (4, .int (iI x7)), (7, .int (iI x4)), (6, .int (iI x3)), (0, .ref o), (1, .int (iI (bI left))), (2, .int (iI col)), (3, .int (iI row))]) hx hb dX3_top_97 hl rfl (by decide) (fun _ => rfl) (fun x8 ex8 ls hl => ?_)
            refine lv_goto (tgt := 8) hx hb dX3_top_100 (by decide) ?_
            exact ih_8 x7 x8 (by omega) (by first | assumption | omega) (by first | assumption | omega) (by first | exact absurd ex4 c85 | exact absurd (ex4.symm.trans c85) (by decide) | skip; rw [ex7, ex8, show (it + 1).toNat = it.toNat + 1 by omega, topF, show ((it.toNat : Nat) : Int) = it by omega, ← i3, ← ex3]; first | exact (pI_t ⟨c48, c73⟩).symm | exact (pI_f (fun q => c48 q.1)).symm | exact (pI_f (fun q => c73 q.2)).symm) _ _ hH ls (lv_sub hl [4, 5, 6, 7, 1, 0] rfl)
        · refine lv_iload_n hx hb dX3_top_51 rfl (lv_at hl 3 rfl) ?_
          refine lv_aload_n hx hb dX3_top_52 rfl (lv_at hl 1 rfl) ?_
          refine lv_iload hx hb dX3_top_53 (lv_at hl 0 rfl) ?_
          refine lv_iload_n hx hb dX3_top_55 rfl (lv_at hl 2 rfl) ?_
          refine j_callif (va_runV (As := [.int (iI x3), .int (iI (bI left))]) (rest := [.int (iI col)]) ⟨hx, hb, hml, hown, hts⟩ (m_X3_columnOf l o st w0 _ x3 left (h1) (by omega) (by omega) (hPL) (hSH)) (cw_X3_columnOf hts q2506 (Nat.le_of_ble_eq_true rfl) (Nat.le_of_ble_eq_true rfl)) (j_preV hV hH wM_o rfl) rfl rfl hl.1 rfl (lv_room (Nat.le_of_ble_eq_true rfl)) dX3_top_56 ⟨Nat.le_of_ble_eq_true rfl, Nat.le_of_ble_eq_true rfl⟩) hH (fun H locs hH => ?_)
          refine j_isub hx hb dX3_top_59 ?_
          refine j_iconst hx hb dX3_top_60 ?_
          refine lv_aload_n hx hb dX3_top_61 rfl (lv_at hl 1 rfl) ?_
          refine lv_iload hx hb dX3_top_62 (lv_at hl 0 rfl) ?_
          refine j_iconst hx hb dX3_top_64 ?_
          refine j_callif (va_runV (As := [.int (iI x3), .int (iI 4)]) (rest := [.int (iI 0), .int (iI (col - (colN (st 0) x3 left)))]) ⟨hx, hb, hml, hown, hts⟩ (m_X3_of l o st w0 x3 4 (by omega)) (cw_X3_of hts q2343 (Nat.le_of_ble_eq_true rfl) (Nat.le_of_ble_eq_true rfl)) (j_preV hV hH wM_o rfl) rfl rfl hl.1 rfl (lv_room (Nat.le_of_ble_eq_true rfl)) dX3_top_65 ⟨Nat.le_of_ble_eq_true rfl, Nat.le_of_ble_eq_true rfl⟩) hH (fun H locs hH => ?_)
          refine j_iconst hx hb dX3_top_68 ?_
          refine j_isub hx hb dX3_top_69 ?_
          refine j_callip (va_runS (As := [.int (iI (col - (colN (st 0) x3 left))), .int (iI 0), .int (iI ((nd (st 0) x3 4) - 1))]) (rest := []) ⟨hx, hb, hml, hown, hts⟩ (m_X3_in l _ (col - (colN (st 0) x3 left)) 0 ((nd (st 0) x3 4) - 1) (by omega) (by omega) (by omega)) (cw_X3_in hts q2313 (Nat.le_of_ble_eq_true rfl) (Nat.le_of_ble_eq_true rfl)) (j_preS hV hH) rfl rfl hl.1 rfl (lv_room (Nat.le_of_ble_eq_true rfl)) dX3_top_70 ⟨Nat.le_of_ble_eq_true rfl, Nat.le_of_ble_eq_true rfl⟩) hH (fun H locs hH => ?_)
          refine j_ifeq_b (tgt := 80) hx hb dX3_top_73 (by decide) (fun c73 => ?_) (fun c73 => ?_)
          · refine j_iconst hx hb dX3_top_80 ?_
            refine j_istore (lv' := fun x9 => [(7, .int (iI x9)), (6, .int (iI x3)), (0, .ref o), (1, .int (iI (bI left))), (2, .int (iI col)), (3, .int (iI row)), (4, .int (iI fd)), (5, .int (iI it))]) hx hb dX3_top_81 hl (by decide) (fun _ => rfl) (fun x9 ex9 ls hl => ?_)
            refine lv_iload hx hb dX3_top_83 (lv_at hl 0 rfl) ?_
            refine j_if_eq (tgt := 93) hx hb dX3_top_85 (by decide) (by omega) (fun c85 => ?_) (fun c85 => ?_)
            · refine lv_iload hx hb dX3_top_93 (lv_at hl 6 rfl) ?_
              refine j_istore (lv' := fun x10 => [(4, .int (iI x10)), (7, .int (iI x9)), (6, .int (iI x3)), (0, .ref o), (1, .int (iI (bI left))), (2, .int (iI col)), (3, .int (iI row)), (5, .int (iI it))]) hx hb dX3_top_95 hl (by decide) (fun _ => rfl) (fun x10 ex10 ls hl => ?_)
              refine j_iinc (k := 7) (lv' := fun x11 => [(5, .int (iI x11)), (4, .int (iI x10)), (7, .int (iI x9)), (6, .int (iI x3)), (0, .ref o), (1, .int (iI (bI left))), (2, .int (iI col)), (3, .int (iI row))]) hx hb dX3_top_97 hl rfl (by decide) (fun _ => rfl) (fun x11 ex11 ls hl => ?_)
              refine lv_goto (tgt := 8) hx hb dX3_top_100 (by decide) ?_
              exact ih_8 x10 x11 (by omega) (by first | assumption | omega) (by first | assumption | omega) (by first | exact absurd ex9 c85 | exact absurd (ex9.symm.trans c85) (by decide) | skip; rw [ex10, ex11, show (it + 1).toNat = it.toNat + 1 by omega, topF, show ((it.toNat : Nat) : Int) = it by omega, ← i3, ← ex3]; first | exact (pI_t ⟨c48, c73⟩).symm | exact (pI_f (fun q => c48 q.1)).symm | exact (pI_f (fun q => c73 q.2)).symm) _ _ hH ls (lv_sub hl [4, 5, 6, 7, 1, 0] rfl)
            · refine lv_iload hx hb dX3_top_88 (lv_at hl 1 rfl) ?_
              refine lv_goto (tgt := 95) hx hb dX3_top_90 (by decide) ?_
              refine j_istore (lv' := fun x12 => [(4, .int (iI x12)), (7, .int (iI x9)), (6, .int (iI x3)), (0, .ref o), (1, .int (iI (bI left))), (2, .int (iI col)), (3, .int (iI row)), (5, .int (iI it))]) hx hb dX3_top_95 hl (by decide) (fun _ => rfl) (fun x12 ex12 ls hl => ?_)
              refine j_iinc (k := 7) (lv' := fun x13 => [(5, .int (iI x13)), (4, .int (iI x12)), (7, .int (iI x9)), (6, .int (iI x3)), (0, .ref o), (1, .int (iI (bI left))), (2, .int (iI col)), (3, .int (iI row))]) hx hb dX3_top_97 hl rfl (by decide) (fun _ => rfl) (fun x13 ex13 ls hl => ?_)
              refine lv_goto (tgt := 8) hx hb dX3_top_100 (by decide) ?_
              exact ih_8 x12 x13 (by omega) (by first | assumption | omega) (by first | assumption | omega) (by first | exact absurd ex9 c85 | exact absurd (ex9.symm.trans c85) (by decide) | skip; rw [ex12, ex13, show (it + 1).toNat = it.toNat + 1 by omega, topF, show ((it.toNat : Nat) : Int) = it by omega, ← i3, ← ex3]; first | exact (pI_t ⟨c48, c73⟩).symm | exact (pI_f (fun q => c48 q.1)).symm | exact (pI_f (fun q => c73 q.2)).symm) _ _ hH ls (lv_sub hl [4, 5, 6, 7, 1, 0] rfl)
          · refine j_iconst hx hb dX3_top_76 ?_
            refine lv_goto (tgt := 81) hx hb dX3_top_77 (by decide) ?_
            refine j_istore (lv' := fun x14 => [(7, .int (iI x14)), (6, .int (iI x3)), (0, .ref o), (1, .int (iI (bI left))), (2, .int (iI col)), (3, .int (iI row)), (4, .int (iI fd)), (5, .int (iI it))]) hx hb dX3_top_81 hl (by decide) (fun _ => rfl) (fun x14 ex14 ls hl => ?_)
            refine lv_iload hx hb dX3_top_83 (lv_at hl 0 rfl) ?_
            refine j_if_eq (tgt := 93) hx hb dX3_top_85 (by decide) (by omega) (fun c85 => ?_) (fun c85 => ?_)
            · refine lv_iload hx hb dX3_top_93 (lv_at hl 6 rfl) ?_
              refine j_istore (lv' := fun x15 => [(4, .int (iI x15)), (7, .int (iI x14)), (6, .int (iI x3)), (0, .ref o), (1, .int (iI (bI left))), (2, .int (iI col)), (3, .int (iI row)), (5, .int (iI it))]) hx hb dX3_top_95 hl (by decide) (fun _ => rfl) (fun x15 ex15 ls hl => ?_)
              refine j_iinc (k := 7) (lv' := fun x16 => [(5, .int (iI x16)), (4, .int (iI x15)), (7, .int (iI x14)), (6, .int (iI x3)), (0, .ref o), (1, .int (iI (bI left))), (2, .int (iI col)), (3, .int (iI row))]) hx hb dX3_top_97 hl rfl (by decide) (fun _ => rfl) (fun x16 ex16 ls hl => ?_)
              refine lv_goto (tgt := 8) hx hb dX3_top_100 (by decide) ?_
              exact ih_8 x15 x16 (by omega) (by first | assumption | omega) (by first | assumption | omega) (by first | exact absurd ex14 c85 | exact absurd (ex14.symm.trans c85) (by decide) | skip; rw [ex15, ex16, show (it + 1).toNat = it.toNat + 1 by omega, topF, show ((it.toNat : Nat) : Int) = it by omega, ← i3, ← ex3]; first | exact (pI_t ⟨c48, c73⟩).symm | exact (pI_f (fun q => c48 q.1)).symm | exact (pI_f (fun q => c73 q.2)).symm) _ _ hH ls (lv_sub hl [4, 5, 6, 7, 1, 0] rfl)
            · refine lv_iload hx hb dX3_top_88 (lv_at hl 1 rfl) ?_
              refine lv_goto (tgt := 95) hx hb dX3_top_90 (by decide) ?_
              refine j_istore (lv' := fun x17 => [(4, .int (iI x17)), (7, .int (iI x14)), (6, .int (iI x3)), (0, .ref o), (1, .int (iI (bI left))), (2, .int (iI col)), (3, .int (iI row)), (5, .int (iI it))]) hx hb dX3_top_95 hl (by decide) (fun _ => rfl) (fun x17 ex17 ls hl => ?_)
              refine j_iinc (k := 7) (lv' := fun x18 => [(5, .int (iI x18)), (4, .int (iI x17)), (7, .int (iI x14)), (6, .int (iI x3)), (0, .ref o), (1, .int (iI (bI left))), (2, .int (iI col)), (3, .int (iI row))]) hx hb dX3_top_97 hl rfl (by decide) (fun _ => rfl) (fun x18 ex18 ls hl => ?_)
              refine lv_goto (tgt := 8) hx hb dX3_top_100 (by decide) ?_
              exact ih_8 x17 x18 (by omega) (by first | assumption | omega) (by first | assumption | omega) (by first | exact absurd ex14 c85 | exact absurd (ex14.symm.trans c85) (by decide) | skip; rw [ex17, ex18, show (it + 1).toNat = it.toNat + 1 by omega, topF, show ((it.toNat : Nat) : Int) = it by omega, ← i3, ← ex3]; first | exact (pI_t ⟨c48, c73⟩).symm | exact (pI_f (fun q => c48 q.1)).symm | exact (pI_f (fun q => c73 q.2)).symm) _ _ hH ls (lv_sub hl [4, 5, 6, 7, 1, 0] rfl)
  exact L8 ((cntO (st 0) - x2).toNat + 1) x1 x2 (by omega) (by first | assumption | omega) (by first | assumption | omega) (by rw [ex1, ex2]; rfl) _ _ hH ls (lv_sub hl [2, 3, 4, 5, 1, 0] rfl)
theorem cw_X3_isTitle {R : Room} {s : State} {args : Array Value} {own : String} {index lev mc ms : Nat} (hts : ∀ w ∈ lw_all, w.before args s = true) (hl : Cond.methodLink own index yX3_isTitle ∈ lw_all) (hR1 : (rmL lev mc ms).frames + 1 ≤ R.frames) (hR2 : 8 + (4 + 11) + (rmL lev mc ms).locals ≤ R.locals) : CallW R s args own RX3 index yX3_isTitle cX3_isTitle 4 (some .boolean) (ws_ yX3_isTitle cX3_isTitle 4 (some .boolean)) (rmL lev mc ms) mc ms 3 :=
  cwV 3 hts (lw_V hl q2590 qs93 q116 q2591) rfl rfl rfl (by decide +kernel) ⟨hR1, hR2⟩
set_option maxHeartbeats 4000000 in
theorem m_X3_isTitle {E : jE} (l : Launch) (o : Nat) (st : Ms) (w0 : Wl) (T : Int) (left : Prop) (col : Int) (row : Int) (h1 : PWF T (st 0)) (h2 : SVC st) (h3 : -1 ≤ col ∧ col ≤ 200) (h4 : -1 ≤ row ∧ row ≤ 200) : Met l yX3_isTitle (ws_ yX3_isTitle cX3_isTitle 4 (some .boolean)) (rmL 3 0 0) (va_Pc [.ref o, .int (iI (bI left)), .int (iI col), .int (iI row)] (jP E (wM E o st w0))) (jQi E (fun u : Ms => wM E o u w0) (fun z u => z = bI (istO (st 0) left col row) ∧ u = st)) 0 0 (jA E) := by
  refine j_metZ (by decide) (Nat.le_of_ble_eq_true rfl) ?_
  intro p e s m args below meth c Q hx hb hml hown hnm hts hV hH hret ls hl
  have hl : lv_has ls 4 [(0, .ref o), (1, .int (iI (bI left))), (2, .int (iI col)), (3, .int (iI row))] := hl
  have hA := h1.A
  have hB := h1.B
  have hC := h1.C
  obtain ⟨hPL, hSH, hOR, hMK, hTI, hPC⟩ := id h2
  have hti := tic_or h1 hTI
  have hcO := colO_b (left := left) (A := 199) (x := st 0 11) (d := tsO (st 0)) (by omega)
  refine lv_aload_n hx hb dX3_isTitle_0 rfl (lv_at hl 0 rfl) ?_
  refine j_get hx hb hts hown hV hH wM_o rfl in_X3 17 (Nat.le_of_ble_eq_true rfl) q2246 (fun _ h => h) rfl dX3_isTitle_1 ?_
  refine j_if_eq (tgt := 52) hx hb dX3_isTitle_4 (by decide) (by omega) (fun c4 => ?_) (fun c4 => ?_)
  · refine j_iconst hx hb dX3_isTitle_52 ?_
    exact hret st hH dX3_isTitle_53 (Nat.le_of_ble_eq_true rfl) (Nat.le_of_ble_eq_true rfl) (by decide) (⟨by first | exact bT ⟨⟨by omega, by omega⟩, by omega⟩ | exact bF (fun q => by have := q.1; omega) | exact bF (fun q => c45 (by have := q.2; omega)), rfl⟩)
  · refine lv_iload_n hx hb dX3_isTitle_7 rfl (lv_at hl 3 rfl) ?_
    refine lv_aload_n hx hb dX3_isTitle_8 rfl (lv_at hl 0 rfl) ?_
    refine j_get hx hb hts hown hV hH wM_o rfl in_X3 18 (Nat.le_of_ble_eq_true rfl) q2247 (fun _ h => h) rfl dX3_isTitle_9 ?_
    refine j_icmp_ne (tgt := 52) hx hb dX3_isTitle_12 (by decide) (by omega) (by omega) (fun c12 => ?_) (fun c12 => ?_)
    · refine j_iconst hx hb dX3_isTitle_52 ?_
      exact hret st hH dX3_isTitle_53 (Nat.le_of_ble_eq_true rfl) (Nat.le_of_ble_eq_true rfl) (by decide) (⟨by first | exact bT ⟨⟨by omega, by omega⟩, by omega⟩ | exact bF (fun q => by have := q.1; omega) | exact bF (fun q => c45 (by have := q.2; omega)), rfl⟩)
    · refine lv_iload_n hx hb dX3_isTitle_15 rfl (lv_at hl 2 rfl) ?_
      refine lv_aload_n hx hb dX3_isTitle_16 rfl (lv_at hl 0 rfl) ?_
      refine j_get hx hb hts hown hV hH wM_o rfl in_X3 0 (Nat.le_of_ble_eq_true rfl) q2229 (fun _ h => h) rfl dX3_isTitle_17 ?_
      refine j_bipush hx hb dX3_isTitle_20 (by decide) ?_
      refine j_iald (n := 198) hx hb hV hH wM_0 (by omega) (by omega) dX3_isTitle_22 ?_
      refine lv_aload_n hx hb dX3_isTitle_23 rfl (lv_at hl 0 rfl) ?_
      refine j_get hx hb hts hown hV hH wM_o rfl in_X3 19 (Nat.le_of_ble_eq_true rfl) q2248 (fun _ h => h) rfl dX3_isTitle_24 ?_
      refine j_top (b := tsO (st 0)) (by omega) ?_
      refine lv_iload_n hx hb dX3_isTitle_27 rfl (lv_at hl 1 rfl) ?_
      have hcO := hcO (by omega)
      refine j_callip (va_runS (As := [.int (iI (st 0 11)), .int (iI (tsO (st 0))), .int (iI (bI left))]) (rest := [.int (iI col)]) ⟨hx, hb, hml, hown, hts⟩ (m_X3_column l _ (st 0 11) (tsO (st 0)) left (by omega) (by omega)) (cw_X3_column hts q2510 (Nat.le_of_ble_eq_true rfl) (Nat.le_of_ble_eq_true rfl)) (j_preS hV hH) rfl rfl hl.1 rfl (lv_room (Nat.le_of_ble_eq_true rfl)) dX3_isTitle_28 ⟨Nat.le_of_ble_eq_true rfl, Nat.le_of_ble_eq_true rfl⟩) hH (fun H locs hH => ?_)
      refine j_isub hx hb dX3_isTitle_31 ?_
      refine j_iconst hx hb dX3_isTitle_32 ?_
      refine lv_aload_n hx hb dX3_isTitle_33 rfl (lv_at hl 0 rfl) ?_
      refine j_get hx hb hts hown hV hH wM_o rfl in_X3 0 (Nat.le_of_ble_eq_true rfl) q2229 (fun _ h => h) rfl dX3_isTitle_34 ?_
      refine j_bipush hx hb dX3_isTitle_37 (by decide) ?_
      refine j_iald (n := 198) hx hb hV hH wM_0 (by omega) (by omega) dX3_isTitle_39 ?_
      refine j_iconst hx hb dX3_isTitle_40 ?_
      refine j_isub hx hb dX3_isTitle_41 ?_
      refine j_callip (va_runS (As := [.int (iI (col - (colO (st 0 11) (tsO (st 0)) left))), .int (iI 0), .int (iI ((st 0 13) - 1))]) (rest := []) ⟨hx, hb, hml, hown, hts⟩ (m_X3_in l _ (col - (colO (st 0 11) (tsO (st 0)) left)) 0 ((st 0 13) - 1) (by omega) (by omega) (by omega)) (cw_X3_in hts q2313 (Nat.le_of_ble_eq_true rfl) (Nat.le_of_ble_eq_true rfl)) (j_preS hV hH) rfl rfl hl.1 rfl (lv_room (Nat.le_of_ble_eq_true rfl)) dX3_isTitle_42 ⟨Nat.le_of_ble_eq_true rfl, Nat.le_of_ble_eq_true rfl⟩) hH (fun H locs hH => ?_)
      refine j_ifeq_b (tgt := 52) hx hb dX3_isTitle_45 (by decide) (fun c45 => ?_) (fun c45 => ?_)
      · refine j_iconst hx hb dX3_isTitle_52 ?_
        exact hret st hH dX3_isTitle_53 (Nat.le_of_ble_eq_true rfl) (Nat.le_of_ble_eq_true rfl) (by decide) (⟨by first | exact bT ⟨⟨by omega, by omega⟩, by omega⟩ | exact bF (fun q => by have := q.1; omega) | exact bF (fun q => c45 (by have := q.2; omega)), rfl⟩)
      · refine j_iconst hx hb dX3_isTitle_48 ?_
        refine lv_goto (tgt := 53) hx hb dX3_isTitle_49 (by decide) ?_
        exact hret st hH dX3_isTitle_53 (Nat.le_of_ble_eq_true rfl) (Nat.le_of_ble_eq_true rfl) (by decide) (⟨by first | exact bT ⟨⟨by omega, by omega⟩, by omega⟩ | exact bF (fun q => by have := q.1; omega) | exact bF (fun q => c45 (by have := q.2; omega)), rfl⟩)
theorem cw_X3_shadeOf {R : Room} {s : State} {args : Array Value} {own : String} {index lev mc ms : Nat} (hts : ∀ w ∈ lw_all, w.before args s = true) (hl : Cond.methodLink own index yX3_shadeOf ∈ lw_all) (hR1 : (rmL lev mc ms).frames + 1 ≤ R.frames) (hR2 : 8 + (5 + 11) + (rmL lev mc ms).locals ≤ R.locals) : CallW R s args own RX3 index yX3_shadeOf cX3_shadeOf 5 (some .int) (ws_ yX3_shadeOf cX3_shadeOf 5 (some .int)) (rmL lev mc ms) mc ms 3 :=
  cwV 3 hts (lw_V hl q2582 qs91 q116 q2583) rfl rfl rfl (by decide +kernel) ⟨hR1, hR2⟩
set_option maxHeartbeats 4000000 in
theorem m_X3_shadeOf {E : jE} (l : Launch) (o : Nat) (st : Ms) (w0 : Wl) (T : Int) (left : Prop) (col : Int) (row : Int) (h1 : PWF T (st 0)) (h2 : SVC st) (h3 : -1 ≤ col ∧ col ≤ 200) (h4 : -1 ≤ row ∧ row ≤ 200) : Met l yX3_shadeOf (ws_ yX3_shadeOf cX3_shadeOf 5 (some .int)) (rmL 5 0 0) (va_Pc [.ref o, .int (iI (bI left)), .int (iI col), .int (iI row)] (jP E (wM E o st w0))) (jQi E (fun u : Ms => wM E o u w0) (fun z u => z = shadO (st 0) left col row ∧ u = st)) 0 0 (jA E) := by
  refine j_metI (by decide) (Nat.le_of_ble_eq_true rfl) ?_
  intro p e s m args below meth c Q hx hb hml hown hnm hts hV hH hret ls hl
  have hl : lv_has ls 5 [(0, .ref o), (1, .int (iI (bI left))), (2, .int (iI col)), (3, .int (iI row))] := hl
  have hA := h1.A
  have hB := h1.B
  have hC := h1.C
  obtain ⟨hPL, hSH, hOR, hMK, hTI, hPC⟩ := id h2
  have hmk1 := mskO_b h1 True
  have hmk2 := mskO_b h1 False
  have htb := topO_b h1 left col row
  have hmk3 : 0 ≤ mlO (st 0) ∧ mlO (st 0) ≤ 20 := hmk1
  have hmk4 : 0 ≤ mrO (st 0) ∧ mrO (st 0) ≤ 20 := hmk2
  refine lv_iload_n hx hb dX3_shadeOf_0 rfl (lv_at hl 1 rfl) ?_
  refine j_ifeq_b (tgt := 15) hx hb dX3_shadeOf_1 (by decide) (fun c1 => ?_) (fun c1 => ?_)
  · refine lv_iload_n hx hb dX3_shadeOf_15 rfl (lv_at hl 2 rfl) ?_
    refine lv_aload_n hx hb dX3_shadeOf_16 rfl (lv_at hl 0 rfl) ?_
    refine j_get hx hb hts hown hV hH wM_o rfl in_X3 0 (Nat.le_of_ble_eq_true rfl) q2229 (fun _ h => h) rfl dX3_shadeOf_17 ?_
    refine j_iconst hx hb dX3_shadeOf_20 ?_
    refine j_iald (n := 198) hx hb hV hH wM_0 (by omega) (by omega) dX3_shadeOf_21 ?_
    refine lv_aload_n hx hb dX3_shadeOf_22 rfl (lv_at hl 0 rfl) ?_
    refine j_get hx hb hts hown hV hH wM_o rfl in_X3 16 (Nat.le_of_ble_eq_true rfl) q2245 (fun _ h => h) rfl dX3_shadeOf_23 ?_
    refine j_top (b := mrO (st 0)) (hMK.2) ?_
    refine j_isub hx hb dX3_shadeOf_26 ?_
    refine j_icmp_lt (tgt := 32) hx hb dX3_shadeOf_27 (by decide) (by omega) (by omega) (fun c27 => ?_) (fun c27 => ?_)
    · have hmk : ¬ mkdO (st 0) left col := by intro q; rcases q with q | q <;> first | exact c1 q.1 | exact q.1 c1 | exact absurd q.2 (by omega)
      refine lv_aload_n hx hb dX3_shadeOf_32 rfl (lv_at hl 0 rfl) ?_
      refine lv_iload_n hx hb dX3_shadeOf_33 rfl (lv_at hl 1 rfl) ?_
      refine lv_iload_n hx hb dX3_shadeOf_34 rfl (lv_at hl 2 rfl) ?_
      refine lv_iload_n hx hb dX3_shadeOf_35 rfl (lv_at hl 3 rfl) ?_
      refine j_callif (va_runV (As := [.int (iI (bI left)), .int (iI col), .int (iI row)]) (rest := []) ⟨hx, hb, hml, hown, hts⟩ (m_X3_top l o st w0 _ left col row (h1) (h2) (by omega) (by omega)) (cw_X3_top hts q2584 (Nat.le_of_ble_eq_true rfl) (Nat.le_of_ble_eq_true rfl)) (j_preV hV hH wM_o rfl) rfl rfl hl.1 rfl (lv_room (Nat.le_of_ble_eq_true rfl)) dX3_shadeOf_36 ⟨Nat.le_of_ble_eq_true rfl, Nat.le_of_ble_eq_true rfl⟩) hH (fun H locs hH => ?_)
      refine j_istore (lv' := fun x1 => [(4, .int (iI x1)), (0, .ref o), (1, .int (iI (bI left))), (2, .int (iI col)), (3, .int (iI row))]) hx hb dX3_shadeOf_39 hl (by decide) (fun _ => rfl) (fun x1 ex1 ls hl => ?_)
      refine lv_aload_n hx hb dX3_shadeOf_41 rfl (lv_at hl 1 rfl) ?_
      refine lv_iload_n hx hb dX3_shadeOf_42 rfl (lv_at hl 2 rfl) ?_
      refine lv_iload_n hx hb dX3_shadeOf_43 rfl (lv_at hl 3 rfl) ?_
      refine lv_iload_n hx hb dX3_shadeOf_44 rfl (lv_at hl 4 rfl) ?_
      refine j_callif (va_runV (As := [.int (iI (bI left)), .int (iI col), .int (iI row)]) (rest := []) ⟨hx, hb, hml, hown, hts⟩ (m_X3_isTitle l o st w0 _ left col row (h1) (h2) (by omega) (by omega)) (cw_X3_isTitle hts q2588 (Nat.le_of_ble_eq_true rfl) (Nat.le_of_ble_eq_true rfl)) (j_preV hV hH wM_o rfl) rfl rfl hl.1 rfl (lv_room (Nat.le_of_ble_eq_true rfl)) dX3_shadeOf_45 ⟨Nat.le_of_ble_eq_true rfl, Nat.le_of_ble_eq_true rfl⟩) hH (fun H locs hH => ?_)
      refine j_ifeq_b (tgt := 56) hx hb dX3_shadeOf_48 (by decide) (fun c48 => ?_) (fun c48 => ?_)
      · refine lv_iload hx hb dX3_shadeOf_56 (lv_at hl 0 rfl) ?_
        refine j_sipush hx hb dX3_shadeOf_58 (by decide) ?_
        refine j_icmp_ne (tgt := 74) hx hb dX3_shadeOf_61 (by decide) (by omega) (by omega) (fun c61 => ?_) (fun c61 => ?_)
        · refine lv_aload_n hx hb dX3_shadeOf_74 rfl (lv_at hl 1 rfl) ?_
          refine lv_iload hx hb dX3_shadeOf_75 (lv_at hl 0 rfl) ?_
          refine j_bipush hx hb dX3_shadeOf_77 (by decide) ?_
          refine j_callif (va_runV (As := [.int (iI x1), .int (iI 6)]) (rest := []) ⟨hx, hb, hml, hown, hts⟩ (m_X3_of l o st w0 x1 6 (by omega)) (cw_X3_of hts q2343 (Nat.le_of_ble_eq_true rfl) (Nat.le_of_ble_eq_true rfl)) (j_preV hV hH wM_o rfl) rfl rfl hl.1 rfl (lv_room (Nat.le_of_ble_eq_true rfl)) dX3_shadeOf_79 ⟨Nat.le_of_ble_eq_true rfl, Nat.le_of_ble_eq_true rfl⟩) hH (fun H locs hH => ?_)
          exact hret st hH dX3_shadeOf_82 (Nat.le_of_ble_eq_true rfl) (Nat.le_of_ble_eq_true rfl) (⟨by unfold shadO; rw [pI_f hmk]; first | exact (pI_t c48).symm | (rw [pI_f c48]; first | (rw [if_pos (by omega)]; done) | (rw [if_neg (by omega)]; rw [ex1])), rfl⟩)
        · refine lv_aload_n hx hb dX3_shadeOf_64 rfl (lv_at hl 1 rfl) ?_
          refine j_get hx hb hts hown hV hH wM_o rfl in_X3 0 (Nat.le_of_ble_eq_true rfl) q2229 (fun _ h => h) rfl dX3_shadeOf_65 ?_
          refine j_bipush hx hb dX3_shadeOf_68 (by decide) ?_
          refine j_iald (n := 198) hx hb hV hH wM_0 (by omega) (by omega) dX3_shadeOf_70 ?_
          refine lv_goto (tgt := 82) hx hb dX3_shadeOf_71 (by decide) ?_
          exact hret st hH dX3_shadeOf_82 (Nat.le_of_ble_eq_true rfl) (Nat.le_of_ble_eq_true rfl) (⟨by unfold shadO; rw [pI_f hmk]; first | exact (pI_t c48).symm | (rw [pI_f c48]; first | (rw [if_pos (by omega)]; done) | (rw [if_neg (by omega)]; rw [ex1])), rfl⟩)
      · refine j_bipush hx hb dX3_shadeOf_51 (by decide) ?_
        refine lv_goto (tgt := 82) hx hb dX3_shadeOf_53 (by decide) ?_
        exact hret st hH dX3_shadeOf_82 (Nat.le_of_ble_eq_true rfl) (Nat.le_of_ble_eq_true rfl) (⟨by unfold shadO; rw [pI_f hmk]; first | exact (pI_t c48).symm | (rw [pI_f c48]; first | (rw [if_pos (by omega)]; done) | (rw [if_neg (by omega)]; rw [ex1])), rfl⟩)
    · refine j_iconst hx hb dX3_shadeOf_30 ?_
      exact hret st hH dX3_shadeOf_31 (Nat.le_of_ble_eq_true rfl) (Nat.le_of_ble_eq_true rfl) (⟨by first | exact (pI_t (show mkdO (st 0) left col from Or.inr (And.intro c1 (by omega)))).symm | exact (pI_t (show mkdO (st 0) left col from Or.inl (And.intro c1 (by omega)))).symm, rfl⟩)
  · refine lv_iload_n hx hb dX3_shadeOf_4 rfl (lv_at hl 2 rfl) ?_
    refine lv_aload_n hx hb dX3_shadeOf_5 rfl (lv_at hl 0 rfl) ?_
    refine j_get hx hb hts hown hV hH wM_o rfl in_X3 15 (Nat.le_of_ble_eq_true rfl) q2244 (fun _ h => h) rfl dX3_shadeOf_6 ?_
    refine j_top (b := mlO (st 0)) (hMK.1) ?_
    refine j_icmp_ge (tgt := 32) hx hb dX3_shadeOf_9 (by decide) (by omega) (by omega) (fun c9 => ?_) (fun c9 => ?_)
    · have hmk : ¬ mkdO (st 0) left col := by intro q; rcases q with q | q <;> first | exact c1 q.1 | exact q.1 c1 | exact absurd q.2 (by omega)
      refine lv_aload_n hx hb dX3_shadeOf_32 rfl (lv_at hl 0 rfl) ?_
      refine lv_iload_n hx hb dX3_shadeOf_33 rfl (lv_at hl 1 rfl) ?_
      refine lv_iload_n hx hb dX3_shadeOf_34 rfl (lv_at hl 2 rfl) ?_
      refine lv_iload_n hx hb dX3_shadeOf_35 rfl (lv_at hl 3 rfl) ?_
      refine j_callif (va_runV (As := [.int (iI (bI left)), .int (iI col), .int (iI row)]) (rest := []) ⟨hx, hb, hml, hown, hts⟩ (m_X3_top l o st w0 _ left col row (h1) (h2) (by omega) (by omega)) (cw_X3_top hts q2584 (Nat.le_of_ble_eq_true rfl) (Nat.le_of_ble_eq_true rfl)) (j_preV hV hH wM_o rfl) rfl rfl hl.1 rfl (lv_room (Nat.le_of_ble_eq_true rfl)) dX3_shadeOf_36 ⟨Nat.le_of_ble_eq_true rfl, Nat.le_of_ble_eq_true rfl⟩) hH (fun H locs hH => ?_)
      refine j_istore (lv' := fun x2 => [(4, .int (iI x2)), (0, .ref o), (1, .int (iI (bI left))), (2, .int (iI col)), (3, .int (iI row))]) hx hb dX3_shadeOf_39 hl (by decide) (fun _ => rfl) (fun x2 ex2 ls hl => ?_)
      refine lv_aload_n hx hb dX3_shadeOf_41 rfl (lv_at hl 1 rfl) ?_
      refine lv_iload_n hx hb dX3_shadeOf_42 rfl (lv_at hl 2 rfl) ?_
      refine lv_iload_n hx hb dX3_shadeOf_43 rfl (lv_at hl 3 rfl) ?_
      refine lv_iload_n hx hb dX3_shadeOf_44 rfl (lv_at hl 4 rfl) ?_
      refine j_callif (va_runV (As := [.int (iI (bI left)), .int (iI col), .int (iI row)]) (rest := []) ⟨hx, hb, hml, hown, hts⟩ (m_X3_isTitle l o st w0 _ left col row (h1) (h2) (by omega) (by omega)) (cw_X3_isTitle hts q2588 (Nat.le_of_ble_eq_true rfl) (Nat.le_of_ble_eq_true rfl)) (j_preV hV hH wM_o rfl) rfl rfl hl.1 rfl (lv_room (Nat.le_of_ble_eq_true rfl)) dX3_shadeOf_45 ⟨Nat.le_of_ble_eq_true rfl, Nat.le_of_ble_eq_true rfl⟩) hH (fun H locs hH => ?_)
      refine j_ifeq_b (tgt := 56) hx hb dX3_shadeOf_48 (by decide) (fun c48 => ?_) (fun c48 => ?_)
      · refine lv_iload hx hb dX3_shadeOf_56 (lv_at hl 0 rfl) ?_
        refine j_sipush hx hb dX3_shadeOf_58 (by decide) ?_
        refine j_icmp_ne (tgt := 74) hx hb dX3_shadeOf_61 (by decide) (by omega) (by omega) (fun c61 => ?_) (fun c61 => ?_)
        · refine lv_aload_n hx hb dX3_shadeOf_74 rfl (lv_at hl 1 rfl) ?_
          refine lv_iload hx hb dX3_shadeOf_75 (lv_at hl 0 rfl) ?_
          refine j_bipush hx hb dX3_shadeOf_77 (by decide) ?_
          refine j_callif (va_runV (As := [.int (iI x2), .int (iI 6)]) (rest := []) ⟨hx, hb, hml, hown, hts⟩ (m_X3_of l o st w0 x2 6 (by omega)) (cw_X3_of hts q2343 (Nat.le_of_ble_eq_true rfl) (Nat.le_of_ble_eq_true rfl)) (j_preV hV hH wM_o rfl) rfl rfl hl.1 rfl (lv_room (Nat.le_of_ble_eq_true rfl)) dX3_shadeOf_79 ⟨Nat.le_of_ble_eq_true rfl, Nat.le_of_ble_eq_true rfl⟩) hH (fun H locs hH => ?_)
          exact hret st hH dX3_shadeOf_82 (Nat.le_of_ble_eq_true rfl) (Nat.le_of_ble_eq_true rfl) (⟨by unfold shadO; rw [pI_f hmk]; first | exact (pI_t c48).symm | (rw [pI_f c48]; first | (rw [if_pos (by omega)]; done) | (rw [if_neg (by omega)]; rw [ex2])), rfl⟩)
        · refine lv_aload_n hx hb dX3_shadeOf_64 rfl (lv_at hl 1 rfl) ?_
          refine j_get hx hb hts hown hV hH wM_o rfl in_X3 0 (Nat.le_of_ble_eq_true rfl) q2229 (fun _ h => h) rfl dX3_shadeOf_65 ?_
          refine j_bipush hx hb dX3_shadeOf_68 (by decide) ?_
          refine j_iald (n := 198) hx hb hV hH wM_0 (by omega) (by omega) dX3_shadeOf_70 ?_
          refine lv_goto (tgt := 82) hx hb dX3_shadeOf_71 (by decide) ?_
          exact hret st hH dX3_shadeOf_82 (Nat.le_of_ble_eq_true rfl) (Nat.le_of_ble_eq_true rfl) (⟨by unfold shadO; rw [pI_f hmk]; first | exact (pI_t c48).symm | (rw [pI_f c48]; first | (rw [if_pos (by omega)]; done) | (rw [if_neg (by omega)]; rw [ex2])), rfl⟩)
      · refine j_bipush hx hb dX3_shadeOf_51 (by decide) ?_
        refine lv_goto (tgt := 82) hx hb dX3_shadeOf_53 (by decide) ?_
        exact hret st hH dX3_shadeOf_82 (Nat.le_of_ble_eq_true rfl) (Nat.le_of_ble_eq_true rfl) (⟨by unfold shadO; rw [pI_f hmk]; first | exact (pI_t c48).symm | (rw [pI_f c48]; first | (rw [if_pos (by omega)]; done) | (rw [if_neg (by omega)]; rw [ex2])), rfl⟩)
    · refine lv_goto (tgt := 30) hx hb dX3_shadeOf_12 (by decide) ?_
      refine j_iconst hx hb dX3_shadeOf_30 ?_
      exact hret st hH dX3_shadeOf_31 (Nat.le_of_ble_eq_true rfl) (Nat.le_of_ble_eq_true rfl) (⟨by first | exact (pI_t (show mkdO (st 0) left col from Or.inr (And.intro c1 (by omega)))).symm | exact (pI_t (show mkdO (st 0) left col from Or.inl (And.intro c1 (by omega)))).symm, rfl⟩)
