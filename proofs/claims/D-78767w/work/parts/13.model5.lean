/-! THE REFERENCE's METHODS: the title's search, the survey -/
set_option maxRecDepth 100000
theorem upF_0 {p : Int → Prop} {f : Nat} {t : Int} (h : f = 0) : upF p f t = -1 := by subst h; rfl
theorem row_s {P : Int → Int} {row x : Int} (hx : x = row - 1) (h0 : 0 ≤ row) (h : ftO P row = -1) : rowF P (row + 1).toNat row = rowF P (x + 1).toNat x := by
  rw [show (row + 1).toNat = (x + 1).toNat + 1 by omega, rowF, if_pos h, hx]
theorem row_h {P : Int → Int} {row : Int} (h0 : 0 ≤ row) (h : ftO P row ≠ -1) : rowF P (row + 1).toNat row = row := by
  rw [show (row + 1).toNat = row.toNat + 1 by omega, rowF, if_neg h]
theorem tic_end {st : Ms} {ia ib ic row : Int} (o1 : -1 ≤ row) (o2 : ia = 0 ∨ ia = 1) (o3 : ia = 0 → rowF (st 0) (st 0 12 + 1).toNat (st 0 12) = rowF (st 0) (row + 1).toNat row) (o4 : ia = 1 → 0 < st 0 13 ∧ rowF (st 0) (st 0 12 + 1).toNat (st 0 12) = ib ∧ ib ≠ -1 ∧ ftO (st 0) ib = ic) (h : row < 0 ∨ ¬ 0 < st 0 13 ∨ ia ≠ 0) : TIC (tiO st ia ib ic) := by
  have e0 : tiO st ia ib ic 0 = st 0 := tiO_k st ia ib ic (by decide) (by decide) (by decide)
  unfold TIC
  rw [e0, tiO_17, tiO_18, tiO_19]
  rcases o2 with h0 | h1
  · have ht : trO (st 0) = -1 := by
      unfold trO
      by_cases hp : 0 < st 0 13
      · rw [if_pos hp, o3 h0, show (row + 1).toNat = 0 by omega]; rfl
      · rw [if_neg hp]
    rw [ht]
    exact ⟨by rw [if_pos rfl]; exact h0, fun q => absurd rfl q⟩
  · have h4 := o4 h1
    have ht : trO (st 0) = ib := by
      unfold trO
      rw [if_pos h4.1]; exact h4.2.1
    unfold tsO
    rw [ht]
    exact ⟨by rw [if_neg h4.2.2.1]; exact h1, fun _ => ⟨rfl, h4.2.2.2.symm⟩⟩
theorem cw_X3_findTitle {R : Room} {s : State} {args : Array Value} {own : String} {index lev mc ms : Nat} (hts : ∀ w ∈ lw_all, w.before args s = true) (hl : Cond.methodLink own index yX3_findTitle ∈ lw_all) (hR1 : (rmL lev mc ms).frames + 1 ≤ R.frames) (hR2 : 8 + (3 + 11) + (rmL lev mc ms).locals ≤ R.locals) : CallW R s args own RX3 index yX3_findTitle cX3_findTitle 3 none (ws_ yX3_findTitle cX3_findTitle 3 none) (rmL lev mc ms) mc ms 0 :=
  cwV 0 hts (lw_V hl q2526 qs82 q116 q2527) rfl rfl rfl (by decide +kernel) ⟨hR1, hR2⟩
set_option maxHeartbeats 4000000 in
theorem m_X3_findTitle {E : jE} (l : Launch) (o : Nat) (st : Ms) (w0 : Wl) (T : Int) (h1 : PWF T (st 0)) (h2 : PLC st) (h3 : SHC st) (h4 : ORC st) (h5 : MKC st) : Met l yX3_findTitle (ws_ yX3_findTitle cX3_findTitle 3 none) (rmL 5 0 0) (va_Pc [.ref o] (jP E (wM E o st w0))) (jQv E (fun u : Int × Int × Int => wM E o (tiO st u.1 u.2.1 u.2.2) w0) (fun u => TIC (tiO st u.1 u.2.1 u.2.2))) 0 0 (jA E) := by
  refine j_metV (by decide) (Nat.le_of_ble_eq_true rfl) ?_
  intro p e s m args below meth c Q hx hb hml hown hnm hts hV hH hret ls hl
  have hl : lv_has ls 3 [(0, .ref o)] := hl
  have hA := h1.A
  have hB := h1.B
  have hC := h1.C
  refine lv_aload_n hx hb dX3_findTitle_0 rfl (lv_at hl 0 rfl) ?_
  refine j_iconst hx hb dX3_findTitle_1 ?_
  refine j_put hx hb hts hown hV hH wM_o rfl in_X3 tyX3 tyX3_ok nmX3 17 (Nat.le_of_ble_eq_true rfl) q2246 (fun _ h => h) rfl (nar_01 (by decide)) (fit_01 (by decide)) (Nat.le_of_ble_eq_true rfl) dX3_findTitle_2 (fun H locs hH => ?_)
  rw [wM_f17] at hH
  refine lv_aload_n hx hb dX3_findTitle_5 rfl (lv_at hl 0 rfl) ?_
  refine j_get hx hb hts hown hV hH wM_o rfl in_X3 0 (Nat.le_of_ble_eq_true rfl) q2229 (fun _ h => h) rfl dX3_findTitle_6 ?_
  refine j_bipush hx hb dX3_findTitle_9 (by decide) ?_
  refine j_iald (n := 198) hx hb hV hH wM_0 (by omega) (by omega) dX3_findTitle_11 ?_
  refine j_top (b := st 0 12) (rfl) ?_
  refine j_istore_n (lv' := fun x1 => [(1, .int (iI x1)), (0, .ref o)]) hx hb dX3_findTitle_12 rfl hl (by decide) (fun _ => rfl) (fun x1 ex1 ls hl => ?_)
  have L13 : ∀ (n_ : Nat), ∀ (row : Int) (ia : Int) (ib : Int) (ic : Int) (hm_ : row + 1 < (n_ : Int)) (o1 : -1 ≤ row ∧ row ≤ 119) (o2 : ia = 0 ∨ ia = 1) (o3 : ia = 0 → rowF (st 0) (st 0 12 + 1).toNat (st 0 12) = rowF (st 0) (row + 1).toNat row) (o4 : ia = 1 → 0 < st 0 13 ∧ rowF (st 0) (st 0 12 + 1).toNat (st 0 12) = ib ∧ ib ≠ -1 ∧ ftO (st 0) ib = ic) (H : Heap) (locs : List Loc), jH E s.heap (wM E o (tiO st ia ib ic) w0) H locs → ∀ ls : Array Slot, lv_has ls 3 [(0, .ref o), (1, .int (iI row))] → W p l e (rmL 5 0 0) s m args below meth c H locs 0 0 Q (F0 m 13 ls []) := by
    intro n_
    induction n_ with
    | zero =>
      intro row ia ib ic hm_ o1 o2 o3 o4 H locs hH ls hl
      exact absurd hm_ (by omega)
    | succ n_ ih_13 =>
      intro row ia ib ic hm_ o1 o2 o3 o4 H locs hH ls hl
      refine lv_iload_n hx hb dX3_findTitle_13 rfl (lv_at hl 1 rfl) ?_
      refine j_if_lt (tgt := 105) hx hb dX3_findTitle_14 (by decide) (by omega) (fun c14 => ?_) (fun c14 => ?_)
      · exact hret (ia, ib, ic) hH dX3_findTitle_105 (Nat.le_of_ble_eq_true rfl) (Nat.le_of_ble_eq_true rfl) ((tic_end o1.1 o2 o3 o4 (by first | exact Or.inl c14 | exact Or.inr (Or.inl (by omega)) | exact Or.inr (Or.inr c31))))
      · refine lv_aload_n hx hb dX3_findTitle_17 rfl (lv_at hl 0 rfl) ?_
        refine j_get hx hb hts hown hV hH wM_o rfl in_X3 0 (Nat.le_of_ble_eq_true rfl) q2229 (fun _ h => h) rfl dX3_findTitle_18 ?_
        refine j_bipush hx hb dX3_findTitle_21 (by decide) ?_
        refine j_iald (n := 198) hx hb hV hH wM_0 (by omega) (by omega) dX3_findTitle_23 ?_
        refine j_top (b := st 0 13) (rfl) ?_
        refine j_if_le (tgt := 105) hx hb dX3_findTitle_24 (by decide) (by omega) (fun c24 => ?_) (fun c24 => ?_)
        · exact hret (ia, ib, ic) hH dX3_findTitle_105 (Nat.le_of_ble_eq_true rfl) (Nat.le_of_ble_eq_true rfl) ((tic_end o1.1 o2 o3 o4 (by first | exact Or.inl c14 | exact Or.inr (Or.inl (by omega)) | exact Or.inr (Or.inr c31))))
        · refine lv_aload_n hx hb dX3_findTitle_27 rfl (lv_at hl 0 rfl) ?_
          refine j_get hx hb hts hown hV hH wM_o rfl in_X3 17 (Nat.le_of_ble_eq_true rfl) q2246 (fun _ h => h) rfl dX3_findTitle_28 ?_
          refine j_top (b := ia) (tiO_17 st ia ib ic) ?_
          refine j_if_ne (tgt := 105) hx hb dX3_findTitle_31 (by decide) (by omega) (fun c31 => ?_) (fun c31 => ?_)
          · exact hret (ia, ib, ic) hH dX3_findTitle_105 (Nat.le_of_ble_eq_true rfl) (Nat.le_of_ble_eq_true rfl) ((tic_end o1.1 o2 o3 o4 (by first | exact Or.inl c14 | exact Or.inr (Or.inl (by omega)) | exact Or.inr (Or.inr c31))))
          · refine j_iconst hx hb dX3_findTitle_34 ?_
            refine j_istore_n (lv' := fun x2 => [(2, .int (iI x2)), (0, .ref o), (1, .int (iI row))]) hx hb dX3_findTitle_35 rfl hl (by decide) (fun _ => rfl) (fun x2 ex2 ls hl => ?_)
            have L36 : ∀ (n_ : Nat), ∀ (t : Int) (ja : Int) (jb : Int) (jc : Int) (hm_ : st 0 6 + 1 - t < (n_ : Int)) (k1 : 0 ≤ t ∧ t ≤ st 0 6 + 1) (k2 : ja = 0 ∨ ja = 1) (k3 : ja = 0 → ftO (st 0) row = upF (posO (st 0) row) (st 0 6 + 1 - t).toNat t) (k4 : ja = 1 → jb = row ∧ jc = ftO (st 0) row ∧ ftO (st 0) row ≠ -1) (H : Heap) (locs : List Loc), jH E s.heap (wM E o (tiO st ja jb jc) w0) H locs → ∀ ls : Array Slot, lv_has ls 3 [(0, .ref o), (1, .int (iI row)), (2, .int (iI t))] → W p l e (rmL 5 0 0) s m args below meth c H locs 0 0 Q (F0 m 36 ls []) := by
              intro n_
              induction n_ with
              | zero =>
                intro t ja jb jc hm_ k1 k2 k3 k4 H locs hH ls hl
                exact absurd hm_ (by omega)
              | succ n_ ih_36 =>
                intro t ja jb jc hm_ k1 k2 k3 k4 H locs hH ls hl
                refine lv_iload_n hx hb dX3_findTitle_36 rfl (lv_at hl 2 rfl) ?_
                refine lv_aload_n hx hb dX3_findTitle_37 rfl (lv_at hl 0 rfl) ?_
                refine j_get hx hb hts hown hV hH wM_o rfl in_X3 0 (Nat.le_of_ble_eq_true rfl) q2229 (fun _ h => h) rfl dX3_findTitle_38 ?_
                refine j_bipush hx hb dX3_findTitle_41 (by decide) ?_
                refine j_iald (n := 198) hx hb hV hH wM_0 (by omega) (by omega) dX3_findTitle_43 ?_
                refine j_top (b := st 0 6) (rfl) ?_
                refine j_icmp_gt (tgt := 99) hx hb dX3_findTitle_44 (by decide) (by omega) (by omega) (fun c44 => ?_) (fun c44 => ?_)
                · refine j_iinc (k := 1) (lv' := fun x3 => [(1, .int (iI x3)), (0, .ref o), (2, .int (iI t))]) hx hb dX3_findTitle_99 hl rfl (by decide) (fun _ => rfl) (fun x3 ex3 ls hl => ?_)
                  refine lv_goto (tgt := 13) hx hb dX3_findTitle_102 (by decide) ?_
                  exact ih_13 x3 ja jb jc (by omega) (by omega) (k2) (by intro q; rw [o3 (by omega)]; exact row_s (by omega) (by omega) (by rw [k3 q]; exact upF_0 (by omega))) (by intro q; have k5 := k4 q; refine ⟨by omega, ?_, ?_, ?_⟩; (rw [o3 (by omega), row_h (by omega) k5.2.2]; exact k5.1.symm); omega; (rw [k5.1]; exact k5.2.1.symm)) _ _ hH ls (lv_sub hl [1, 0] rfl)
                · refine lv_aload_n hx hb dX3_findTitle_47 rfl (lv_at hl 0 rfl) ?_
                  refine j_get hx hb hts hown hV hH wM_o rfl in_X3 17 (Nat.le_of_ble_eq_true rfl) q2246 (fun _ h => h) rfl dX3_findTitle_48 ?_
                  refine j_top (b := ja) (tiO_17 st ja jb jc) ?_
                  refine j_if_ne (tgt := 99) hx hb dX3_findTitle_51 (by decide) (by omega) (fun c51 => ?_) (fun c51 => ?_)
                  · refine j_iinc (k := 1) (lv' := fun x4 => [(1, .int (iI x4)), (0, .ref o), (2, .int (iI t))]) hx hb dX3_findTitle_99 hl rfl (by decide) (fun _ => rfl) (fun x4 ex4 ls hl => ?_)
                    refine lv_goto (tgt := 13) hx hb dX3_findTitle_102 (by decide) ?_
                    exact ih_13 x4 ja jb jc (by omega) (by omega) (k2) (by intro q; rw [o3 (by omega)]; exact row_s (by omega) (by omega) (by rw [k3 q]; exact upF_0 (by omega))) (by intro q; have k5 := k4 q; refine ⟨by omega, ?_, ?_, ?_⟩; (rw [o3 (by omega), row_h (by omega) k5.2.2]; exact k5.1.symm); omega; (rw [k5.1]; exact k5.2.1.symm)) _ _ hH ls (lv_sub hl [1, 0] rfl)
                  · refine lv_aload_n hx hb dX3_findTitle_54 rfl (lv_at hl 0 rfl) ?_
                    refine lv_aload_n hx hb dX3_findTitle_55 rfl (lv_at hl 0 rfl) ?_
                    refine lv_iload_n hx hb dX3_findTitle_56 rfl (lv_at hl 1 rfl) ?_
                    refine lv_iload_n hx hb dX3_findTitle_57 rfl (lv_at hl 2 rfl) ?_
                    refine j_iconst hx hb dX3_findTitle_58 ?_
                    refine j_callif (va_runV (As := [.int (iI row), .int (iI t), .int (iI (bI True))]) (rest := [.ref o]) ⟨hx, hb, hml, hown, hts⟩ (m_X3_isClear l o (tiO st ja jb jc) w0 _ row t True (h1) (h2) (h3) (h4) (h5) (by omega) (by omega)) (cw_X3_isClear hts q2528 (Nat.le_of_ble_eq_true rfl) (Nat.le_of_ble_eq_true rfl)) (j_preV hV hH wM_o rfl) rfl rfl hl.1 (by simp only [bI_T, bI_F]; rfl) (lv_room (Nat.le_of_ble_eq_true rfl)) dX3_findTitle_59 ⟨Nat.le_of_ble_eq_true rfl, Nat.le_of_ble_eq_true rfl⟩) hH (fun H locs hH => ?_)
                    refine j_top (b := bI (clrO (st 0) (mlO (st 0)) (mrO (st 0)) row t True)) rfl ?_
                    refine j_ifeq_b (tgt := 79) hx hb dX3_findTitle_62 (by decide) (fun c62 => ?_) (fun c62 => ?_)
                    · refine j_iconst hx hb dX3_findTitle_79 ?_
                      refine j_put hx hb hts hown hV hH wM_o rfl in_X3 tyX3 tyX3_ok nmX3 17 (Nat.le_of_ble_eq_true rfl) q2246 (fun _ h => h) rfl (nar_01 (by decide)) (fit_01 (by decide)) (Nat.le_of_ble_eq_true rfl) dX3_findTitle_80 (fun H locs hH => ?_)
                      rw [wM_f17] at hH
                      refine lv_aload_n hx hb dX3_findTitle_83 rfl (lv_at hl 0 rfl) ?_
                      refine lv_iload_n hx hb dX3_findTitle_84 rfl (lv_at hl 1 rfl) ?_
                      refine j_put hx hb hts hown hV hH wM_o rfl in_X3 tyX3 tyX3_ok nmX3 18 (Nat.le_of_ble_eq_true rfl) q2247 (fun _ h => h) rfl rfl rfl (Nat.le_of_ble_eq_true rfl) dX3_findTitle_85 (fun H locs hH => ?_)
                      rw [wM_f18] at hH
                      refine lv_aload_n hx hb dX3_findTitle_88 rfl (lv_at hl 0 rfl) ?_
                      refine lv_iload_n hx hb dX3_findTitle_89 rfl (lv_at hl 2 rfl) ?_
                      refine j_put hx hb hts hown hV hH wM_o rfl in_X3 tyX3 tyX3_ok nmX3 19 (Nat.le_of_ble_eq_true rfl) q2248 (fun _ h => h) rfl rfl rfl (Nat.le_of_ble_eq_true rfl) dX3_findTitle_90 (fun H locs hH => ?_)
                      rw [wM_f19] at hH
                      refine j_iinc (k := 2) (lv' := fun x5 => [(2, .int (iI x5)), (0, .ref o), (1, .int (iI row))]) hx hb dX3_findTitle_93 hl rfl (by decide) (fun _ => rfl) (fun x5 ex5 ls hl => ?_)
                      refine lv_goto (tgt := 36) hx hb dX3_findTitle_96 (by decide) ?_
                      rw [tiO_s] at hH
                      exact ih_36 x5 0 row t (by omega) (by omega) (by omega) (by intro q; first | exact absurd q (by decide) | (rw [k3 (by omega), show (st 0 6 + 1 - t).toNat = (st 0 6 + 1 - x5).toNat + 1 by omega, upF_n (fun hp => by first | exact c62 hp.1 | exact c72 hp.2), ex5])) (by intro q; first | exact absurd q (by decide) | (have e1 : ftO (st 0) row = t := (by rw [k3 (by omega), show (st 0 6 + 1 - t).toNat = (st 0 6 + 1 - x5).toNat + 1 by omega]; exact upF_s ⟨c62, c72⟩); exact ⟨rfl, e1.symm, by omega⟩)) _ _ hH ls (lv_sub hl [1, 2, 0] rfl)
                    · refine lv_aload_n hx hb dX3_findTitle_65 rfl (lv_at hl 0 rfl) ?_
                      refine lv_iload_n hx hb dX3_findTitle_66 rfl (lv_at hl 1 rfl) ?_
                      refine lv_iload_n hx hb dX3_findTitle_67 rfl (lv_at hl 2 rfl) ?_
                      refine j_iconst hx hb dX3_findTitle_68 ?_
                      refine j_callif (va_runV (As := [.int (iI row), .int (iI t), .int (iI (bI False))]) (rest := [.ref o]) ⟨hx, hb, hml, hown, hts⟩ (m_X3_isClear l o (tiO st ja jb jc) w0 _ row t False (h1) (h2) (h3) (h4) (h5) (by omega) (by omega)) (cw_X3_isClear hts q2528 (Nat.le_of_ble_eq_true rfl) (Nat.le_of_ble_eq_true rfl)) (j_preV hV hH wM_o rfl) rfl rfl hl.1 (by simp only [bI_T, bI_F]; rfl) (lv_room (Nat.le_of_ble_eq_true rfl)) dX3_findTitle_69 ⟨Nat.le_of_ble_eq_true rfl, Nat.le_of_ble_eq_true rfl⟩) hH (fun H locs hH => ?_)
                      refine j_top (b := bI (clrO (st 0) (mlO (st 0)) (mrO (st 0)) row t False)) rfl ?_
                      refine j_ifeq_b (tgt := 79) hx hb dX3_findTitle_72 (by decide) (fun c72 => ?_) (fun c72 => ?_)
                      · refine j_iconst hx hb dX3_findTitle_79 ?_
                        refine j_put hx hb hts hown hV hH wM_o rfl in_X3 tyX3 tyX3_ok nmX3 17 (Nat.le_of_ble_eq_true rfl) q2246 (fun _ h => h) rfl (nar_01 (by decide)) (fit_01 (by decide)) (Nat.le_of_ble_eq_true rfl) dX3_findTitle_80 (fun H locs hH => ?_)
                        rw [wM_f17] at hH
                        refine lv_aload_n hx hb dX3_findTitle_83 rfl (lv_at hl 0 rfl) ?_
                        refine lv_iload_n hx hb dX3_findTitle_84 rfl (lv_at hl 1 rfl) ?_
                        refine j_put hx hb hts hown hV hH wM_o rfl in_X3 tyX3 tyX3_ok nmX3 18 (Nat.le_of_ble_eq_true rfl) q2247 (fun _ h => h) rfl rfl rfl (Nat.le_of_ble_eq_true rfl) dX3_findTitle_85 (fun H locs hH => ?_)
                        rw [wM_f18] at hH
                        refine lv_aload_n hx hb dX3_findTitle_88 rfl (lv_at hl 0 rfl) ?_
                        refine lv_iload_n hx hb dX3_findTitle_89 rfl (lv_at hl 2 rfl) ?_
                        refine j_put hx hb hts hown hV hH wM_o rfl in_X3 tyX3 tyX3_ok nmX3 19 (Nat.le_of_ble_eq_true rfl) q2248 (fun _ h => h) rfl rfl rfl (Nat.le_of_ble_eq_true rfl) dX3_findTitle_90 (fun H locs hH => ?_)
                        rw [wM_f19] at hH
                        refine j_iinc (k := 2) (lv' := fun x6 => [(2, .int (iI x6)), (0, .ref o), (1, .int (iI row))]) hx hb dX3_findTitle_93 hl rfl (by decide) (fun _ => rfl) (fun x6 ex6 ls hl => ?_)
                        refine lv_goto (tgt := 36) hx hb dX3_findTitle_96 (by decide) ?_
                        rw [tiO_s] at hH
                        exact ih_36 x6 0 row t (by omega) (by omega) (by omega) (by intro q; first | exact absurd q (by decide) | (rw [k3 (by omega), show (st 0 6 + 1 - t).toNat = (st 0 6 + 1 - x6).toNat + 1 by omega, upF_n (fun hp => by first | exact c62 hp.1 | exact c72 hp.2), ex6])) (by intro q; first | exact absurd q (by decide) | (have e1 : ftO (st 0) row = t := (by rw [k3 (by omega), show (st 0 6 + 1 - t).toNat = (st 0 6 + 1 - x6).toNat + 1 by omega]; exact upF_s ⟨c62, c72⟩); exact ⟨rfl, e1.symm, by omega⟩)) _ _ hH ls (lv_sub hl [1, 2, 0] rfl)
                      · refine j_iconst hx hb dX3_findTitle_75 ?_
                        refine lv_goto (tgt := 80) hx hb dX3_findTitle_76 (by decide) ?_
                        refine j_put hx hb hts hown hV hH wM_o rfl in_X3 tyX3 tyX3_ok nmX3 17 (Nat.le_of_ble_eq_true rfl) q2246 (fun _ h => h) rfl (nar_01 (by decide)) (fit_01 (by decide)) (Nat.le_of_ble_eq_true rfl) dX3_findTitle_80 (fun H locs hH => ?_)
                        rw [wM_f17] at hH
                        refine lv_aload_n hx hb dX3_findTitle_83 rfl (lv_at hl 0 rfl) ?_
                        refine lv_iload_n hx hb dX3_findTitle_84 rfl (lv_at hl 1 rfl) ?_
                        refine j_put hx hb hts hown hV hH wM_o rfl in_X3 tyX3 tyX3_ok nmX3 18 (Nat.le_of_ble_eq_true rfl) q2247 (fun _ h => h) rfl rfl rfl (Nat.le_of_ble_eq_true rfl) dX3_findTitle_85 (fun H locs hH => ?_)
                        rw [wM_f18] at hH
                        refine lv_aload_n hx hb dX3_findTitle_88 rfl (lv_at hl 0 rfl) ?_
                        refine lv_iload_n hx hb dX3_findTitle_89 rfl (lv_at hl 2 rfl) ?_
                        refine j_put hx hb hts hown hV hH wM_o rfl in_X3 tyX3 tyX3_ok nmX3 19 (Nat.le_of_ble_eq_true rfl) q2248 (fun _ h => h) rfl rfl rfl (Nat.le_of_ble_eq_true rfl) dX3_findTitle_90 (fun H locs hH => ?_)
                        rw [wM_f19] at hH
                        refine j_iinc (k := 2) (lv' := fun x7 => [(2, .int (iI x7)), (0, .ref o), (1, .int (iI row))]) hx hb dX3_findTitle_93 hl rfl (by decide) (fun _ => rfl) (fun x7 ex7 ls hl => ?_)
                        refine lv_goto (tgt := 36) hx hb dX3_findTitle_96 (by decide) ?_
                        rw [tiO_s] at hH
                        exact ih_36 x7 1 row t (by omega) (by omega) (by omega) (by intro q; first | exact absurd q (by decide) | (rw [k3 (by omega), show (st 0 6 + 1 - t).toNat = (st 0 6 + 1 - x7).toNat + 1 by omega, upF_n (fun hp => by first | exact c62 hp.1 | exact c72 hp.2), ex7])) (by intro q; first | exact absurd q (by decide) | (have e1 : ftO (st 0) row = t := (by rw [k3 (by omega), show (st 0 6 + 1 - t).toNat = (st 0 6 + 1 - x7).toNat + 1 by omega]; exact upF_s ⟨c62, c72⟩); exact ⟨rfl, e1.symm, by omega⟩)) _ _ hH ls (lv_sub hl [1, 2, 0] rfl)
            exact L36 ((st 0 6 + 1 - x2).toNat + 1) x2 ia ib ic (by omega) (by omega) (o2) (by intro _; rw [ex2]; unfold ftO; rw [show (st 0 6 + 1 - 0).toNat = (st 0 6 + 1).toNat by omega]) (by intro q; omega) _ _ hH ls (lv_sub hl [1, 2, 0] rfl)
  rw [tiO_i] at hH
  exact L13 ((x1 + 1).toNat + 1) x1 0 (st 18 0) (st 19 0) (by omega) (by rw [ex1]; omega) (Or.inl rfl) (by intro _; rw [ex1]) (by intro q; omega) _ _ hH ls (lv_sub hl [1, 0] rfl)
theorem su_o {st : Ms} {k k' : Nat} {z x : Int} (h : k' ≠ k) : su st k z x k' = st k' := by
  funext b
  simp [su, h]
theorem su_e {st : Ms} {k : Nat} {z x : Int} : su st k z x k z = x := by simp [su]
theorem cw_X3_survey {R : Room} {s : State} {args : Array Value} {own : String} {index lev mc ms : Nat} (hts : ∀ w ∈ lw_all, w.before args s = true) (hl : Cond.methodLink own index yX3_survey ∈ lw_all) (hR1 : (rmL lev mc ms).frames + 1 ≤ R.frames) (hR2 : 8 + (2 + 11) + (rmL lev mc ms).locals ≤ R.locals) : CallW R s args own RX3 index yX3_survey cX3_survey 2 none (ws_ yX3_survey cX3_survey 2 none) (rmL lev mc ms) mc ms 0 :=
  cwV 0 hts (lw_V hl q2465 qs69 q116 q2466) rfl rfl rfl (by decide +kernel) ⟨hR1, hR2⟩
set_option maxHeartbeats 4000000 in
theorem m_X3_survey {E : jE} (l : Launch) (o : Nat) (st : Ms) (w0 : Wl) (T : Int) (h1 : PWF T (st 0)) : Met l yX3_survey (ws_ yX3_survey cX3_survey 2 none) (rmL 7 0 0) (va_Pc [.ref o] (jP E (wM E o st w0))) (jQv E (fun u : Ms => wM E o (svO st u) w0) (fun u => SVC (svO st u))) 0 0 (jA E) := by
  refine j_metV (by decide) (Nat.le_of_ble_eq_true rfl) ?_
  intro p e s m args below meth c Q hx hb hml hown hnm hts hV hH hret ls hl
  have hl : lv_has ls 2 [(0, .ref o)] := hl
  have hA := h1.A
  have hB := h1.B
  have hC := h1.C
  have hPL : PLC (plO st (st 0 2)) := plO_C
  refine lv_aload_n hx hb dX3_survey_0 rfl (lv_at hl 0 rfl) ?_
  refine j_callvf (va_runV (As := []) (rest := []) ⟨hx, hb, hml, hown, hts⟩ (m_X3_places l o st w0 _ (h1)) (cw_X3_places hts q2467 (Nat.le_of_ble_eq_true rfl) (Nat.le_of_ble_eq_true rfl)) (j_preV hV hH wM_o rfl) rfl rfl hl.1 rfl (lv_room (Nat.le_of_ble_eq_true rfl)) dX3_survey_1 ⟨Nat.le_of_ble_eq_true rfl, Nat.le_of_ble_eq_true rfl⟩) hH (fun H locs hH => ?_)
  refine lv_aload_n hx hb dX3_survey_4 rfl (lv_at hl 0 rfl) ?_
  refine lv_aload_n hx hb dX3_survey_5 rfl (lv_at hl 0 rfl) ?_
  refine lv_aload_n hx hb dX3_survey_6 rfl (lv_at hl 0 rfl) ?_
  refine j_get hx hb hts hown hV hH wM_o rfl in_X3 0 (Nat.le_of_ble_eq_true rfl) q2229 (fun _ h => h) rfl dX3_survey_7 ?_
  refine j_iconst hx hb dX3_survey_10 ?_
  refine j_iald (n := 198) hx hb hV hH wM_0 (by omega) (by omega) dX3_survey_11 ?_
  refine j_top (b := st 0 5) (rfl) ?_
  refine lv_aload_n hx hb dX3_survey_12 rfl (lv_at hl 0 rfl) ?_
  refine j_get hx hb hts hown hV hH wM_o rfl in_X3 0 (Nat.le_of_ble_eq_true rfl) q2229 (fun _ h => h) rfl dX3_survey_13 ?_
  refine j_bipush hx hb dX3_survey_16 (by decide) ?_
  refine j_iald (n := 198) hx hb hV hH wM_0 (by omega) (by omega) dX3_survey_18 ?_
  refine j_top (b := st 0 6) (rfl) ?_
  refine j_callif (va_runV (As := [.int (iI (st 0 5)), .int (iI (st 0 6))]) (rest := [.ref o]) ⟨hx, hb, hml, hown, hts⟩ (m_X3_percentageBy l o (plO st (st 0 2)) w0 _ (st 0 5) (st 0 6) (h1) (hPL) (by omega) (by omega)) (cw_X3_percentageBy hts q2475 (Nat.le_of_ble_eq_true rfl) (Nat.le_of_ble_eq_true rfl)) (j_preV hV hH wM_o rfl) rfl rfl hl.1 rfl (lv_room (Nat.le_of_ble_eq_true rfl)) dX3_survey_19 ⟨Nat.le_of_ble_eq_true rfl, Nat.le_of_ble_eq_true rfl⟩) hH (fun H locs hH => ?_)
  refine j_top (b := pctO (st 0) (st 0 5) (st 0 6)) rfl ?_
  refine j_put hx hb hts hown hV hH wM_o rfl in_X3 tyX3 tyX3_ok nmX3 12 (Nat.le_of_ble_eq_true rfl) q2241 (fun _ h => h) rfl rfl rfl (Nat.le_of_ble_eq_true rfl) dX3_survey_22 (fun H locs hH => ?_)
  rw [wM_f12] at hH
  refine j_iconst hx hb dX3_survey_25 ?_
  refine j_istore_n (lv' := fun x1 => [(1, .int (iI x1)), (0, .ref o)]) hx hb dX3_survey_26 rfl hl (by decide) (fun _ => rfl) (fun x1 ex1 ls hl => ?_)
  have L27 : ∀ (n_ : Nat), ∀ (it : Int) (hm_ : st 0 2 - it < (n_ : Int)) (i1 : 0 ≤ it) (i2 : it ≤ st 0 2) (H : Heap) (locs : List Loc), jH E s.heap (wM E o (shfO (su (plO st (st 0 2)) 12 0 (pctO (st 0) (st 0 5) (st 0 6))) it) w0) H locs → ∀ ls : Array Slot, lv_has ls 2 [(0, .ref o), (1, .int (iI it))] → W p l e (rmL 7 0 0) s m args below meth c H locs 0 0 Q (F0 m 27 ls []) := by
    intro n_
    induction n_ with
    | zero =>
      intro it hm_ i1 i2 H locs hH ls hl
      exact absurd hm_ (by omega)
    | succ n_ ih_27 =>
      intro it hm_ i1 i2 H locs hH ls hl
      refine lv_iload_n hx hb dX3_survey_27 rfl (lv_at hl 1 rfl) ?_
      refine lv_aload_n hx hb dX3_survey_28 rfl (lv_at hl 0 rfl) ?_
      refine j_get hx hb hts hown hV hH wM_o rfl in_X3 0 (Nat.le_of_ble_eq_true rfl) q2229 (fun _ h => h) rfl dX3_survey_29 ?_
      refine j_iconst hx hb dX3_survey_32 ?_
      refine j_iald (n := 198) hx hb hV hH wM_0 (by omega) (by omega) dX3_survey_33 ?_
      refine j_top (b := st 0 2) (rfl) ?_
      refine j_icmp_ge (tgt := 64) hx hb dX3_survey_34 (by decide) (by omega) (by omega) (fun c34 => ?_) (fun c34 => ?_)
      · have hit : it = st 0 2 := by omega
        have hSH : SHC (shfO (su (plO st (st 0 2)) 12 0 (pctO (st 0) (st 0 5) (st 0 6))) it) := by rw [hit]; exact shfO_C (st := su (plO st (st 0 2)) 12 0 (pctO (st 0) (st 0 5) (st 0 6)))
        refine lv_aload_n hx hb dX3_survey_64 rfl (lv_at hl 0 rfl) ?_
        refine j_callv (va_runV (As := []) (rest := []) ⟨hx, hb, hml, hown, hts⟩ (m_X3_sort l o (shfO (su (plO st (st 0 2)) 12 0 (pctO (st 0) (st 0 5) (st 0 6))) it) w0 _ (h1) (hSH)) (cw_X3_sort hts q2490 (Nat.le_of_ble_eq_true rfl) (Nat.le_of_ble_eq_true rfl)) (j_preV hV hH wM_o rfl) rfl rfl hl.1 rfl (lv_room (Nat.le_of_ble_eq_true rfl)) dX3_survey_65 ⟨Nat.le_of_ble_eq_true rfl, Nat.le_of_ble_eq_true rfl⟩) hH (fun u H locs hp hH => ?_)
        obtain ⟨u3, huu3⟩ : ∃ q, q = u := ⟨_, rfl⟩
        subst huu3
        have hH : jH E s.heap (wM E o (srO (shfO (su (plO st (st 0 2)) 12 0 (pctO (st 0) (st 0 5) (st 0 6))) it) u3.1 u3.2) w0) H locs := hH
        have hp65 : (fun u => u.2 = cntO (st 0) ∧ ∀ j : Int, 0 ≤ j → j < cntO (st 0) → u.1 j = ordO (st 0) j) u3 := hp
        have hOR : ORC ((srO (shfO (su (plO st (st 0 2)) 12 0 (pctO (st 0) (st 0 5) (st 0 6))) it) u3.1 u3.2)) := ⟨(srO_14 _ _ _).trans hp65.1, hp65.2⟩
        refine lv_aload_n hx hb dX3_survey_68 rfl (lv_at hl 0 rfl) ?_
        refine lv_aload_n hx hb dX3_survey_69 rfl (lv_at hl 0 rfl) ?_
        refine j_iconst hx hb dX3_survey_70 ?_
        refine j_callif (va_runV (As := [.int (iI (bI True))]) (rest := [.ref o]) ⟨hx, hb, hml, hown, hts⟩ (m_X3_mask l o (srO (shfO (su (plO st (st 0 2)) 12 0 (pctO (st 0) (st 0 5) (st 0 6))) it) u3.1 u3.2) w0 _ True (h1) (hPL) (hSH) (hOR)) (cw_X3_mask hts q2494 (Nat.le_of_ble_eq_true rfl) (Nat.le_of_ble_eq_true rfl)) (j_preV hV hH wM_o rfl) rfl rfl hl.1 (by simp only [bI_T, bI_F]; rfl) (lv_room (Nat.le_of_ble_eq_true rfl)) dX3_survey_71 ⟨Nat.le_of_ble_eq_true rfl, Nat.le_of_ble_eq_true rfl⟩) hH (fun H locs hH => ?_)
        refine j_top (b := mskO (st 0) True) rfl ?_
        refine j_put hx hb hts hown hV hH wM_o rfl in_X3 tyX3 tyX3_ok nmX3 15 (Nat.le_of_ble_eq_true rfl) q2244 (fun _ h => h) rfl rfl rfl (Nat.le_of_ble_eq_true rfl) dX3_survey_74 (fun H locs hH => ?_)
        rw [wM_f15] at hH
        refine lv_aload_n hx hb dX3_survey_77 rfl (lv_at hl 0 rfl) ?_
        refine lv_aload_n hx hb dX3_survey_78 rfl (lv_at hl 0 rfl) ?_
        refine j_iconst hx hb dX3_survey_79 ?_
        refine j_callif (va_runV (As := [.int (iI (bI False))]) (rest := [.ref o]) ⟨hx, hb, hml, hown, hts⟩ (m_X3_mask l o (su (srO (shfO (su (plO st (st 0 2)) 12 0 (pctO (st 0) (st 0 5) (st 0 6))) it) u3.1 u3.2) 15 0 (mskO (st 0) True)) w0 _ False (h1) (hPL) (hSH) (hOR)) (cw_X3_mask hts q2494 (Nat.le_of_ble_eq_true rfl) (Nat.le_of_ble_eq_true rfl)) (j_preV hV hH wM_o rfl) rfl rfl hl.1 (by simp only [bI_T, bI_F]; rfl) (lv_room (Nat.le_of_ble_eq_true rfl)) dX3_survey_80 ⟨Nat.le_of_ble_eq_true rfl, Nat.le_of_ble_eq_true rfl⟩) hH (fun H locs hH => ?_)
        refine j_top (b := mskO (st 0) False) rfl ?_
        refine j_put hx hb hts hown hV hH wM_o rfl in_X3 tyX3 tyX3_ok nmX3 16 (Nat.le_of_ble_eq_true rfl) q2245 (fun _ h => h) rfl rfl rfl (Nat.le_of_ble_eq_true rfl) dX3_survey_83 (fun H locs hH => ?_)
        rw [wM_f16] at hH
        refine lv_aload_n hx hb dX3_survey_86 rfl (lv_at hl 0 rfl) ?_
        refine j_callv (va_runV (As := []) (rest := []) ⟨hx, hb, hml, hown, hts⟩ (m_X3_findTitle l o (su (su (srO (shfO (su (plO st (st 0 2)) 12 0 (pctO (st 0) (st 0 5) (st 0 6))) it) u3.1 u3.2) 15 0 (mskO (st 0) True)) 16 0 (mskO (st 0) False)) w0 _ (h1) (hPL) (hSH) (hOR) (⟨rfl, rfl⟩)) (cw_X3_findTitle hts q2524 (Nat.le_of_ble_eq_true rfl) (Nat.le_of_ble_eq_true rfl)) (j_preV hV hH wM_o rfl) rfl rfl hl.1 rfl (lv_room (Nat.le_of_ble_eq_true rfl)) dX3_survey_87 ⟨Nat.le_of_ble_eq_true rfl, Nat.le_of_ble_eq_true rfl⟩) hH (fun u H locs hp hH => ?_)
        obtain ⟨u5, huu5⟩ : ∃ q, q = u := ⟨_, rfl⟩
        subst huu5
        have hH : jH E s.heap (wM E o (tiO (su (su (srO (shfO (su (plO st (st 0 2)) 12 0 (pctO (st 0) (st 0 5) (st 0 6))) it) u3.1 u3.2) 15 0 (mskO (st 0) True)) 16 0 (mskO (st 0) False)) u5.1 u5.2.1 u5.2.2) w0) H locs := hH
        have hp87 : (fun u => TIC (tiO (su (su (srO (shfO (su (plO st (st 0 2)) 12 0 (pctO (st 0) (st 0 5) (st 0 6))) it) u3.1 u3.2) 15 0 (mskO (st 0) True)) 16 0 (mskO (st 0) False)) u.1 u.2.1 u.2.2)) u5 := hp
        have hout : ∀ k : Nat, k < 8 ∨ 19 < k → ((tiO (su (su (srO (shfO (su (plO st (st 0 2)) 12 0 (pctO (st 0) (st 0 5) (st 0 6))) it) u3.1 u3.2) 15 0 (mskO (st 0) True)) 16 0 (mskO (st 0) False)) u5.1 u5.2.1 u5.2.2)) k = st k := by intro k hk; rw [tiO_k _ _ _ _ (by omega) (by omega) (by omega), su_o (by omega), su_o (by omega), srO_k _ _ _ (by omega) (by omega), shfO_k _ _ (by omega), su_o (by omega), plO_k _ _ (by omega) (by omega) (by omega)]
        rw [← svO_mk hout] at hH
        exact hret (tiO (su (su (srO (shfO (su (plO st (st 0 2)) 12 0 (pctO (st 0) (st 0 5) (st 0 6))) it) u3.1 u3.2) 15 0 (mskO (st 0) True)) 16 0 (mskO (st 0) False)) u5.1 u5.2.1 u5.2.2) hH dX3_survey_90 (Nat.le_of_ble_eq_true rfl) (Nat.le_of_ble_eq_true rfl) ((by show SVC (svO st _); rw [svO_mk hout]; exact ⟨hPL, hSH, hOR, ⟨rfl, rfl⟩, hp87, rfl⟩))
      · have hrq := rawOq_b h1 (n := it) (Or.inr ⟨i1, c34⟩) (pctO_b (st 0) (st 0 5) (st 0 6))
        refine lv_aload_n hx hb dX3_survey_37 rfl (lv_at hl 0 rfl) ?_
        refine j_get hx hb hts hown hV hH wM_o rfl in_X3 11 (Nat.le_of_ble_eq_true rfl) q2240 (fun _ h => h) rfl dX3_survey_38 ?_
        refine lv_iload_n hx hb dX3_survey_41 rfl (lv_at hl 1 rfl) ?_
        refine lv_aload_n hx hb dX3_survey_42 rfl (lv_at hl 0 rfl) ?_
        refine lv_iload_n hx hb dX3_survey_43 rfl (lv_at hl 1 rfl) ?_
        refine j_callif (va_runV (As := [.int (iI it)]) (rest := [.int (iI it), .ref (o + 9)]) ⟨hx, hb, hml, hown, hts⟩ (m_X3_raw l o (shfO (su (plO st (st 0 2)) 12 0 (pctO (st 0) (st 0 5) (st 0 6))) it) w0 _ it (h1) (by omega) (show it < st 0 2 by omega) ((hPL it i1 c34).2.2)) (cw_X3_raw hts q2483 (Nat.le_of_ble_eq_true rfl) (Nat.le_of_ble_eq_true rfl)) (j_preV hV hH wM_o rfl) rfl rfl hl.1 rfl (lv_room (Nat.le_of_ble_eq_true rfl)) dX3_survey_44 ⟨Nat.le_of_ble_eq_true rfl, Nat.le_of_ble_eq_true rfl⟩) hH (fun H locs hH => ?_)
        refine j_top (b := rawO (st 0) it) rfl ?_
        refine lv_aload_n hx hb dX3_survey_47 rfl (lv_at hl 0 rfl) ?_
        refine j_get hx hb hts hown hV hH wM_o rfl in_X3 12 (Nat.le_of_ble_eq_true rfl) q2241 (fun _ h => h) rfl dX3_survey_48 ?_
        refine j_top (b := pctO (st 0) (st 0 5) (st 0 6)) rfl ?_
        refine j_imul hx hb dX3_survey_51 ?_
        refine j_bipush hx hb dX3_survey_52 (by decide) ?_
        refine j_callip (va_runS (As := [.int (iI ((rawO (st 0) it) * (pctO (st 0) (st 0 5) (st 0 6)))), .int (iI 100)]) (rest := [.int (iI it), .ref (o + 9)]) ⟨hx, hb, hml, hown, hts⟩ (m_X3_floor l _ ((rawO (st 0) it) * (pctO (st 0) (st 0 5) (st 0 6))) 100 (by omega) (by omega)) (cw_X3_floor hts q2487 (Nat.le_of_ble_eq_true rfl) (Nat.le_of_ble_eq_true rfl)) (j_preS hV hH) rfl rfl hl.1 rfl (lv_room (Nat.le_of_ble_eq_true rfl)) dX3_survey_54 ⟨Nat.le_of_ble_eq_true rfl, Nat.le_of_ble_eq_true rfl⟩) hH (fun H locs hH => ?_)
        refine j_iast (n := 20) hx hb hV hH wM_11 (by omega) (by omega) dX3_survey_57 (fun H locs hH => ?_)
        rw [wM_s11] at hH
        refine j_iinc (k := 1) (lv' := fun x6 => [(1, .int (iI x6)), (0, .ref o)]) hx hb dX3_survey_58 hl rfl (by decide) (fun _ => rfl) (fun x6 ex6 ls hl => ?_)
        refine lv_goto (tgt := 27) hx hb dX3_survey_61 (by decide) ?_
        have hss := shfO_s (su (plO st (st 0 2)) 12 0 (pctO (st 0) (st 0 5) (st 0 6))) i1
        rw [show (it + 1) = x6 from ex6.symm] at hss
        have hH : jH E s.heap (wM E o (shfO (su (plO st (st 0 2)) 12 0 (pctO (st 0) (st 0 5) (st 0 6))) x6) w0) H locs := by rw [← hss]; exact hH
        exact ih_27 x6 (by omega) (by first | assumption | omega) (by first | assumption | omega) _ _ hH ls (lv_sub hl [1, 0] rfl)
  have hH : jH E s.heap (wM E o (shfO (su (plO st (st 0 2)) 12 0 (pctO (st 0) (st 0 5) (st 0 6))) x1) w0) H locs := by rw [ex1, shfO_0]; exact hH
  exact L27 ((st 0 2 - x1).toNat + 1) x1 (by omega) (by first | assumption | omega) (by first | assumption | omega) _ _ hH ls (lv_sub hl [1, 0] rfl)
