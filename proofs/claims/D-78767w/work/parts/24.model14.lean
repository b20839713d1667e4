/-! THE REFERENCE's METHODS: words and commands -/
set_option maxRecDepth 100000
theorem cmdO_b (v : Int) : cmdO v = -1000 ∨ (0 ≤ cmdO v ∧ cmdO v ≤ 8) := by
  unfold cmdO
  omega
theorem wdO_b (t : Int → Int) (L p : Int) : wdO t L p = -1000 ∨ (0 ≤ wdO t L p ∧ wdO t L p ≤ 8) := by
  unfold wdO
  split
  · exact Or.inl rfl
  · exact cmdO_b _
theorem manO_b (c : Int) : 1 ≤ manO c ∧ manO c ≤ 6 := by
  unfold manO
  split
  · omega
  · split
    · omega
    · split
      · omega
      · split <;> omega
theorem rdN_stuck {t : Int → Int} {L p : Int} {k : Nat} (h : (rdN t L p k).1 ≠ 1) : ∀ d : Nat, rdN t L p (k + d) = rdN t L p k
  | 0 => rfl
  | d + 1 => by
    have ih := rdN_stuck h d
    show (if (rdN t L p (k + d)).1 = 1 then nuO t L (rdN t L p (k + d)).2 else rdN t L p (k + d)) = _
    rw [ih, if_neg h]
theorem rdN_s {t : Int → Int} {L p : Int} {k : Nat} (h : (rdN t L p k).1 = 1) : rdN t L p (k + 1) = nuO t L (rdN t L p k).2 := if_pos h
theorem rcO_w {t : Int → Int} {L p : Int} (h : wdO t L p = -1000) : rcO t L p = (0, p) := by
  unfold rcO; rw [if_pos h]
theorem rcO_f {t : Int → Int} {L p : Int} (h : wdO t L p ≠ -1000) (h2 : (rdN t L (leO t L p) (manO (wdO t L p)).toNat).1 ≠ 1) : rcO t L p = rdN t L (leO t L p) (manO (wdO t L p)).toNat := by
  unfold rcO; rw [if_neg h, if_neg h2]
theorem rcO_y {t : Int → Int} {L p : Int} (h : wdO t L p ≠ -1000) (h2 : (rdN t L (leO t L p) (manO (wdO t L p)).toNat).1 = 1) (h3 : herO t L (skO t L (rdN t L (leO t L p) (manO (wdO t L p)).toNat).2) = 59) : rcO t L p = (1, skO t L (rdN t L (leO t L p) (manO (wdO t L p)).toNat).2 + 1) := by
  unfold rcO; rw [if_neg h, if_pos h2, if_pos h3]
theorem rcO_n {t : Int → Int} {L p : Int} (h : wdO t L p ≠ -1000) (h2 : (rdN t L (leO t L p) (manO (wdO t L p)).toNat).1 = 1) (h3 : herO t L (skO t L (rdN t L (leO t L p) (manO (wdO t L p)).toNat).2) ≠ 59) : rcO t L p = (0, skO t L (rdN t L (leO t L p) (manO (wdO t L p)).toNat).2) := by
  unfold rcO; rw [if_neg h, if_pos h2, if_neg h3]
theorem nuO_1 {t : Int → Int} {L p : Int} (h : (nuO t L p).1 = 1) : skO t L p ≠ p := by
  intro q
  unfold nuO at h
  rw [if_pos q] at h
  exact absurd (show (0 : Int) = 1 from h) (by decide)
theorem rc_fail {t : Int → Int} {L p k : Int} (hw : wdO t L p ≠ -1000) (h0 : 0 ≤ k) (hk : k < manO (wdO t L p)) (h1 : (rdN t L (leO t L p) k.toNat).1 = 1) (h2 : ¬ (nuO t L (rdN t L (leO t L p) k.toNat).2).1 = 1) : rcO t L p = nuO t L (rdN t L (leO t L p) k.toNat).2 := by
  have hs := rdN_s h1
  have hst := rdN_stuck (t := t) (L := L) (p := leO t L p) (k := k.toNat + 1) (by rw [hs]; exact h2) ((manO (wdO t L p)).toNat - (k.toNat + 1))
  rw [show k.toNat + 1 + ((manO (wdO t L p)).toNat - (k.toNat + 1)) = (manO (wdO t L p)).toNat by omega, hs] at hst
  rw [rcO_f hw (by rw [hst]; exact h2), hst]
theorem cw_X3_readWord {R : Room} {s : State} {args : Array Value} {own : String} {index lev mc ms : Nat} (hts : ∀ w ∈ lw_all, w.before args s = true) (hl : Cond.methodLink own index yX3_readWord ∈ lw_all) (hR1 : (rmL lev mc ms).frames + 1 ≤ R.frames) (hR2 : 8 + (4 + 11) + (rmL lev mc ms).locals ≤ R.locals) : CallW R s args own RX3 index yX3_readWord cX3_readWord 4 (some .boolean) (ws_ yX3_readWord cX3_readWord 4 (some .boolean)) (rmL lev mc ms) mc ms 0 :=
  cwV 0 hts (lw_V hl q2665 qs100 q116 q2666) rfl rfl rfl (by decide +kernel) ⟨hR1, hR2⟩
set_option maxHeartbeats 4000000 in
theorem m_X3_readWord {E : jE} (l : Launch) (o : Nat) (st : Ms) (w0 : Wl) (h1 : TXW st) (h2 : 0 ≤ st 20 0 ∧ st 20 0 ≤ st 5 0) : Met l yX3_readWord (ws_ yX3_readWord cX3_readWord 4 (some .boolean)) (rmL 2 0 0) (va_Pc [.ref o] (jP E (wM E o st w0))) (jQi E (fun u : Ms => wM E o u w0) (fun z u => z = bI (wdO (st 4) (st 5 0) (st 20 0) ≠ -1000) ∧ u = txO (st) (if wdO (st 4) (st 5 0) (st 20 0) = -1000 then st 20 0 else leO (st 4) (st 5 0) (st 20 0)) (wdO (st 4) (st 5 0) (st 20 0)) (st 22))) 0 0 (jA E) := by
  refine j_metZ (by decide) (Nat.le_of_ble_eq_true rfl) ?_
  intro p e s m args below meth c Q hx hb hml hown hnm hts hV hH hret ls hl
  have hl : lv_has ls 4 [(0, .ref o)] := hl
  have hT := h1.1
  have hwb := wdO_b (st 4) (st 5 0) (st 20 0)
  refine lv_aload_n hx hb dX3_readWord_0 rfl (lv_at hl 0 rfl) ?_
  refine j_get hx hb hts hown hV hH wM_o rfl in_X3 20 (Nat.le_of_ble_eq_true rfl) q2249 (fun _ h => h) rfl dX3_readWord_1 ?_
  refine j_istore_n (lv' := fun x1 => [(1, .int (iI x1)), (0, .ref o)]) hx hb dX3_readWord_4 rfl hl (by decide) (fun _ => rfl) (fun x1 ex1 ls hl => ?_)
  refine j_lconst (z := 0) hx hb dX3_readWord_5 (by decide +kernel) ?_
  refine j_lstore_n (lv' := fun x2 => [(2, .long (lL x2)), (1, .int (iI x1)), (0, .ref o)]) hx hb dX3_readWord_6 rfl hl (by decide) (fun _ => rfl) (fun x2 ex2 ls hl => ?_)
  have L7 : ∀ (n_ : Nat), ∀ (fr : Int) (its : Int) (pl : Int) (hm_ : st 5 0 - pl < (n_ : Int)) (i1 : fr = st 20 0) (i2 : st 20 0 ≤ pl) (i3 : pl ≤ st 5 0) (i4 : leO (st 4) (st 5 0) (st 20 0) = leO (st 4) (st 5 0) pl) (i5 : ∀ j : Int, st 20 0 ≤ j → j < pl → isLe (st 4 j)) (i6 : pl - st 20 0 ≤ 6 → its = wvF (st 4) (st 20 0) (pl - st 20 0).toNat) (H : Heap) (locs : List Loc), jH E s.heap (wM E o (txO st pl (st 21 0) (st 22)) w0) H locs → ∀ ls : Array Slot, lv_has ls 4 [(0, .ref o), (1, .int (iI fr)), (2, .long (lL its))] → W p l e (rmL 2 0 0) s m args below meth c H locs 0 0 Q (F0 m 7 ls []) := by
    intro n_
    induction n_ with
    | zero =>
      intro fr its pl hm_ i1 i2 i3 i4 i5 i6 H locs hH ls hl
      exact absurd hm_ (by omega)
    | succ n_ ih_7 =>
      intro fr its pl hm_ i1 i2 i3 i4 i5 i6 H locs hH ls hl
      have hhb := herO_b h1 (p := pl) (by omega)
      refine lv_aload_n hx hb dX3_readWord_7 rfl (lv_at hl 0 rfl) ?_
      refine j_callif (va_runV (As := []) (rest := []) ⟨hx, hb, hml, hown, hts⟩ (m_X3_here l o (txO st pl (st 21 0) (st 22)) w0 (h1) (show 0 ≤ pl ∧ pl ≤ st 5 0 by omega)) (cw_X3_here hts q2655 (Nat.le_of_ble_eq_true rfl) (Nat.le_of_ble_eq_true rfl)) (j_preV hV hH wM_o rfl) rfl rfl hl.1 rfl (lv_room (Nat.le_of_ble_eq_true rfl)) dX3_readWord_8 ⟨Nat.le_of_ble_eq_true rfl, Nat.le_of_ble_eq_true rfl⟩) hH (fun H locs hH => ?_)
      refine j_top (b := herO (st 4) (st 5 0) (pl)) rfl ?_
      refine j_bipush hx hb dX3_readWord_11 (by decide) ?_
      refine j_bipush hx hb dX3_readWord_13 (by decide) ?_
      refine j_callip (va_runS (As := [.int (iI (herO (st 4) (st 5 0) (pl))), .int (iI 97), .int (iI 122)]) (rest := []) ⟨hx, hb, hml, hown, hts⟩ (m_X3_in l _ (herO (st 4) (st 5 0) (pl)) 97 122 (by omega) (by omega) (by omega)) (cw_X3_in hts q2313 (Nat.le_of_ble_eq_true rfl) (Nat.le_of_ble_eq_true rfl)) (j_preS hV hH) rfl rfl hl.1 rfl (lv_room (Nat.le_of_ble_eq_true rfl)) dX3_readWord_15 ⟨Nat.le_of_ble_eq_true rfl, Nat.le_of_ble_eq_true rfl⟩) hH (fun H locs hH => ?_)
      refine j_ifeq_b (tgt := 67) hx hb dX3_readWord_18 (by decide) (fun c18 => ?_) (fun c18 => ?_)
      · have hle : leO (st 4) (st 5 0) (st 20 0) = pl := by rw [i4]; exact ruO_n (fun q z => by have z2 : 97 ≤ st 4 pl ∧ st 4 pl ≤ 122 := z; omega)
        refine lv_aload_n hx hb dX3_readWord_67 rfl (lv_at hl 0 rfl) ?_
        refine lv_aload_n hx hb dX3_readWord_68 rfl (lv_at hl 0 rfl) ?_
        refine j_get hx hb hts hown hV hH wM_o rfl in_X3 20 (Nat.le_of_ble_eq_true rfl) q2249 (fun _ h => h) rfl dX3_readWord_69 ?_
        refine j_top (b := pl) rfl ?_
        refine lv_iload_n hx hb dX3_readWord_72 rfl (lv_at hl 1 rfl) ?_
        refine j_isub hx hb dX3_readWord_73 ?_
        refine j_iconst hx hb dX3_readWord_74 ?_
        refine j_icmp_le (tgt := 84) hx hb dX3_readWord_75 (by decide) (by omega) (by omega) (fun c75 => ?_) (fun c75 => ?_)
        · have hwv := wvF_b (t := st 4) (p := st 20 0) (pl - st 20 0).toNat (by omega) (fun j a b => i5 j a (by omega))
          have hw5 : (27 : Int) ^ (pl - st 20 0).toNat ≤ 27 ^ 5 := by rcases (by omega : (pl - st 20 0).toNat = 0 ∨ (pl - st 20 0).toNat = 1 ∨ (pl - st 20 0).toNat = 2 ∨ (pl - st 20 0).toNat = 3 ∨ (pl - st 20 0).toNat = 4 ∨ (pl - st 20 0).toNat = 5) with q | q | q | q | q | q <;> rw [q] <;> decide
          have hit := i6 (by omega)
          refine lv_lload_n hx hb dX3_readWord_84 rfl (lv_at hl 2 rfl) ?_
          refine j_callip (va_runS (As := [.long (lL its)]) (rest := [.ref o]) ⟨hx, hb, hml, hown, hts⟩ (m_X3_commandOf l _ its (by omega)) (cw_X3_commandOf hts q2670 (Nat.le_of_ble_eq_true rfl) (Nat.le_of_ble_eq_true rfl)) (j_preS hV hH) rfl rfl hl.1 rfl (lv_room (Nat.le_of_ble_eq_true rfl)) dX3_readWord_85 ⟨Nat.le_of_ble_eq_true rfl, Nat.le_of_ble_eq_true rfl⟩) hH (fun H locs hH => ?_)
          refine j_top (b := wdO (st 4) (st 5 0) (st 20 0)) (by unfold wdO; rw [hle]; first | (rw [if_pos (by omega)]; done) | (rw [if_neg (by omega), hit])) ?_
          refine j_put hx hb hts hown hV hH wM_o rfl in_X3 tyX3 tyX3_ok nmX3 21 (Nat.le_of_ble_eq_true rfl) q2250 (fun _ h => h) rfl rfl rfl (Nat.le_of_ble_eq_true rfl) dX3_readWord_88 (fun H locs hH => ?_)
          rw [wM_f21] at hH
          refine lv_aload_n hx hb dX3_readWord_91 rfl (lv_at hl 0 rfl) ?_
          refine lv_aload_n hx hb dX3_readWord_92 rfl (lv_at hl 0 rfl) ?_
          refine j_get hx hb hts hown hV hH wM_o rfl in_X3 21 (Nat.le_of_ble_eq_true rfl) q2250 (fun _ h => h) rfl dX3_readWord_93 ?_
          refine j_top (b := wdO (st 4) (st 5 0) (st 20 0)) rfl ?_
          refine j_sipush hx hb dX3_readWord_96 (by decide) ?_
          refine j_icmp_ne (tgt := 106) hx hb dX3_readWord_99 (by decide) (by omega) (by omega) (fun c99 => ?_) (fun c99 => ?_)
          · refine lv_aload_n hx hb dX3_readWord_106 rfl (lv_at hl 0 rfl) ?_
            refine j_get hx hb hts hown hV hH wM_o rfl in_X3 20 (Nat.le_of_ble_eq_true rfl) q2249 (fun _ h => h) rfl dX3_readWord_107 ?_
            refine j_top (b := pl) rfl ?_
            refine j_put hx hb hts hown hV hH wM_o rfl in_X3 tyX3 tyX3_ok nmX3 20 (Nat.le_of_ble_eq_true rfl) q2249 (fun _ h => h) rfl rfl rfl (Nat.le_of_ble_eq_true rfl) dX3_readWord_110 (fun H locs hH => ?_)
            rw [wM_f20] at hH
            refine lv_aload_n hx hb dX3_readWord_113 rfl (lv_at hl 0 rfl) ?_
            refine j_get hx hb hts hown hV hH wM_o rfl in_X3 21 (Nat.le_of_ble_eq_true rfl) q2250 (fun _ h => h) rfl dX3_readWord_114 ?_
            refine j_top (b := wdO (st 4) (st 5 0) (st 20 0)) rfl ?_
            refine j_sipush hx hb dX3_readWord_117 (by decide) ?_
            refine j_icmp_eq (tgt := 127) hx hb dX3_readWord_120 (by decide) (by omega) (by omega) (fun c120 => ?_) (fun c120 => ?_)
            · refine j_iconst hx hb dX3_readWord_127 ?_
              exact hret (su (su (txO st pl (st 21 0) (st 22)) 21 0 (wdO (st 4) (st 5 0) (st 20 0))) 20 0 pl) hH dX3_readWord_128 (Nat.le_of_ble_eq_true rfl) (Nat.le_of_ble_eq_true rfl) (by decide) (⟨by first | exact bT (by omega) | exact bF (by omega), by rw [txO_c, txO_p]; first | (rw [if_pos (by omega), i1]; done) | (rw [if_neg (by omega), hle]; done)⟩)
            · refine j_iconst hx hb dX3_readWord_123 ?_
              refine lv_goto (tgt := 128) hx hb dX3_readWord_124 (by decide) ?_
              exact hret (su (su (txO st pl (st 21 0) (st 22)) 21 0 (wdO (st 4) (st 5 0) (st 20 0))) 20 0 pl) hH dX3_readWord_128 (Nat.le_of_ble_eq_true rfl) (Nat.le_of_ble_eq_true rfl) (by decide) (⟨by first | exact bT (by omega) | exact bF (by omega), by rw [txO_c, txO_p]; first | (rw [if_pos (by omega), i1]; done) | (rw [if_neg (by omega), hle]; done)⟩)
          · refine lv_iload_n hx hb dX3_readWord_102 rfl (lv_at hl 1 rfl) ?_
            refine lv_goto (tgt := 110) hx hb dX3_readWord_103 (by decide) ?_
            refine j_put hx hb hts hown hV hH wM_o rfl in_X3 tyX3 tyX3_ok nmX3 20 (Nat.le_of_ble_eq_true rfl) q2249 (fun _ h => h) rfl rfl rfl (Nat.le_of_ble_eq_true rfl) dX3_readWord_110 (fun H locs hH => ?_)
            rw [wM_f20] at hH
            refine lv_aload_n hx hb dX3_readWord_113 rfl (lv_at hl 0 rfl) ?_
            refine j_get hx hb hts hown hV hH wM_o rfl in_X3 21 (Nat.le_of_ble_eq_true rfl) q2250 (fun _ h => h) rfl dX3_readWord_114 ?_
            refine j_top (b := wdO (st 4) (st 5 0) (st 20 0)) rfl ?_
            refine j_sipush hx hb dX3_readWord_117 (by decide) ?_
            refine j_icmp_eq (tgt := 127) hx hb dX3_readWord_120 (by decide) (by omega) (by omega) (fun c120 => ?_) (fun c120 => ?_)
            · refine j_iconst hx hb dX3_readWord_127 ?_
              exact hret (su (su (txO st pl (st 21 0) (st 22)) 21 0 (wdO (st 4) (st 5 0) (st 20 0))) 20 0 fr) hH dX3_readWord_128 (Nat.le_of_ble_eq_true rfl) (Nat.le_of_ble_eq_true rfl) (by decide) (⟨by first | exact bT (by omega) | exact bF (by omega), by rw [txO_c, txO_p]; first | (rw [if_pos (by omega), i1]; done) | (rw [if_neg (by omega), hle]; done)⟩)
            · refine j_iconst hx hb dX3_readWord_123 ?_
              refine lv_goto (tgt := 128) hx hb dX3_readWord_124 (by decide) ?_
              exact hret (su (su (txO st pl (st 21 0) (st 22)) 21 0 (wdO (st 4) (st 5 0) (st 20 0))) 20 0 fr) hH dX3_readWord_128 (Nat.le_of_ble_eq_true rfl) (Nat.le_of_ble_eq_true rfl) (by decide) (⟨by first | exact bT (by omega) | exact bF (by omega), by rw [txO_c, txO_p]; first | (rw [if_pos (by omega), i1]; done) | (rw [if_neg (by omega), hle]; done)⟩)
        · refine j_sipush hx hb dX3_readWord_78 (by decide) ?_
          refine lv_goto (tgt := 88) hx hb dX3_readWord_81 (by decide) ?_
          refine j_top (b := wdO (st 4) (st 5 0) (st 20 0)) (by unfold wdO; rw [hle]; first | (rw [if_pos (by omega)]; done) | (rw [if_neg (by omega), hit])) ?_
          refine j_put hx hb hts hown hV hH wM_o rfl in_X3 tyX3 tyX3_ok nmX3 21 (Nat.le_of_ble_eq_true rfl) q2250 (fun _ h => h) rfl rfl rfl (Nat.le_of_ble_eq_true rfl) dX3_readWord_88 (fun H locs hH => ?_)
          rw [wM_f21] at hH
          refine lv_aload_n hx hb dX3_readWord_91 rfl (lv_at hl 0 rfl) ?_
          refine lv_aload_n hx hb dX3_readWord_92 rfl (lv_at hl 0 rfl) ?_
          refine j_get hx hb hts hown hV hH wM_o rfl in_X3 21 (Nat.le_of_ble_eq_true rfl) q2250 (fun _ h => h) rfl dX3_readWord_93 ?_
          refine j_top (b := wdO (st 4) (st 5 0) (st 20 0)) rfl ?_
          refine j_sipush hx hb dX3_readWord_96 (by decide) ?_
          refine j_icmp_ne (tgt := 106) hx hb dX3_readWord_99 (by decide) (by omega) (by omega) (fun c99 => ?_) (fun c99 => ?_)
          · refine lv_aload_n hx hb dX3_readWord_106 rfl (lv_at hl 0 rfl) ?_
            refine j_get hx hb hts hown hV hH wM_o rfl in_X3 20 (Nat.le_of_ble_eq_true rfl) q2249 (fun _ h => h) rfl dX3_readWord_107 ?_
            refine j_top (b := pl) rfl ?_
            refine j_put hx hb hts hown hV hH wM_o rfl in_X3 tyX3 tyX3_ok nmX3 20 (Nat.le_of_ble_eq_true rfl) q2249 (fun _ h => h) rfl rfl rfl (Nat.le_of_ble_eq_true rfl) dX3_readWord_110 (fun H locs hH => ?_)
            rw [wM_f20] at hH
            refine lv_aload_n hx hb dX3_readWord_113 rfl (lv_at hl 0 rfl) ?_
            refine j_get hx hb hts hown hV hH wM_o rfl in_X3 21 (Nat.le_of_ble_eq_true rfl) q2250 (fun _ h => h) rfl dX3_readWord_114 ?_
            refine j_top (b := wdO (st 4) (st 5 0) (st 20 0)) rfl ?_
            refine j_sipush hx hb dX3_readWord_117 (by decide) ?_
            refine j_icmp_eq (tgt := 127) hx hb dX3_readWord_120 (by decide) (by omega) (by omega) (fun c120 => ?_) (fun c120 => ?_)
            · refine j_iconst hx hb dX3_readWord_127 ?_
              exact hret (su (su (txO st pl (st 21 0) (st 22)) 21 0 (wdO (st 4) (st 5 0) (st 20 0))) 20 0 pl) hH dX3_readWord_128 (Nat.le_of_ble_eq_true rfl) (Nat.le_of_ble_eq_true rfl) (by decide) (⟨by first | exact bT (by omega) | exact bF (by omega), by rw [txO_c, txO_p]; first | (rw [if_pos (by omega), i1]; done) | (rw [if_neg (by omega), hle]; done)⟩)
            · refine j_iconst hx hb dX3_readWord_123 ?_
              refine lv_goto (tgt := 128) hx hb dX3_readWord_124 (by decide) ?_
              exact hret (su (su (txO st pl (st 21 0) (st 22)) 21 0 (wdO (st 4) (st 5 0) (st 20 0))) 20 0 pl) hH dX3_readWord_128 (Nat.le_of_ble_eq_true rfl) (Nat.le_of_ble_eq_true rfl) (by decide) (⟨by first | exact bT (by omega) | exact bF (by omega), by rw [txO_c, txO_p]; first | (rw [if_pos (by omega), i1]; done) | (rw [if_neg (by omega), hle]; done)⟩)
          · refine lv_iload_n hx hb dX3_readWord_102 rfl (lv_at hl 1 rfl) ?_
            refine lv_goto (tgt := 110) hx hb dX3_readWord_103 (by decide) ?_
            refine j_put hx hb hts hown hV hH wM_o rfl in_X3 tyX3 tyX3_ok nmX3 20 (Nat.le_of_ble_eq_true rfl) q2249 (fun _ h => h) rfl rfl rfl (Nat.le_of_ble_eq_true rfl) dX3_readWord_110 (fun H locs hH => ?_)
            rw [wM_f20] at hH
            refine lv_aload_n hx hb dX3_readWord_113 rfl (lv_at hl 0 rfl) ?_
            refine j_get hx hb hts hown hV hH wM_o rfl in_X3 21 (Nat.le_of_ble_eq_true rfl) q2250 (fun _ h => h) rfl dX3_readWord_114 ?_
            refine j_top (b := wdO (st 4) (st 5 0) (st 20 0)) rfl ?_
            refine j_sipush hx hb dX3_readWord_117 (by decide) ?_
            refine j_icmp_eq (tgt := 127) hx hb dX3_readWord_120 (by decide) (by omega) (by omega) (fun c120 => ?_) (fun c120 => ?_)
            · refine j_iconst hx hb dX3_readWord_127 ?_
              exact hret (su (su (txO st pl (st 21 0) (st 22)) 21 0 (wdO (st 4) (st 5 0) (st 20 0))) 20 0 fr) hH dX3_readWord_128 (Nat.le_of_ble_eq_true rfl) (Nat.le_of_ble_eq_true rfl) (by decide) (⟨by first | exact bT (by omega) | exact bF (by omega), by rw [txO_c, txO_p]; first | (rw [if_pos (by omega), i1]; done) | (rw [if_neg (by omega), hle]; done)⟩)
            · refine j_iconst hx hb dX3_readWord_123 ?_
              refine lv_goto (tgt := 128) hx hb dX3_readWord_124 (by decide) ?_
              exact hret (su (su (txO st pl (st 21 0) (st 22)) 21 0 (wdO (st 4) (st 5 0) (st 20 0))) 20 0 fr) hH dX3_readWord_128 (Nat.le_of_ble_eq_true rfl) (Nat.le_of_ble_eq_true rfl) (by decide) (⟨by first | exact bT (by omega) | exact bF (by omega), by rw [txO_c, txO_p]; first | (rw [if_pos (by omega), i1]; done) | (rw [if_neg (by omega), hle]; done)⟩)
      · refine lv_aload_n hx hb dX3_readWord_21 rfl (lv_at hl 0 rfl) ?_
        refine j_get hx hb hts hown hV hH wM_o rfl in_X3 20 (Nat.le_of_ble_eq_true rfl) q2249 (fun _ h => h) rfl dX3_readWord_22 ?_
        refine j_top (b := pl) rfl ?_
        refine lv_iload_n hx hb dX3_readWord_25 rfl (lv_at hl 1 rfl) ?_
        refine j_isub hx hb dX3_readWord_26 ?_
        refine j_bipush hx hb dX3_readWord_27 (by decide) ?_
        refine j_icmp_ge (tgt := 50) hx hb dX3_readWord_29 (by decide) (by omega) (by omega) (fun c29 => ?_) (fun c29 => ?_)
        · refine j_ldc2 (z := (-1)) hx hb hts hown q2669 dX3_readWord_50 (by decide +kernel) ?_
          refine j_lstore_n (lv' := fun x3 => [(2, .long (lL x3)), (0, .ref o), (1, .int (iI fr))]) hx hb dX3_readWord_53 rfl hl (by decide) (fun _ => rfl) (fun x3 ex3 ls hl => ?_)
          refine lv_aload_n hx hb dX3_readWord_54 rfl (lv_at hl 1 rfl) ?_
          refine lv_dup hx hb dX3_readWord_55 rfl ?_
          refine j_get hx hb hts hown hV hH wM_o rfl in_X3 20 (Nat.le_of_ble_eq_true rfl) q2249 (fun _ h => h) rfl dX3_readWord_56 ?_
          refine j_top (b := pl) rfl ?_
          refine j_iconst hx hb dX3_readWord_59 ?_
          refine j_iadd hx hb dX3_readWord_60 ?_
          refine j_put hx hb hts hown hV hH wM_o rfl in_X3 tyX3 tyX3_ok nmX3 20 (Nat.le_of_ble_eq_true rfl) q2249 (fun _ h => h) rfl rfl rfl (Nat.le_of_ble_eq_true rfl) dX3_readWord_61 (fun H locs hH => ?_)
          rw [wM_f20] at hH
          refine lv_goto (tgt := 7) hx hb dX3_readWord_64 (by decide) ?_
          have hH : jH E s.heap (wM E o (txO st (pl + 1) (st 21 0) (st 22)) w0) H locs := by rw [txO_p] at hH; exact hH
          exact ih_7 fr x3 (pl + 1) (by omega) (i1) (by first | assumption | omega) (by first | assumption | omega) (by rw [i4]; exact ruO_s (by omega) (show 97 ≤ st 4 pl ∧ st 4 pl ≤ 122 by omega)) (by intro j a b; by_cases hj : j = pl; (rw [hj]; exact (show 97 ≤ st 4 pl ∧ st 4 pl ≤ 122 by omega)); exact i5 j a (by omega)) (by intro hq; first | exact absurd c29 (by omega) | (rw [ex3, i6 (by omega), show (pl + 1 - st 20 0).toNat = (pl - st 20 0).toNat + 1 by omega, wvF, show herO (st 4) (st 5 0) pl = st 4 pl by omega, show st 20 0 + (((pl - st 20 0).toNat : Nat) : Int) = pl by omega])) _ _ hH ls (lv_sub hl [1, 2, 0] rfl)
        · refine lv_lload_n hx hb dX3_readWord_32 rfl (lv_at hl 2 rfl) ?_
          refine j_ldc2 (z := 27) hx hb hts hown q2667 dX3_readWord_33 (by decide +kernel) ?_
          refine j_lmul hx hb dX3_readWord_36 ?_
          refine lv_aload_n hx hb dX3_readWord_37 rfl (lv_at hl 0 rfl) ?_
          refine j_callif (va_runV (As := []) (rest := [.long (lL (its * 27))]) ⟨hx, hb, hml, hown, hts⟩ (m_X3_here l o (txO st pl (st 21 0) (st 22)) w0 (h1) (show 0 ≤ pl ∧ pl ≤ st 5 0 by omega)) (cw_X3_here hts q2655 (Nat.le_of_ble_eq_true rfl) (Nat.le_of_ble_eq_true rfl)) (j_preV hV hH wM_o rfl) rfl rfl hl.1 rfl (lv_room (Nat.le_of_ble_eq_true rfl)) dX3_readWord_38 ⟨Nat.le_of_ble_eq_true rfl, Nat.le_of_ble_eq_true rfl⟩) hH (fun H locs hH => ?_)
          refine j_top (b := herO (st 4) (st 5 0) (pl)) rfl ?_
          refine j_i2l hx hb dX3_readWord_41 (by omega) ?_
          refine j_ladd hx hb dX3_readWord_42 ?_
          refine j_ldc2 (z := 96) hx hb hts hown q2668 dX3_readWord_43 (by decide +kernel) ?_
          refine j_lsub hx hb dX3_readWord_46 ?_
          refine lv_goto (tgt := 53) hx hb dX3_readWord_47 (by decide) ?_
          refine j_lstore_n (lv' := fun x4 => [(2, .long (lL x4)), (0, .ref o), (1, .int (iI fr))]) hx hb dX3_readWord_53 rfl hl (by decide) (fun _ => rfl) (fun x4 ex4 ls hl => ?_)
          refine lv_aload_n hx hb dX3_readWord_54 rfl (lv_at hl 1 rfl) ?_
          refine lv_dup hx hb dX3_readWord_55 rfl ?_
          refine j_get hx hb hts hown hV hH wM_o rfl in_X3 20 (Nat.le_of_ble_eq_true rfl) q2249 (fun _ h => h) rfl dX3_readWord_56 ?_
          refine j_top (b := pl) rfl ?_
          refine j_iconst hx hb dX3_readWord_59 ?_
          refine j_iadd hx hb dX3_readWord_60 ?_
          refine j_put hx hb hts hown hV hH wM_o rfl in_X3 tyX3 tyX3_ok nmX3 20 (Nat.le_of_ble_eq_true rfl) q2249 (fun _ h => h) rfl rfl rfl (Nat.le_of_ble_eq_true rfl) dX3_readWord_61 (fun H locs hH => ?_)
          rw [wM_f20] at hH
          refine lv_goto (tgt := 7) hx hb dX3_readWord_64 (by decide) ?_
          have hH : jH E s.heap (wM E o (txO st (pl + 1) (st 21 0) (st 22)) w0) H locs := by rw [txO_p] at hH; exact hH
          exact ih_7 fr x4 (pl + 1) (by omega) (i1) (by first | assumption | omega) (by first | assumption | omega) (by rw [i4]; exact ruO_s (by omega) (show 97 ≤ st 4 pl ∧ st 4 pl ≤ 122 by omega)) (by intro j a b; by_cases hj : j = pl; (rw [hj]; exact (show 97 ≤ st 4 pl ∧ st 4 pl ≤ 122 by omega)); exact i5 j a (by omega)) (by intro hq; first | exact absurd c29 (by omega) | (rw [ex4, i6 (by omega), show (pl + 1 - st 20 0).toNat = (pl - st 20 0).toNat + 1 by omega, wvF, show herO (st 4) (st 5 0) pl = st 4 pl by omega, show st 20 0 + (((pl - st 20 0).toNat : Nat) : Int) = pl by omega])) _ _ hH ls (lv_sub hl [1, 2, 0] rfl)
  have hH : jH E s.heap (wM E o (txO st (st 20 0) (st 21 0) (st 22)) w0) s.heap [] := by rw [txO_self]; exact hH
  exact L7 ((st 5 0 - (st 20 0)).toNat + 1) x1 x2 (st 20 0) (by omega) (ex1) (by first | assumption | omega) (by first | assumption | omega) (rfl) (by intro j a b; omega) (by intro _; rw [ex2, show (st 20 0 - st 20 0).toNat = 0 by omega]; rfl) _ _ hH ls (lv_sub hl [2, 1, 0] rfl)
theorem cw_X3_readCommand {R : Room} {s : State} {args : Array Value} {own : String} {index lev mc ms : Nat} (hts : ∀ w ∈ lw_all, w.before args s = true) (hl : Cond.methodLink own index yX3_readCommand ∈ lw_all) (hR1 : (rmL lev mc ms).frames + 1 ≤ R.frames) (hR2 : 8 + (2 + 11) + (rmL lev mc ms).locals ≤ R.locals) : CallW R s args own RX3 index yX3_readCommand cX3_readCommand 2 (some .boolean) (ws_ yX3_readCommand cX3_readCommand 2 (some .boolean)) (rmL lev mc ms) mc ms 0 :=
  cwV 0 hts (lw_V hl q2661 qs99 q116 q2662) rfl rfl rfl (by decide +kernel) ⟨hR1, hR2⟩
set_option maxHeartbeats 4000000 in
theorem m_X3_readCommand {E : jE} (l : Launch) (o : Nat) (st : Ms) (w0 : Wl) (h1 : TXW st) (h2 : 0 ≤ st 20 0 ∧ st 20 0 ≤ st 5 0) (h3 : NMW (st 22)) : Met l yX3_readCommand (ws_ yX3_readCommand cX3_readCommand 2 (some .boolean)) (rmL 4 0 0) (va_Pc [.ref o] (jP E (wM E o st w0))) (jQi E (fun u : Int × Int × (Int → Int) => wM E o (txO (st) u.1 u.2.1 u.2.2) w0) (fun z u => z = bI ((rcO (st 4) (st 5 0) (st 20 0)).1 = 1) ∧ u.1 = (rcO (st 4) (st 5 0) (st 20 0)).2 ∧ NMW u.2.2 ∧ ((rcO (st 4) (st 5 0) (st 20 0)).1 = 1 → u.2.1 = wdO (st 4) (st 5 0) (st 20 0) ∧ ∀ j : Int, 0 ≤ j → j < manO (wdO (st 4) (st 5 0) (st 20 0)) → u.2.2 j = nvO (st 4) (st 5 0) (leO (st 4) (st 5 0) (st 20 0)) j.toNat))) 0 0 (jA E) := by
  refine j_metZ (by decide) (Nat.le_of_ble_eq_true rfl) ?_
  intro p e s m args below meth c Q hx hb hml hown hnm hts hV hH hret ls hl
  have hl : lv_has ls 2 [(0, .ref o)] := hl
  have hT := h1.1
  have hwb := wdO_b (st 4) (st 5 0) (st 20 0)
  have hleb := ruO_b isLe (st 4) (st 5 0) (st 20 0)
  have hleb2 : st 20 0 ≤ leO (st 4) (st 5 0) (st 20 0) ∧ leO (st 4) (st 5 0) (st 20 0) ≤ st 5 0 := by unfold leO; omega
  have hmb := manO_b (wdO (st 4) (st 5 0) (st 20 0))
  refine lv_aload_n hx hb dX3_readCommand_0 rfl (lv_at hl 0 rfl) ?_
  refine j_callif (va_runV (As := []) (rest := []) ⟨hx, hb, hml, hown, hts⟩ (m_X3_readWord l o st w0 (h1) (by omega)) (cw_X3_readWord hts q2663 (Nat.le_of_ble_eq_true rfl) (Nat.le_of_ble_eq_true rfl)) (j_preV hV hH wM_o rfl) rfl rfl hl.1 rfl (lv_room (Nat.le_of_ble_eq_true rfl)) dX3_readCommand_1 ⟨Nat.le_of_ble_eq_true rfl, Nat.le_of_ble_eq_true rfl⟩) hH (fun H locs hH => ?_)
  refine j_ifne_b (tgt := 9) hx hb dX3_readCommand_4 (by decide) (fun c4 => ?_) (fun c4 => ?_)
  · have hH : jH E s.heap (wM E o (txO st (leO (st 4) (st 5 0) (st 20 0)) (wdO (st 4) (st 5 0) (st 20 0)) (st 22)) w0) H locs := by rw [if_neg c4] at hH; exact hH
    refine j_iconst hx hb dX3_readCommand_9 ?_
    refine j_istore_n (lv' := fun x1 => [(1, .int (iI x1)), (0, .ref o)]) hx hb dX3_readCommand_10 rfl hl (by decide) (fun _ => rfl) (fun x1 ex1 ls hl => ?_)
    have L11 : ∀ (n_ : Nat), ∀ (k : Int) (nm : Int → Int) (hm_ : manO (wdO (st 4) (st 5 0) (st 20 0)) - k < (n_ : Int)) (k1 : 0 ≤ k ∧ k ≤ manO (wdO (st 4) (st 5 0) (st 20 0))) (k2 : (rdN (st 4) (st 5 0) (leO (st 4) (st 5 0) (st 20 0)) k.toNat).1 = 1) (k3 : ∀ j : Int, 0 ≤ j → j < k → nm j = nvO (st 4) (st 5 0) (leO (st 4) (st 5 0) (st 20 0)) j.toNat) (k4 : NMW nm) (H : Heap) (locs : List Loc), jH E s.heap (wM E o (txO st (rdN (st 4) (st 5 0) (leO (st 4) (st 5 0) (st 20 0)) k.toNat).2 (wdO (st 4) (st 5 0) (st 20 0)) nm) w0) H locs → ∀ ls : Array Slot, lv_has ls 2 [(0, .ref o), (1, .int (iI k))] → W p l e (rmL 4 0 0) s m args below meth c H locs 0 0 Q (F0 m 11 ls []) := by
      intro n_
      induction n_ with
      | zero =>
        intro k nm hm_ k1 k2 k3 k4 H locs hH ls hl
        exact absurd hm_ (by omega)
      | succ n_ ih_11 =>
        intro k nm hm_ k1 k2 k3 k4 H locs hH ls hl
        have hrb := rdN_b (st 4) (st 5 0) (leO (st 4) (st 5 0) (st 20 0)) k.toNat
        have hnb := nuO_b (st 4) (st 5 0) (rdN (st 4) (st 5 0) (leO (st 4) (st 5 0) (st 20 0)) k.toNat).2
        have hsk := ruO_b isSp (st 4) (st 5 0) (rdN (st 4) (st 5 0) (leO (st 4) (st 5 0) (st 20 0)) k.toNat).2
        refine lv_iload_n hx hb dX3_readCommand_11 rfl (lv_at hl 1 rfl) ?_
        refine lv_aload_n hx hb dX3_readCommand_12 rfl (lv_at hl 0 rfl) ?_
        refine j_callif (va_runV (As := []) (rest := [.int (iI k)]) ⟨hx, hb, hml, hown, hts⟩ (m_X3_manyFor l o (txO st (rdN (st 4) (st 5 0) (leO (st 4) (st 5 0) (st 20 0)) k.toNat).2 (wdO (st 4) (st 5 0) (st 20 0)) nm) w0 (show 0 ≤ (wdO (st 4) (st 5 0) (st 20 0)) ∧ (wdO (st 4) (st 5 0) (st 20 0)) ≤ 8 by omega)) (cw_X3_manyFor hts q2682 (Nat.le_of_ble_eq_true rfl) (Nat.le_of_ble_eq_true rfl)) (j_preV hV hH wM_o rfl) rfl rfl hl.1 rfl (lv_room (Nat.le_of_ble_eq_true rfl)) dX3_readCommand_13 ⟨Nat.le_of_ble_eq_true rfl, Nat.le_of_ble_eq_true rfl⟩) hH (fun H locs hH => ?_)
        refine j_top (b := manO ((wdO (st 4) (st 5 0) (st 20 0)))) rfl ?_
        refine j_icmp_ge (tgt := 35) hx hb dX3_readCommand_16 (by decide) (by omega) (by omega) (fun c16 => ?_) (fun c16 => ?_)
        · have hk : k.toNat = (manO (wdO (st 4) (st 5 0) (st 20 0))).toNat := by omega
          refine lv_aload_n hx hb dX3_readCommand_35 rfl (lv_at hl 0 rfl) ?_
          refine j_callif (va_runV (As := []) (rest := []) ⟨hx, hb, hml, hown, hts⟩ (m_X3_skips l o (txO st (rdN (st 4) (st 5 0) (leO (st 4) (st 5 0) (st 20 0)) k.toNat).2 (wdO (st 4) (st 5 0) (st 20 0)) nm) w0 (h1) (show 0 ≤ ((rdN (st 4) (st 5 0) (leO (st 4) (st 5 0) (st 20 0)) k.toNat).2) ∧ ((rdN (st 4) (st 5 0) (leO (st 4) (st 5 0) (st 20 0)) k.toNat).2) ≤ st 5 0 by omega)) (cw_X3_skips hts q2651 (Nat.le_of_ble_eq_true rfl) (Nat.le_of_ble_eq_true rfl)) (j_preV hV hH wM_o rfl) rfl rfl hl.1 rfl (lv_room (Nat.le_of_ble_eq_true rfl)) dX3_readCommand_36 ⟨Nat.le_of_ble_eq_true rfl, Nat.le_of_ble_eq_true rfl⟩) hH (fun H locs hH => ?_)
          have hH : jH E s.heap (wM E o (txO ((txO st (rdN (st 4) (st 5 0) (leO (st 4) (st 5 0) (st 20 0)) k.toNat).2 (wdO (st 4) (st 5 0) (st 20 0)) nm)) (skO (st 4) (st 5 0) (((rdN (st 4) (st 5 0) (leO (st 4) (st 5 0) (st 20 0)) k.toNat).2))) ((wdO (st 4) (st 5 0) (st 20 0))) ((txO st (rdN (st 4) (st 5 0) (leO (st 4) (st 5 0) (st 20 0)) k.toNat).2 (wdO (st 4) (st 5 0) (st 20 0)) nm) 22)) w0) H locs := hH
          refine j_top (b := bI (((rdN (st 4) (st 5 0) (leO (st 4) (st 5 0) (st 20 0)) k.toNat).2) < skO (st 4) (st 5 0) (((rdN (st 4) (st 5 0) (leO (st 4) (st 5 0) (st 20 0)) k.toNat).2)))) rfl ?_
          have hH : jH E s.heap (wM E o (txO st (skO (st 4) (st 5 0) (rdN (st 4) (st 5 0) (leO (st 4) (st 5 0) (st 20 0)) k.toNat).2) (wdO (st 4) (st 5 0) (st 20 0)) nm) w0) H locs := by rw [txO_tx] at hH; exact hH
          have hs9 : 0 ≤ (skO (st 4) (st 5 0) (rdN (st 4) (st 5 0) (leO (st 4) (st 5 0) (st 20 0)) k.toNat).2) ∧ (skO (st 4) (st 5 0) (rdN (st 4) (st 5 0) (leO (st 4) (st 5 0) (st 20 0)) k.toNat).2) ≤ st 5 0 := by unfold skO; omega
          have hhb := herO_b h1 (p := (skO (st 4) (st 5 0) (rdN (st 4) (st 5 0) (leO (st 4) (st 5 0) (st 20 0)) k.toNat).2)) hs9.1
          refine lv_istore_n (lv' := [(1, .int (iI (bI (((rdN (st 4) (st 5 0) (leO (st 4) (st 5 0) (st 20 0)) k.toNat).2) < skO (st 4) (st 5 0) (((rdN (st 4) (st 5 0) (leO (st 4) (st 5 0) (st 20 0)) k.toNat).2)))))), (0, .ref o)]) hx hb dX3_readCommand_39 rfl hl (by decide) rfl (fun ls hl => ?_)
          refine lv_aload_n hx hb dX3_readCommand_40 rfl (lv_at hl 1 rfl) ?_
          refine j_callif (va_runV (As := []) (rest := []) ⟨hx, hb, hml, hown, hts⟩ (m_X3_here l o (txO st (skO (st 4) (st 5 0) (rdN (st 4) (st 5 0) (leO (st 4) (st 5 0) (st 20 0)) k.toNat).2) (wdO (st 4) (st 5 0) (st 20 0)) nm) w0 (h1) (show 0 ≤ (skO (st 4) (st 5 0) (rdN (st 4) (st 5 0) (leO (st 4) (st 5 0) (st 20 0)) k.toNat).2) ∧ (skO (st 4) (st 5 0) (rdN (st 4) (st 5 0) (leO (st 4) (st 5 0) (st 20 0)) k.toNat).2) ≤ st 5 0 by omega)) (cw_X3_here hts q2655 (Nat.le_of_ble_eq_true rfl) (Nat.le_of_ble_eq_true rfl)) (j_preV hV hH wM_o rfl) rfl rfl hl.1 rfl (lv_room (Nat.le_of_ble_eq_true rfl)) dX3_readCommand_41 ⟨Nat.le_of_ble_eq_true rfl, Nat.le_of_ble_eq_true rfl⟩) hH (fun H locs hH => ?_)
          refine j_top (b := herO (st 4) (st 5 0) ((skO (st 4) (st 5 0) (rdN (st 4) (st 5 0) (leO (st 4) (st 5 0) (st 20 0)) k.toNat).2))) rfl ?_
          refine j_bipush hx hb dX3_readCommand_44 (by decide) ?_
          refine j_icmp_eq (tgt := 51) hx hb dX3_readCommand_46 (by decide) (by omega) (by omega) (fun c46 => ?_) (fun c46 => ?_)
          · refine lv_aload_n hx hb dX3_readCommand_51 rfl (lv_at hl 1 rfl) ?_
            refine lv_dup hx hb dX3_readCommand_52 rfl ?_
            refine j_get hx hb hts hown hV hH wM_o rfl in_X3 20 (Nat.le_of_ble_eq_true rfl) q2249 (fun _ h => h) rfl dX3_readCommand_53 ?_
            refine j_top (b := (skO (st 4) (st 5 0) (rdN (st 4) (st 5 0) (leO (st 4) (st 5 0) (st 20 0)) k.toNat).2)) rfl ?_
            refine j_iconst hx hb dX3_readCommand_56 ?_
            refine j_iadd hx hb dX3_readCommand_57 ?_
            refine j_put hx hb hts hown hV hH wM_o rfl in_X3 tyX3 tyX3_ok nmX3 20 (Nat.le_of_ble_eq_true rfl) q2249 (fun _ h => h) rfl rfl rfl (Nat.le_of_ble_eq_true rfl) dX3_readCommand_58 (fun H locs hH => ?_)
            rw [wM_f20] at hH
            have hH : jH E s.heap (wM E o (txO st ((skO (st 4) (st 5 0) (rdN (st 4) (st 5 0) (leO (st 4) (st 5 0) (st 20 0)) k.toNat).2) + 1) (wdO (st 4) (st 5 0) (st 20 0)) nm) w0) H locs := by rw [txO_p] at hH; exact hH
            have hrc : rcO (st 4) (st 5 0) (st 20 0) = (1, (skO (st 4) (st 5 0) (rdN (st 4) (st 5 0) (leO (st 4) (st 5 0) (st 20 0)) k.toNat).2) + 1) := by rw [rcO_y c4 (by rw [← hk]; exact k2) (by rw [← hk]; exact c46), ← hk]
            refine j_iconst hx hb dX3_readCommand_61 ?_
            exact hret ((skO (st 4) (st 5 0) (rdN (st 4) (st 5 0) (leO (st 4) (st 5 0) (st 20 0)) k.toNat).2) + 1, (wdO (st 4) (st 5 0) (st 20 0)), nm) hH dX3_readCommand_62 (Nat.le_of_ble_eq_true rfl) (Nat.le_of_ble_eq_true rfl) (by decide) (⟨bT (by rw [hrc]), by rw [hrc], k4, fun _ => ⟨rfl, fun j a b => k3 j a (by omega)⟩⟩)
          · have hrc : rcO (st 4) (st 5 0) (st 20 0) = (0, (skO (st 4) (st 5 0) (rdN (st 4) (st 5 0) (leO (st 4) (st 5 0) (st 20 0)) k.toNat).2)) := by rw [rcO_n c4 (by rw [← hk]; exact k2) (by rw [← hk]; exact c46), ← hk]
            refine j_iconst hx hb dX3_readCommand_49 ?_
            exact hret ((skO (st 4) (st 5 0) (rdN (st 4) (st 5 0) (leO (st 4) (st 5 0) (st 20 0)) k.toNat).2), (wdO (st 4) (st 5 0) (st 20 0)), nm) hH dX3_readCommand_50 (Nat.le_of_ble_eq_true rfl) (Nat.le_of_ble_eq_true rfl) (by decide) (⟨bF (fun q => by rw [hrc] at q; exact absurd (show (0 : Int) = 1 from q) (by decide)), by rw [hrc], k4, fun q => by rw [hrc] at q; exact absurd (show (0 : Int) = 1 from q) (by decide)⟩)
        · refine lv_aload_n hx hb dX3_readCommand_19 rfl (lv_at hl 0 rfl) ?_
          refine lv_iload_n hx hb dX3_readCommand_20 rfl (lv_at hl 1 rfl) ?_
          refine j_callif (va_runV (As := [.int (iI k)]) (rest := []) ⟨hx, hb, hml, hown, hts⟩ (m_X3_readNumber l o (txO st (rdN (st 4) (st 5 0) (leO (st 4) (st 5 0) (st 20 0)) k.toNat).2 (wdO (st 4) (st 5 0) (st 20 0)) nm) w0 k (h1) (show 0 ≤ ((rdN (st 4) (st 5 0) (leO (st 4) (st 5 0) (st 20 0)) k.toNat).2) ∧ ((rdN (st 4) (st 5 0) (leO (st 4) (st 5 0) (st 20 0)) k.toNat).2) ≤ st 5 0 by omega) (by omega)) (cw_X3_readNumber hts q2686 (Nat.le_of_ble_eq_true rfl) (Nat.le_of_ble_eq_true rfl)) (j_preV hV hH wM_o rfl) rfl rfl hl.1 rfl (lv_room (Nat.le_of_ble_eq_true rfl)) dX3_readCommand_21 ⟨Nat.le_of_ble_eq_true rfl, Nat.le_of_ble_eq_true rfl⟩) hH (fun H locs hH => ?_)
          have hH : jH E s.heap (wM E o (txO ((txO st (rdN (st 4) (st 5 0) (leO (st 4) (st 5 0) (st 20 0)) k.toNat).2 (wdO (st 4) (st 5 0) (st 20 0)) nm)) (nuO (st 4) (st 5 0) (((rdN (st 4) (st 5 0) (leO (st 4) (st 5 0) (st 20 0)) k.toNat).2))).2 ((wdO (st 4) (st 5 0) (st 20 0))) (if skO (st 4) (st 5 0) (((rdN (st 4) (st 5 0) (leO (st 4) (st 5 0) (st 20 0)) k.toNat).2)) = ((rdN (st 4) (st 5 0) (leO (st 4) (st 5 0) (st 20 0)) k.toNat).2) then (txO st (rdN (st 4) (st 5 0) (leO (st 4) (st 5 0) (st 20 0)) k.toNat).2 (wdO (st 4) (st 5 0) (st 20 0)) nm) 22 else upz ((txO st (rdN (st 4) (st 5 0) (leO (st 4) (st 5 0) (st 20 0)) k.toNat).2 (wdO (st 4) (st 5 0) (st 20 0)) nm) 22) k (dgF (st 4) (st 5 0) 3 (skO (st 4) (st 5 0) (((rdN (st 4) (st 5 0) (leO (st 4) (st 5 0) (st 20 0)) k.toNat).2))) 0).2)) w0) H locs := hH
          refine j_top (b := bI ((nuO (st 4) (st 5 0) (((rdN (st 4) (st 5 0) (leO (st 4) (st 5 0) (st 20 0)) k.toNat).2))).1 = 1)) rfl ?_
          refine j_ifne_b (tgt := 29) hx hb dX3_readCommand_24 (by decide) (fun c24 => ?_) (fun c24 => ?_)
          · refine j_iinc (k := 1) (lv' := fun x2 => [(1, .int (iI x2)), (0, .ref o)]) hx hb dX3_readCommand_29 hl rfl (by decide) (fun _ => rfl) (fun x2 ex2 ls hl => ?_)
            refine lv_goto (tgt := 11) hx hb dX3_readCommand_32 (by decide) ?_
            have hrs : (rdN (st 4) (st 5 0) (leO (st 4) (st 5 0) (st 20 0)) x2.toNat) = nuO (st 4) (st 5 0) (rdN (st 4) (st 5 0) (leO (st 4) (st 5 0) (st 20 0)) k.toNat).2 := by rw [ex2, show (k + 1).toNat = k.toNat + 1 by omega]; exact rdN_s k2
            have hH : jH E s.heap (wM E o (txO st (rdN (st 4) (st 5 0) (leO (st 4) (st 5 0) (st 20 0)) x2.toNat).2 (wdO (st 4) (st 5 0) (st 20 0)) (upz nm k (nvO (st 4) (st 5 0) (leO (st 4) (st 5 0) (st 20 0)) k.toNat))) w0) H locs := by rw [hrs]; rw [txO_tx, if_neg (nuO_1 c24)] at hH; exact hH
            exact ih_11 x2 (upz nm k (nvO (st 4) (st 5 0) (leO (st 4) (st 5 0) (st 20 0)) k.toNat)) (by omega) (by first | assumption | omega) (by rw [hrs]; exact c24) (by intro j a b; by_cases hj : j = k; (rw [hj, upz_s]); (rw [upz_n hj]; exact k3 j a (by omega))) (k4.up (nvO_b _ _ _ _)) _ _ hH ls (lv_sub hl [1, 0] rfl)
          · have hH : jH E s.heap (wM E o (txO st (nuO (st 4) (st 5 0) (rdN (st 4) (st 5 0) (leO (st 4) (st 5 0) (st 20 0)) k.toNat).2).2 (wdO (st 4) (st 5 0) (st 20 0)) (if skO (st 4) (st 5 0) (rdN (st 4) (st 5 0) (leO (st 4) (st 5 0) (st 20 0)) k.toNat).2 = (rdN (st 4) (st 5 0) (leO (st 4) (st 5 0) (st 20 0)) k.toNat).2 then nm else upz nm k (dgF (st 4) (st 5 0) 3 (skO (st 4) (st 5 0) (rdN (st 4) (st 5 0) (leO (st 4) (st 5 0) (st 20 0)) k.toNat).2) 0).2)) w0) H locs := by rw [txO_tx] at hH; exact hH
            have hrc : rcO (st 4) (st 5 0) (st 20 0) = nuO (st 4) (st 5 0) (rdN (st 4) (st 5 0) (leO (st 4) (st 5 0) (st 20 0)) k.toNat).2 := rc_fail c4 k1.1 c16 k2 c24
            refine j_iconst hx hb dX3_readCommand_27 ?_
            exact hret ((nuO (st 4) (st 5 0) (rdN (st 4) (st 5 0) (leO (st 4) (st 5 0) (st 20 0)) k.toNat).2).2, (wdO (st 4) (st 5 0) (st 20 0)), (if skO (st 4) (st 5 0) (rdN (st 4) (st 5 0) (leO (st 4) (st 5 0) (st 20 0)) k.toNat).2 = (rdN (st 4) (st 5 0) (leO (st 4) (st 5 0) (st 20 0)) k.toNat).2 then nm else upz nm k (dgF (st 4) (st 5 0) 3 (skO (st 4) (st 5 0) (rdN (st 4) (st 5 0) (leO (st 4) (st 5 0) (st 20 0)) k.toNat).2) 0).2)) hH dX3_readCommand_28 (Nat.le_of_ble_eq_true rfl) (Nat.le_of_ble_eq_true rfl) (by decide) (⟨bF (fun q => by rw [hrc] at q; exact c24 q), by rw [hrc], by show NMW (if skO (st 4) (st 5 0) (rdN (st 4) (st 5 0) (leO (st 4) (st 5 0) (st 20 0)) k.toNat).2 = (rdN (st 4) (st 5 0) (leO (st 4) (st 5 0) (st 20 0)) k.toNat).2 then nm else upz nm k (dgF (st 4) (st 5 0) 3 (skO (st 4) (st 5 0) (rdN (st 4) (st 5 0) (leO (st 4) (st 5 0) (st 20 0)) k.toNat).2) 0).2); split; exact k4; exact k4.up (nvO_b (st 4) (st 5 0) (leO (st 4) (st 5 0) (st 20 0)) k.toNat), fun q => by rw [hrc] at q; exact absurd q c24⟩)
    have hH : jH E s.heap (wM E o (txO st (rdN (st 4) (st 5 0) (leO (st 4) (st 5 0) (st 20 0)) x1.toNat).2 (wdO (st 4) (st 5 0) (st 20 0)) (st 22)) w0) H locs := by rw [ex1]; exact hH
    exact L11 ((manO (wdO (st 4) (st 5 0) (st 20 0)) - x1).toNat + 1) x1 (st 22) (by omega) (by first | assumption | omega) (by rw [ex1]; rfl) (by intro j a b; omega) (h3) _ _ hH ls (lv_sub hl [1, 0] rfl)
  · have hH : jH E s.heap (wM E o (txO st (st 20 0) (-1000) (st 22)) w0) H locs := by rw [if_pos (Classical.not_not.mp c4), Classical.not_not.mp c4] at hH; exact hH
    refine j_iconst hx hb dX3_readCommand_7 ?_
    exact hret ((st 20 0), (-1000), (st 22)) hH dX3_readCommand_8 (Nat.le_of_ble_eq_true rfl) (Nat.le_of_ble_eq_true rfl) (by decide) (⟨bF (fun q => by rw [rcO_w (Classical.not_not.mp c4)] at q; exact absurd (show (0 : Int) = 1 from q) (by decide)), by rw [rcO_w (Classical.not_not.mp c4)], h3, fun q => by rw [rcO_w (Classical.not_not.mp c4)] at q; exact absurd (show (0 : Int) = 1 from q) (by decide)⟩)
theorem txO_i (st : Ms) (x : Int) : su st 20 0 x = txO st x (st 21 0) (st 22) := by
  have h := txO_p st (st 20 0) (st 21 0) x (st 22)
  rw [txO_self] at h
  exact h
theorem gd_y {t : Int → Int} {L p : Int} (h0 : 0 ≤ p) (hL : L ≤ 150) (h : p < L) (hr : (rcO t L p).1 = 1) : gdF t L 151 p = gdF t L 151 (skO t L (rcO t L p).2) := by
  have hb := rcO_b t L p (by omega)
  have h4 := ruO_b isSp t L (rcO t L p).2
  have h3 := hb.2.2.2 hr
  show (if p < L then (if (rcO t L p).1 = 1 then gdF t L 150 (skO t L (rcO t L p).2) else rcO t L p) else (1, p)) = _
  rw [if_pos h, if_pos hr]
  exact gdF_fuel 150 151 _ (by unfold skO; omega) (by unfold skO; omega) (by unfold skO; omega)
theorem gd_n {t : Int → Int} {L p : Int} (h : p < L) (hr : (rcO t L p).1 ≠ 1) : gdF t L 151 p = (0, (rcO t L p).2) := by
  have hb := rcO_b t L p (by omega)
  show (if p < L then (if (rcO t L p).1 = 1 then gdF t L 150 (skO t L (rcO t L p).2) else rcO t L p) else (1, p)) = _
  rw [if_pos h, if_neg hr]
  exact Prod.ext (by dsimp only; omega) rfl
theorem cw_X3_isGood {R : Room} {s : State} {args : Array Value} {own : String} {index lev mc ms : Nat} (hts : ∀ w ∈ lw_all, w.before args s = true) (hl : Cond.methodLink own index yX3_isGood ∈ lw_all) (hR1 : (rmL lev mc ms).frames + 1 ≤ R.frames) (hR2 : 8 + (3 + 11) + (rmL lev mc ms).locals ≤ R.locals) : CallW R s args own RX3 index yX3_isGood cX3_isGood 3 (some .boolean) (ws_ yX3_isGood cX3_isGood 3 (some .boolean)) (rmL lev mc ms) mc ms 0 :=
  cwV 0 hts (lw_V hl q2649 qs96 q116 q2650) rfl rfl rfl (by decide +kernel) ⟨hR1, hR2⟩
set_option maxHeartbeats 4000000 in
theorem m_X3_isGood {E : jE} (l : Launch) (o : Nat) (st : Ms) (w0 : Wl) (h1 : TXW st) (h2 : NMW (st 22)) : Met l yX3_isGood (ws_ yX3_isGood cX3_isGood 3 (some .boolean)) (rmL 5 0 0) (va_Pc [.ref o] (jP E (wM E o st w0))) (jQi E (fun u : Int × Int × (Int → Int) => wM E o (txO (st) u.1 u.2.1 u.2.2) w0) (fun z u => z = bI ((gdO (st 4) (st 5 0)).1 = 1) ∧ u.1 = (gdO (st 4) (st 5 0)).2 ∧ NMW u.2.2)) 0 0 (jA E) := by
  refine j_metZ (by decide) (Nat.le_of_ble_eq_true rfl) ?_
  intro p e s m args below meth c Q hx hb hml hown hnm hts hV hH hret ls hl
  have hl : lv_has ls 3 [(0, .ref o)] := hl
  have hT := h1.1
  have hs0 := ruO_b isSp (st 4) (st 5 0) 0
  have hs1 : 0 ≤ skO (st 4) (st 5 0) 0 ∧ skO (st 4) (st 5 0) 0 ≤ st 5 0 := by unfold skO; omega
  refine lv_aload_n hx hb dX3_isGood_0 rfl (lv_at hl 0 rfl) ?_
  refine j_iconst hx hb dX3_isGood_1 ?_
  refine j_put hx hb hts hown hV hH wM_o rfl in_X3 tyX3 tyX3_ok nmX3 20 (Nat.le_of_ble_eq_true rfl) q2249 (fun _ h => h) rfl rfl rfl (Nat.le_of_ble_eq_true rfl) dX3_isGood_2 (fun H locs hH => ?_)
  rw [wM_f20] at hH
  have hH : jH E s.heap (wM E o (txO st 0 (st 21 0) (st 22)) w0) H locs := by rw [txO_i] at hH; exact hH
  refine j_iconst hx hb dX3_isGood_5 ?_
  refine j_istore_n (lv' := fun x1 => [(1, .int (iI x1)), (0, .ref o)]) hx hb dX3_isGood_6 rfl hl (by decide) (fun _ => rfl) (fun x1 ex1 ls hl => ?_)
  refine lv_aload_n hx hb dX3_isGood_7 rfl (lv_at hl 1 rfl) ?_
  refine j_callif (va_runV (As := []) (rest := []) ⟨hx, hb, hml, hown, hts⟩ (m_X3_skips l o (txO st 0 (st 21 0) (st 22)) w0 (h1) (show 0 ≤ 0 ∧ 0 ≤ st 5 0 by omega)) (cw_X3_skips hts q2651 (Nat.le_of_ble_eq_true rfl) (Nat.le_of_ble_eq_true rfl)) (j_preV hV hH wM_o rfl) rfl rfl hl.1 rfl (lv_room (Nat.le_of_ble_eq_true rfl)) dX3_isGood_8 ⟨Nat.le_of_ble_eq_true rfl, Nat.le_of_ble_eq_true rfl⟩) hH (fun H locs hH => ?_)
  have hH : jH E s.heap (wM E o (txO ((txO st 0 (st 21 0) (st 22))) (skO (st 4) (st 5 0) (0)) ((st 21 0)) ((txO st 0 (st 21 0) (st 22)) 22)) w0) H locs := hH
  refine j_top (b := bI (0 < skO (st 4) (st 5 0) (0))) rfl ?_
  have hH : jH E s.heap (wM E o (txO st (skO (st 4) (st 5 0) 0) (st 21 0) (st 22)) w0) H locs := by rw [txO_tx] at hH; exact hH
  refine lv_istore_n (lv' := [(2, .int (iI (bI (0 < skO (st 4) (st 5 0) (0))))), (1, .int (iI x1)), (0, .ref o)]) hx hb dX3_isGood_11 rfl hl (by decide) rfl (fun ls hl => ?_)
  have L12 : ∀ (n_ : Nat), ∀ (gs : Int) (pl : Int) (cm : Int) (nm : Int → Int) (hm_ : 2 * (st 5 0 - pl) + gs < (n_ : Int)) (g1 : 0 ≤ pl ∧ pl ≤ st 5 0) (g2 : gs = 0 ∨ gs = 1) (g3 : gs = 1 → gdO (st 4) (st 5 0) = gdF (st 4) (st 5 0) 151 pl) (g4 : gs = 0 → gdO (st 4) (st 5 0) = (0, pl)) (g5 : NMW nm) (H : Heap) (locs : List Loc), jH E s.heap (wM E o (txO st pl cm nm) w0) H locs → ∀ ls : Array Slot, lv_has ls 3 [(0, .ref o), (1, .int (iI gs))] → W p l e (rmL 5 0 0) s m args below meth c H locs 0 0 Q (F0 m 12 ls []) := by
    intro n_
    induction n_ with
    | zero =>
      intro gs pl cm nm hm_ g1 g2 g3 g4 g5 H locs hH ls hl
      exact absurd hm_ (by omega)
    | succ n_ ih_12 =>
      intro gs pl cm nm hm_ g1 g2 g3 g4 g5 H locs hH ls hl
      have hrb := rcO_b (st 4) (st 5 0) pl (by omega)
      refine lv_iload_n hx hb dX3_isGood_12 rfl (lv_at hl 1 rfl) ?_
      refine j_if_eq (tgt := 52) hx hb dX3_isGood_13 (by decide) (by omega) (fun c13 => ?_) (fun c13 => ?_)
      · have hgd := g4 c13
        refine lv_iload_n hx hb dX3_isGood_52 rfl (lv_at hl 1 rfl) ?_
        exact hret (pl, cm, nm) hH dX3_isGood_53 (Nat.le_of_ble_eq_true rfl) (Nat.le_of_ble_eq_true rfl) (by omega) (⟨by rw [hgd]; first | exact bT (by omega) | (rw [show gs = 0 by omega]; exact bF (fun q => absurd (show (0 : Int) = 1 from q) (by decide))) | (rw [show gs = 1 by omega]; exact bT rfl), by rw [hgd], g5⟩)
      · refine lv_aload_n hx hb dX3_isGood_16 rfl (lv_at hl 0 rfl) ?_
        refine j_get hx hb hts hown hV hH wM_o rfl in_X3 20 (Nat.le_of_ble_eq_true rfl) q2249 (fun _ h => h) rfl dX3_isGood_17 ?_
        refine j_top (b := pl) rfl ?_
        refine lv_aload_n hx hb dX3_isGood_20 rfl (lv_at hl 0 rfl) ?_
        refine j_get hx hb hts hown hV hH wM_o rfl in_X3 5 (Nat.le_of_ble_eq_true rfl) q2234 (fun _ h => h) rfl dX3_isGood_21 ?_
        refine j_top (b := st 5 0) rfl ?_
        refine j_icmp_ge (tgt := 52) hx hb dX3_isGood_24 (by decide) (by omega) (by omega) (fun c24 => ?_) (fun c24 => ?_)
        · have hgd : gdO (st 4) (st 5 0) = (1, pl) := by rw [g3 (by omega)]; exact gdF_end (by omega) 151
          refine lv_iload_n hx hb dX3_isGood_52 rfl (lv_at hl 1 rfl) ?_
          exact hret (pl, cm, nm) hH dX3_isGood_53 (Nat.le_of_ble_eq_true rfl) (Nat.le_of_ble_eq_true rfl) (by omega) (⟨by rw [hgd]; first | exact bT (by omega) | (rw [show gs = 0 by omega]; exact bF (fun q => absurd (show (0 : Int) = 1 from q) (by decide))) | (rw [show gs = 1 by omega]; exact bT rfl), by rw [hgd], g5⟩)
        · refine lv_aload_n hx hb dX3_isGood_27 rfl (lv_at hl 0 rfl) ?_
          refine j_calli (va_runV (As := []) (rest := []) ⟨hx, hb, hml, hown, hts⟩ (m_X3_readCommand l o (txO st pl cm nm) w0 (h1) (show 0 ≤ pl ∧ pl ≤ st 5 0 by omega) (g5)) (cw_X3_readCommand hts q2659 (Nat.le_of_ble_eq_true rfl) (Nat.le_of_ble_eq_true rfl)) (j_preV hV hH wM_o rfl) rfl rfl hl.1 rfl (lv_room (Nat.le_of_ble_eq_true rfl)) dX3_isGood_28 ⟨Nat.le_of_ble_eq_true rfl, Nat.le_of_ble_eq_true rfl⟩) hH (fun z u H locs hp hH => ?_)
          obtain ⟨z2, hzz2⟩ : ∃ q, q = z := ⟨_, rfl⟩
          subst hzz2
          obtain ⟨u3, huu3⟩ : ∃ q, q = u := ⟨_, rfl⟩
          subst huu3
          have hH : jH E s.heap (wM E o (txO ((txO st pl cm nm)) u3.1 u3.2.1 u3.2.2) w0) H locs := hH
          have hp28 : (fun z u => z = bI ((rcO (st 4) (st 5 0) (pl)).1 = 1) ∧ u.1 = (rcO (st 4) (st 5 0) (pl)).2 ∧ NMW u.2.2 ∧ ((rcO (st 4) (st 5 0) (pl)).1 = 1 → u.2.1 = wdO (st 4) (st 5 0) (pl) ∧ ∀ j : Int, 0 ≤ j → j < manO (wdO (st 4) (st 5 0) (pl)) → u.2.2 j = nvO (st 4) (st 5 0) (leO (st 4) (st 5 0) (pl)) j.toNat)) z2 u3 := hp
          have hH : jH E s.heap (wM E o (txO st u3.1 u3.2.1 u3.2.2) w0) H locs := by rw [txO_tx] at hH; exact hH
          have hrp := hp28.1
          have hru := hp28.2.1
          have hrn := hp28.2.2.1
          have h01 := bI_01 ((rcO (st 4) (st 5 0) pl).1 = 1)
          have hu0 : 0 ≤ u3.1 ∧ u3.1 ≤ st 5 0 := by omega
          have hs2 := ruO_b isSp (st 4) (st 5 0) u3.1
          have hs4 : u3.1 ≤ skO (st 4) (st 5 0) u3.1 := hs2.1
          have hs3 : 0 ≤ skO (st 4) (st 5 0) u3.1 ∧ skO (st 4) (st 5 0) u3.1 ≤ st 5 0 := by unfold skO; omega
          refine j_istore_n (lv' := fun x4 => [(1, .int (iI x4)), (0, .ref o)]) hx hb dX3_isGood_31 rfl hl (by decide) (fun _ => rfl) (fun x4 ex4 ls hl => ?_)
          refine lv_iload_n hx hb dX3_isGood_32 rfl (lv_at hl 0 rfl) ?_
          refine j_if_eq (tgt := 47) hx hb dX3_isGood_33 (by decide) (by omega) (fun c33 => ?_) (fun c33 => ?_)
          · refine j_iconst hx hb dX3_isGood_47 ?_
            refine j_istore_n (lv' := fun x5 => [(2, .int (iI x5)), (1, .int (iI x4)), (0, .ref o)]) hx hb dX3_isGood_48 rfl hl (by decide) (fun _ => rfl) (fun x5 ex5 ls hl => ?_)
            refine lv_goto (tgt := 12) hx hb dX3_isGood_49 (by decide) ?_
            exact ih_12 x4 u3.1 u3.2.1 u3.2.2 (by first | omega | (have := hrb.2.2.2 (bI_1.mp (by omega)); omega)) (by first | exact hs3 | exact hu0) (by omega) (by intro q; have q1 : (rcO (st 4) (st 5 0) pl).1 = 1 := bI_1.mp (by omega); first | exact absurd q (by omega) | (rw [g3 (by omega), hru]; exact gd_y g1.1 hT.2 c24 q1)) (by intro q; first | exact absurd q (by omega) | (rw [g3 (by omega), hru]; exact gd_n c24 (fun q1 => by have := bI_1.mpr q1; omega))) (hrn) _ _ hH ls (lv_sub hl [2, 1] rfl)
          · refine lv_aload_n hx hb dX3_isGood_36 rfl (lv_at hl 1 rfl) ?_
            refine j_callif (va_runV (As := []) (rest := []) ⟨hx, hb, hml, hown, hts⟩ (m_X3_skips l o (txO st u3.1 u3.2.1 u3.2.2) w0 (h1) (show 0 ≤ u3.1 ∧ u3.1 ≤ st 5 0 by omega)) (cw_X3_skips hts q2651 (Nat.le_of_ble_eq_true rfl) (Nat.le_of_ble_eq_true rfl)) (j_preV hV hH wM_o rfl) rfl rfl hl.1 rfl (lv_room (Nat.le_of_ble_eq_true rfl)) dX3_isGood_37 ⟨Nat.le_of_ble_eq_true rfl, Nat.le_of_ble_eq_true rfl⟩) hH (fun H locs hH => ?_)
            have hH : jH E s.heap (wM E o (txO ((txO st u3.1 u3.2.1 u3.2.2)) (skO (st 4) (st 5 0) (u3.1)) (u3.2.1) ((txO st u3.1 u3.2.1 u3.2.2) 22)) w0) H locs := hH
            refine j_top (b := bI (u3.1 < skO (st 4) (st 5 0) (u3.1))) rfl ?_
            have hH : jH E s.heap (wM E o (txO st (skO (st 4) (st 5 0) u3.1) u3.2.1 u3.2.2) w0) H locs := by rw [txO_tx] at hH; exact hH
            refine j_ifeq_b (tgt := 47) hx hb dX3_isGood_40 (by decide) (fun c40 => ?_) (fun c40 => ?_)
            · refine j_iconst hx hb dX3_isGood_47 ?_
              refine j_istore_n (lv' := fun x6 => [(2, .int (iI x6)), (1, .int (iI x4)), (0, .ref o)]) hx hb dX3_isGood_48 rfl hl (by decide) (fun _ => rfl) (fun x6 ex6 ls hl => ?_)
              refine lv_goto (tgt := 12) hx hb dX3_isGood_49 (by decide) ?_
              exact ih_12 x4 (skO (st 4) (st 5 0) u3.1) u3.2.1 u3.2.2 (by first | omega | (have := hrb.2.2.2 (bI_1.mp (by omega)); omega)) (by first | exact hs3 | exact hu0) (by omega) (by intro q; have q1 : (rcO (st 4) (st 5 0) pl).1 = 1 := bI_1.mp (by omega); first | exact absurd q (by omega) | (rw [g3 (by omega), hru]; exact gd_y g1.1 hT.2 c24 q1)) (by intro q; first | exact absurd q (by omega) | (rw [g3 (by omega), hru]; exact gd_n c24 (fun q1 => by have := bI_1.mpr q1; omega))) (hrn) _ _ hH ls (lv_sub hl [2, 1] rfl)
            · refine j_iconst hx hb dX3_isGood_43 ?_
              refine lv_goto (tgt := 48) hx hb dX3_isGood_44 (by decide) ?_
              refine j_istore_n (lv' := fun x7 => [(2, .int (iI x7)), (1, .int (iI x4)), (0, .ref o)]) hx hb dX3_isGood_48 rfl hl (by decide) (fun _ => rfl) (fun x7 ex7 ls hl => ?_)
              refine lv_goto (tgt := 12) hx hb dX3_isGood_49 (by decide) ?_
              exact ih_12 x4 (skO (st 4) (st 5 0) u3.1) u3.2.1 u3.2.2 (by first | omega | (have := hrb.2.2.2 (bI_1.mp (by omega)); omega)) (by first | exact hs3 | exact hu0) (by omega) (by intro q; have q1 : (rcO (st 4) (st 5 0) pl).1 = 1 := bI_1.mp (by omega); first | exact absurd q (by omega) | (rw [g3 (by omega), hru]; exact gd_y g1.1 hT.2 c24 q1)) (by intro q; first | exact absurd q (by omega) | (rw [g3 (by omega), hru]; exact gd_n c24 (fun q1 => by have := bI_1.mpr q1; omega))) (hrn) _ _ hH ls (lv_sub hl [2, 1] rfl)
  exact L12 ((2 * (st 5 0 - (skO (st 4) (st 5 0) 0)) + x1).toNat + 1) x1 (skO (st 4) (st 5 0) 0) (st 21 0) (st 22) (by omega) (by first | assumption | omega) (by first | assumption | omega) (fun _ => rfl) (by omega) (h2) _ _ hH ls (lv_sub hl [2, 1] rfl)
