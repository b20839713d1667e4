/-! THE REFERENCE's METHODS: the command text -/
set_option maxRecDepth 100000
def cdT (v L : Int) : Int := if 0 ≤ v ∧ v ≤ 127 then if L = 150 then 2 else 0 else 1
theorem cdT_or (v L : Int) : (cdT v L = 0 ∧ (0 ≤ v ∧ v ≤ 127) ∧ L ≠ 150) ∨ (cdT v L = 1 ∧ ¬ (0 ≤ v ∧ v ≤ 127)) ∨ (cdT v L = 2 ∧ (0 ≤ v ∧ v ≤ 127) ∧ L = 150) := by
  unfold cdT; split <;> (try split) <;> omega
def tyS (st : Ms) (v : Int) : Ms := if cdT v (st 5 0) = 0 then su (su (su st 6 0 (cdT v (st 5 0))) 4 (st 5 0) v) 5 0 (st 5 0 + 1) else su st 6 0 (cdT v (st 5 0))
theorem nuO_n {t : Int → Int} {L p : Int} (h : ¬ p < skO t L p) : nuO t L p = (0, p) ∧ skO t L p = p := by
  have hb := ruO_b isSp t L p
  have e : skO t L p = p := by unfold skO at h ⊢; omega
  exact ⟨by unfold nuO; rw [if_pos e], e⟩
theorem nuO_y {t : Int → Int} {L p : Int} (h : p < skO t L p) : nuO t L p = (if skO t L p < (dgF t L 3 (skO t L p) 0).1 then 1 else 0, (dgF t L 3 (skO t L p) 0).1) := by
  unfold nuO; rw [if_neg (by omega)]
theorem dgF_s {t : Int → Int} {L p v : Int} {f g : Nat} (hf : f = g + 1) (h : p < L ∧ isDg (t p)) : dgF t L f p v = dgF t L g (p + 1) (10 * v + t p - 48) := by
  subst hf; rw [dgF, if_pos h]
theorem dgF_e {t : Int → Int} {L p v : Int} {f : Nat} (h : f = 0 ∨ ¬ (p < L ∧ isDg (t p))) : dgF t L f p v = (p, v) := by
  cases f with
  | zero => rfl
  | succ f =>
    rw [dgF, if_neg]
    exact h.resolve_left (by omega)
theorem cw_X3_type {R : Room} {s : State} {args : Array Value} {own : String} {index lev mc ms : Nat} (hts : ∀ w ∈ lw_all, w.before args s = true) (hl : Cond.methodLink own index yX3_type ∈ lw_all) (hR1 : (rmL lev mc ms).frames + 1 ≤ R.frames) (hR2 : 8 + (2 + 11) + (rmL lev mc ms).locals ≤ R.locals) : CallW R s args own RX3 index yX3_type cX3_type 2 (some .int) (ws_ yX3_type cX3_type 2 (some .int)) (rmL lev mc ms) mc ms 1 :=
  cwV 1 hts (lw_V hl q2636 q2637 q116 q2638) rfl rfl rfl (by decide +kernel) ⟨hR1, hR2⟩
set_option maxHeartbeats 4000000 in
theorem m_X3_type {E : jE} (l : Launch) (o : Nat) (st : Ms) (w0 : Wl) (v : Int) (h1 : -2147483648 ≤ v ∧ v ≤ 2147483647) (h2 : 0 ≤ st 5 0 ∧ st 5 0 ≤ 150) : Met l yX3_type (ws_ yX3_type cX3_type 2 (some .int)) (rmL 2 0 0) (va_Pc [.ref o, .int (iI v)] (jP E (wM E o st w0))) (jQi E (fun u : Ms => wM E o u w0) (fun z u => z = (if cdT v (st 5 0) = 0 then st 5 0 + 1 else 0) ∧ u = tyS st v)) 0 0 (jA E) := by
  refine j_metI (by decide) (Nat.le_of_ble_eq_true rfl) ?_
  intro p e s m args below meth c Q hx hb hml hown hnm hts hV hH hret ls hl
  have hl : lv_has ls 2 [(0, .ref o), (1, .int (iI v))] := hl
  have hcd := cdT_or v (st 5 0)
  refine lv_aload_n hx hb dX3_type_0 rfl (lv_at hl 0 rfl) ?_
  refine lv_iload_n hx hb dX3_type_1 rfl (lv_at hl 1 rfl) ?_
  refine j_iconst hx hb dX3_type_2 ?_
  refine j_bipush hx hb dX3_type_3 (by decide) ?_
  refine j_callip (va_runS (As := [.int (iI v), .int (iI 0), .int (iI 127)]) (rest := [.ref o]) ⟨hx, hb, hml, hown, hts⟩ (m_X3_in l _ v 0 127 (by omega) (by omega) (by omega)) (cw_X3_in hts q2313 (Nat.le_of_ble_eq_true rfl) (Nat.le_of_ble_eq_true rfl)) (j_preS hV hH) rfl rfl hl.1 rfl (lv_room (Nat.le_of_ble_eq_true rfl)) dX3_type_5 ⟨Nat.le_of_ble_eq_true rfl, Nat.le_of_ble_eq_true rfl⟩) hH (fun H locs hH => ?_)
  refine j_ifne_b (tgt := 15) hx hb dX3_type_8 (by decide) (fun c8 => ?_) (fun c8 => ?_)
  · refine lv_aload_n hx hb dX3_type_15 rfl (lv_at hl 0 rfl) ?_
    refine j_get hx hb hts hown hV hH wM_o rfl in_X3 5 (Nat.le_of_ble_eq_true rfl) q2234 (fun _ h => h) rfl dX3_type_16 ?_
    refine j_sipush hx hb dX3_type_19 (by decide) ?_
    refine j_icmp_ne (tgt := 29) hx hb dX3_type_22 (by decide) (by omega) (by omega) (fun c22 => ?_) (fun c22 => ?_)
    · refine j_iconst hx hb dX3_type_29 ?_
      refine j_top (b := cdT v (st 5 0)) (by omega) ?_
      refine j_put hx hb hts hown hV hH wM_o rfl in_X3 tyX3 tyX3_ok nmX3 6 (Nat.le_of_ble_eq_true rfl) q2235 (fun _ h => h) rfl rfl rfl (Nat.le_of_ble_eq_true rfl) dX3_type_30 (fun H locs hH => ?_)
      rw [wM_f6] at hH
      refine lv_aload_n hx hb dX3_type_33 rfl (lv_at hl 0 rfl) ?_
      refine j_get hx hb hts hown hV hH wM_o rfl in_X3 6 (Nat.le_of_ble_eq_true rfl) q2235 (fun _ h => h) rfl dX3_type_34 ?_
      refine j_top (b := cdT v (st 5 0)) rfl ?_
      refine j_if_eq (tgt := 42) hx hb dX3_type_37 (by decide) (by omega) (fun c37 => ?_) (fun c37 => ?_)
      · refine lv_aload_n hx hb dX3_type_42 rfl (lv_at hl 0 rfl) ?_
        refine j_get hx hb hts hown hV hH wM_o rfl in_X3 4 (Nat.le_of_ble_eq_true rfl) q2233 (fun _ h => h) rfl dX3_type_43 ?_
        refine lv_aload_n hx hb dX3_type_46 rfl (lv_at hl 0 rfl) ?_
        refine j_get hx hb hts hown hV hH wM_o rfl in_X3 5 (Nat.le_of_ble_eq_true rfl) q2234 (fun _ h => h) rfl dX3_type_47 ?_
        refine j_top (b := st 5 0) rfl ?_
        refine lv_iload_n hx hb dX3_type_50 rfl (lv_at hl 1 rfl) ?_
        refine j_iast (n := 150) hx hb hV hH wM_4 (by omega) (by omega) dX3_type_51 (fun H locs hH => ?_)
        rw [wM_s4] at hH
        refine lv_aload_n hx hb dX3_type_52 rfl (lv_at hl 0 rfl) ?_
        refine lv_dup hx hb dX3_type_53 rfl ?_
        refine j_get hx hb hts hown hV hH wM_o rfl in_X3 5 (Nat.le_of_ble_eq_true rfl) q2234 (fun _ h => h) rfl dX3_type_54 ?_
        refine j_top (b := st 5 0) rfl ?_
        refine j_iconst hx hb dX3_type_57 ?_
        refine j_iadd hx hb dX3_type_58 ?_
        refine j_put hx hb hts hown hV hH wM_o rfl in_X3 tyX3 tyX3_ok nmX3 5 (Nat.le_of_ble_eq_true rfl) q2234 (fun _ h => h) rfl rfl rfl (Nat.le_of_ble_eq_true rfl) dX3_type_59 (fun H locs hH => ?_)
        rw [wM_f5] at hH
        refine lv_aload_n hx hb dX3_type_62 rfl (lv_at hl 0 rfl) ?_
        refine j_get hx hb hts hown hV hH wM_o rfl in_X3 5 (Nat.le_of_ble_eq_true rfl) q2234 (fun _ h => h) rfl dX3_type_63 ?_
        refine j_top (b := (st 5 0) + 1) rfl ?_
        exact hret (su (su (su st 6 0 (cdT v (st 5 0))) 4 (st 5 0) v) 5 0 ((st 5 0) + 1)) hH dX3_type_66 (Nat.le_of_ble_eq_true rfl) (Nat.le_of_ble_eq_true rfl) (⟨(if_pos c37).symm, (if_pos c37).symm⟩)
      · refine j_iconst hx hb dX3_type_40 ?_
        exact hret (su st 6 0 (cdT v (st 5 0))) hH dX3_type_41 (Nat.le_of_ble_eq_true rfl) (Nat.le_of_ble_eq_true rfl) (⟨(if_neg c37).symm, (if_neg c37).symm⟩)
    · refine j_iconst hx hb dX3_type_25 ?_
      refine lv_goto (tgt := 30) hx hb dX3_type_26 (by decide) ?_
      refine j_top (b := cdT v (st 5 0)) (by omega) ?_
      refine j_put hx hb hts hown hV hH wM_o rfl in_X3 tyX3 tyX3_ok nmX3 6 (Nat.le_of_ble_eq_true rfl) q2235 (fun _ h => h) rfl rfl rfl (Nat.le_of_ble_eq_true rfl) dX3_type_30 (fun H locs hH => ?_)
      rw [wM_f6] at hH
      refine lv_aload_n hx hb dX3_type_33 rfl (lv_at hl 0 rfl) ?_
      refine j_get hx hb hts hown hV hH wM_o rfl in_X3 6 (Nat.le_of_ble_eq_true rfl) q2235 (fun _ h => h) rfl dX3_type_34 ?_
      refine j_top (b := cdT v (st 5 0)) rfl ?_
      refine j_if_eq (tgt := 42) hx hb dX3_type_37 (by decide) (by omega) (fun c37 => ?_) (fun c37 => ?_)
      · refine lv_aload_n hx hb dX3_type_42 rfl (lv_at hl 0 rfl) ?_
        refine j_get hx hb hts hown hV hH wM_o rfl in_X3 4 (Nat.le_of_ble_eq_true rfl) q2233 (fun _ h => h) rfl dX3_type_43 ?_
        refine lv_aload_n hx hb dX3_type_46 rfl (lv_at hl 0 rfl) ?_
        refine j_get hx hb hts hown hV hH wM_o rfl in_X3 5 (Nat.le_of_ble_eq_true rfl) q2234 (fun _ h => h) rfl dX3_type_47 ?_
        refine j_top (b := st 5 0) rfl ?_
        refine lv_iload_n hx hb dX3_type_50 rfl (lv_at hl 1 rfl) ?_
        refine j_iast (n := 150) hx hb hV hH wM_4 (by omega) (by omega) dX3_type_51 (fun H locs hH => ?_)
        rw [wM_s4] at hH
        refine lv_aload_n hx hb dX3_type_52 rfl (lv_at hl 0 rfl) ?_
        refine lv_dup hx hb dX3_type_53 rfl ?_
        refine j_get hx hb hts hown hV hH wM_o rfl in_X3 5 (Nat.le_of_ble_eq_true rfl) q2234 (fun _ h => h) rfl dX3_type_54 ?_
        refine j_top (b := st 5 0) rfl ?_
        refine j_iconst hx hb dX3_type_57 ?_
        refine j_iadd hx hb dX3_type_58 ?_
        refine j_put hx hb hts hown hV hH wM_o rfl in_X3 tyX3 tyX3_ok nmX3 5 (Nat.le_of_ble_eq_true rfl) q2234 (fun _ h => h) rfl rfl rfl (Nat.le_of_ble_eq_true rfl) dX3_type_59 (fun H locs hH => ?_)
        rw [wM_f5] at hH
        refine lv_aload_n hx hb dX3_type_62 rfl (lv_at hl 0 rfl) ?_
        refine j_get hx hb hts hown hV hH wM_o rfl in_X3 5 (Nat.le_of_ble_eq_true rfl) q2234 (fun _ h => h) rfl dX3_type_63 ?_
        refine j_top (b := (st 5 0) + 1) rfl ?_
        exact hret (su (su (su st 6 0 (cdT v (st 5 0))) 4 (st 5 0) v) 5 0 ((st 5 0) + 1)) hH dX3_type_66 (Nat.le_of_ble_eq_true rfl) (Nat.le_of_ble_eq_true rfl) (⟨(if_pos c37).symm, (if_pos c37).symm⟩)
      · refine j_iconst hx hb dX3_type_40 ?_
        exact hret (su st 6 0 (cdT v (st 5 0))) hH dX3_type_41 (Nat.le_of_ble_eq_true rfl) (Nat.le_of_ble_eq_true rfl) (⟨(if_neg c37).symm, (if_neg c37).symm⟩)
  · refine j_iconst hx hb dX3_type_11 ?_
    refine lv_goto (tgt := 30) hx hb dX3_type_12 (by decide) ?_
    refine j_top (b := cdT v (st 5 0)) (by omega) ?_
    refine j_put hx hb hts hown hV hH wM_o rfl in_X3 tyX3 tyX3_ok nmX3 6 (Nat.le_of_ble_eq_true rfl) q2235 (fun _ h => h) rfl rfl rfl (Nat.le_of_ble_eq_true rfl) dX3_type_30 (fun H locs hH => ?_)
    rw [wM_f6] at hH
    refine lv_aload_n hx hb dX3_type_33 rfl (lv_at hl 0 rfl) ?_
    refine j_get hx hb hts hown hV hH wM_o rfl in_X3 6 (Nat.le_of_ble_eq_true rfl) q2235 (fun _ h => h) rfl dX3_type_34 ?_
    refine j_top (b := cdT v (st 5 0)) rfl ?_
    refine j_if_eq (tgt := 42) hx hb dX3_type_37 (by decide) (by omega) (fun c37 => ?_) (fun c37 => ?_)
    · refine lv_aload_n hx hb dX3_type_42 rfl (lv_at hl 0 rfl) ?_
      refine j_get hx hb hts hown hV hH wM_o rfl in_X3 4 (Nat.le_of_ble_eq_true rfl) q2233 (fun _ h => h) rfl dX3_type_43 ?_
      refine lv_aload_n hx hb dX3_type_46 rfl (lv_at hl 0 rfl) ?_
      refine j_get hx hb hts hown hV hH wM_o rfl in_X3 5 (Nat.le_of_ble_eq_true rfl) q2234 (fun _ h => h) rfl dX3_type_47 ?_
      refine j_top (b := st 5 0) rfl ?_
      refine lv_iload_n hx hb dX3_type_50 rfl (lv_at hl 1 rfl) ?_
      refine j_iast (n := 150) hx hb hV hH wM_4 (by omega) (by omega) dX3_type_51 (fun H locs hH => ?_)
      rw [wM_s4] at hH
      refine lv_aload_n hx hb dX3_type_52 rfl (lv_at hl 0 rfl) ?_
      refine lv_dup hx hb dX3_type_53 rfl ?_
      refine j_get hx hb hts hown hV hH wM_o rfl in_X3 5 (Nat.le_of_ble_eq_true rfl) q2234 (fun _ h => h) rfl dX3_type_54 ?_
      refine j_top (b := st 5 0) rfl ?_
      refine j_iconst hx hb dX3_type_57 ?_
      refine j_iadd hx hb dX3_type_58 ?_
      refine j_put hx hb hts hown hV hH wM_o rfl in_X3 tyX3 tyX3_ok nmX3 5 (Nat.le_of_ble_eq_true rfl) q2234 (fun _ h => h) rfl rfl rfl (Nat.le_of_ble_eq_true rfl) dX3_type_59 (fun H locs hH => ?_)
      rw [wM_f5] at hH
      refine lv_aload_n hx hb dX3_type_62 rfl (lv_at hl 0 rfl) ?_
      refine j_get hx hb hts hown hV hH wM_o rfl in_X3 5 (Nat.le_of_ble_eq_true rfl) q2234 (fun _ h => h) rfl dX3_type_63 ?_
      refine j_top (b := (st 5 0) + 1) rfl ?_
      exact hret (su (su (su st 6 0 (cdT v (st 5 0))) 4 (st 5 0) v) 5 0 ((st 5 0) + 1)) hH dX3_type_66 (Nat.le_of_ble_eq_true rfl) (Nat.le_of_ble_eq_true rfl) (⟨(if_pos c37).symm, (if_pos c37).symm⟩)
    · refine j_iconst hx hb dX3_type_40 ?_
      exact hret (su st 6 0 (cdT v (st 5 0))) hH dX3_type_41 (Nat.le_of_ble_eq_true rfl) (Nat.le_of_ble_eq_true rfl) (⟨(if_neg c37).symm, (if_neg c37).symm⟩)
theorem cw_X3_clearCommands {R : Room} {s : State} {args : Array Value} {own : String} {index lev mc ms : Nat} (hts : ∀ w ∈ lw_all, w.before args s = true) (hl : Cond.methodLink own index yX3_clearCommands ∈ lw_all) (hR1 : (rmL lev mc ms).frames + 1 ≤ R.frames) (hR2 : 8 + (2 + 11) + (rmL lev mc ms).locals ≤ R.locals) : CallW R s args own RX3 index yX3_clearCommands cX3_clearCommands 2 (some .int) (ws_ yX3_clearCommands cX3_clearCommands 2 (some .int)) (rmL lev mc ms) mc ms 0 :=
  cwV 0 hts (lw_V hl q2640 q2641 q116 q2642) rfl rfl rfl (by decide +kernel) ⟨hR1, hR2⟩
set_option maxHeartbeats 4000000 in
theorem m_X3_clearCommands {E : jE} (l : Launch) (o : Nat) (st : Ms) (w0 : Wl) : Met l yX3_clearCommands (ws_ yX3_clearCommands cX3_clearCommands 2 (some .int)) (rmL 1 0 0) (va_Pc [.ref o] (jP E (wM E o st w0))) (jQi E (fun u : Ms => wM E o u w0) (fun z u => z = st 5 0 ∧ u = su (su st 6 0 0) 5 0 0)) 0 0 (jA E) := by
  refine j_metI (by decide) (Nat.le_of_ble_eq_true rfl) ?_
  intro p e s m args below meth c Q hx hb hml hown hnm hts hV hH hret ls hl
  have hl : lv_has ls 2 [(0, .ref o)] := hl
  refine lv_aload_n hx hb dX3_clearCommands_0 rfl (lv_at hl 0 rfl) ?_
  refine j_iconst hx hb dX3_clearCommands_1 ?_
  refine j_put hx hb hts hown hV hH wM_o rfl in_X3 tyX3 tyX3_ok nmX3 6 (Nat.le_of_ble_eq_true rfl) q2235 (fun _ h => h) rfl rfl rfl (Nat.le_of_ble_eq_true rfl) dX3_clearCommands_2 (fun H locs hH => ?_)
  rw [wM_f6] at hH
  refine lv_aload_n hx hb dX3_clearCommands_5 rfl (lv_at hl 0 rfl) ?_
  refine j_get hx hb hts hown hV hH wM_o rfl in_X3 5 (Nat.le_of_ble_eq_true rfl) q2234 (fun _ h => h) rfl dX3_clearCommands_6 ?_
  refine j_top (b := st 5 0) rfl ?_
  refine j_istore_n (lv' := fun x1 => [(1, .int (iI x1)), (0, .ref o)]) hx hb dX3_clearCommands_9 rfl hl (by decide) (fun _ => rfl) (fun x1 ex1 ls hl => ?_)
  refine lv_aload_n hx hb dX3_clearCommands_10 rfl (lv_at hl 1 rfl) ?_
  refine j_iconst hx hb dX3_clearCommands_11 ?_
  refine j_put hx hb hts hown hV hH wM_o rfl in_X3 tyX3 tyX3_ok nmX3 5 (Nat.le_of_ble_eq_true rfl) q2234 (fun _ h => h) rfl rfl rfl (Nat.le_of_ble_eq_true rfl) dX3_clearCommands_12 (fun H locs hH => ?_)
  rw [wM_f5] at hH
  refine lv_iload_n hx hb dX3_clearCommands_15 rfl (lv_at hl 0 rfl) ?_
  exact hret (su (su st 6 0 0) 5 0 0) hH dX3_clearCommands_16 (Nat.le_of_ble_eq_true rfl) (Nat.le_of_ble_eq_true rfl) (⟨ex1, rfl⟩)
theorem cw_X3_here {R : Room} {s : State} {args : Array Value} {own : String} {index lev mc ms : Nat} (hts : ∀ w ∈ lw_all, w.before args s = true) (hl : Cond.methodLink own index yX3_here ∈ lw_all) (hR1 : (rmL lev mc ms).frames + 1 ≤ R.frames) (hR2 : 8 + (1 + 11) + (rmL lev mc ms).locals ≤ R.locals) : CallW R s args own RX3 index yX3_here cX3_here 1 (some .int) (ws_ yX3_here cX3_here 1 (some .int)) (rmL lev mc ms) mc ms 0 :=
  cwV 0 hts (lw_V hl q2657 qs98 q116 q2658) rfl rfl rfl (by decide +kernel) ⟨hR1, hR2⟩
set_option maxHeartbeats 4000000 in
theorem m_X3_here {E : jE} (l : Launch) (o : Nat) (st : Ms) (w0 : Wl) (h1 : TXW st) (h2 : 0 ≤ st 20 0 ∧ st 20 0 ≤ st 5 0) : Met l yX3_here (ws_ yX3_here cX3_here 1 (some .int)) (rmL 1 0 0) (va_Pc [.ref o] (jP E (wM E o st w0))) (jQi E (fun u : Ms => wM E o u w0) (fun z u => z = herO (st 4) (st 5 0) (st 20 0) ∧ u = st)) 0 0 (jA E) := by
  refine j_metI (by decide) (Nat.le_of_ble_eq_true rfl) ?_
  intro p e s m args below meth c Q hx hb hml hown hnm hts hV hH hret ls hl
  have hl : lv_has ls 1 [(0, .ref o)] := hl
  have hT := h1.1
  refine lv_aload_n hx hb dX3_here_0 rfl (lv_at hl 0 rfl) ?_
  refine j_get hx hb hts hown hV hH wM_o rfl in_X3 20 (Nat.le_of_ble_eq_true rfl) q2249 (fun _ h => h) rfl dX3_here_1 ?_
  refine lv_aload_n hx hb dX3_here_4 rfl (lv_at hl 0 rfl) ?_
  refine j_get hx hb hts hown hV hH wM_o rfl in_X3 5 (Nat.le_of_ble_eq_true rfl) q2234 (fun _ h => h) rfl dX3_here_5 ?_
  refine j_icmp_ge (tgt := 23) hx hb dX3_here_8 (by decide) (by omega) (by omega) (fun c8 => ?_) (fun c8 => ?_)
  · refine j_sipush hx hb dX3_here_23 (by decide) ?_
    exact hret st hH dX3_here_26 (Nat.le_of_ble_eq_true rfl) (Nat.le_of_ble_eq_true rfl) (⟨by unfold herO; first | (rw [if_pos (by omega)]; done) | rw [if_neg (by omega)], rfl⟩)
  · refine lv_aload_n hx hb dX3_here_11 rfl (lv_at hl 0 rfl) ?_
    refine j_get hx hb hts hown hV hH wM_o rfl in_X3 4 (Nat.le_of_ble_eq_true rfl) q2233 (fun _ h => h) rfl dX3_here_12 ?_
    refine lv_aload_n hx hb dX3_here_15 rfl (lv_at hl 0 rfl) ?_
    refine j_get hx hb hts hown hV hH wM_o rfl in_X3 20 (Nat.le_of_ble_eq_true rfl) q2249 (fun _ h => h) rfl dX3_here_16 ?_
    refine j_iald (n := 150) hx hb hV hH wM_4 (by omega) (by omega) dX3_here_19 ?_
    refine lv_goto (tgt := 26) hx hb dX3_here_20 (by decide) ?_
    exact hret st hH dX3_here_26 (Nat.le_of_ble_eq_true rfl) (Nat.le_of_ble_eq_true rfl) (⟨by unfold herO; first | (rw [if_pos (by omega)]; done) | rw [if_neg (by omega)], rfl⟩)
theorem cw_X3_skips {R : Room} {s : State} {args : Array Value} {own : String} {index lev mc ms : Nat} (hts : ∀ w ∈ lw_all, w.before args s = true) (hl : Cond.methodLink own index yX3_skips ∈ lw_all) (hR1 : (rmL lev mc ms).frames + 1 ≤ R.frames) (hR2 : 8 + (2 + 11) + (rmL lev mc ms).locals ≤ R.locals) : CallW R s args own RX3 index yX3_skips cX3_skips 2 (some .boolean) (ws_ yX3_skips cX3_skips 2 (some .boolean)) (rmL lev mc ms) mc ms 0 :=
  cwV 0 hts (lw_V hl q2653 qs97 q116 q2654) rfl rfl rfl (by decide +kernel) ⟨hR1, hR2⟩
set_option maxHeartbeats 4000000 in
theorem m_X3_skips {E : jE} (l : Launch) (o : Nat) (st : Ms) (w0 : Wl) (h1 : TXW st) (h2 : 0 ≤ st 20 0 ∧ st 20 0 ≤ st 5 0) : Met l yX3_skips (ws_ yX3_skips cX3_skips 2 (some .boolean)) (rmL 2 0 0) (va_Pc [.ref o] (jP E (wM E o st w0))) (jQi E (fun u : Ms => wM E o u w0) (fun z u => z = bI (st 20 0 < skO (st 4) (st 5 0) (st 20 0)) ∧ u = txO (st) (skO (st 4) (st 5 0) (st 20 0)) (st 21 0) (st 22))) 0 0 (jA E) := by
  refine j_metZ (by decide) (Nat.le_of_ble_eq_true rfl) ?_
  intro p e s m args below meth c Q hx hb hml hown hnm hts hV hH hret ls hl
  have hl : lv_has ls 2 [(0, .ref o)] := hl
  have hT := h1.1
  have hsb := ruO_b isSp (st 4) (st 5 0) (st 20 0)
  refine lv_aload_n hx hb dX3_skips_0 rfl (lv_at hl 0 rfl) ?_
  refine j_get hx hb hts hown hV hH wM_o rfl in_X3 20 (Nat.le_of_ble_eq_true rfl) q2249 (fun _ h => h) rfl dX3_skips_1 ?_
  refine j_istore_n (lv' := fun x1 => [(1, .int (iI x1)), (0, .ref o)]) hx hb dX3_skips_4 rfl hl (by decide) (fun _ => rfl) (fun x1 ex1 ls hl => ?_)
  have L5 : ∀ (n_ : Nat), ∀ (fr : Int) (pl : Int) (hm_ : st 5 0 - pl < (n_ : Int)) (i1 : fr = st 20 0) (i2 : st 20 0 ≤ pl) (i3 : pl ≤ st 5 0) (i4 : skO (st 4) (st 5 0) (st 20 0) = skO (st 4) (st 5 0) pl) (H : Heap) (locs : List Loc), jH E s.heap (wM E o (txO st pl (st 21 0) (st 22)) w0) H locs → ∀ ls : Array Slot, lv_has ls 2 [(0, .ref o), (1, .int (iI fr))] → W p l e (rmL 2 0 0) s m args below meth c H locs 0 0 Q (F0 m 5 ls []) := by
    intro n_
    induction n_ with
    | zero =>
      intro fr pl hm_ i1 i2 i3 i4 H locs hH ls hl
      exact absurd hm_ (by omega)
    | succ n_ ih_5 =>
      intro fr pl hm_ i1 i2 i3 i4 H locs hH ls hl
      have hhb := herO_b h1 (p := pl) (by omega)
      refine lv_aload_n hx hb dX3_skips_5 rfl (lv_at hl 0 rfl) ?_
      refine j_callif (va_runV (As := []) (rest := []) ⟨hx, hb, hml, hown, hts⟩ (m_X3_here l o (txO st pl (st 21 0) (st 22)) w0 (h1) (show 0 ≤ pl ∧ pl ≤ st 5 0 by omega)) (cw_X3_here hts q2655 (Nat.le_of_ble_eq_true rfl) (Nat.le_of_ble_eq_true rfl)) (j_preV hV hH wM_o rfl) rfl rfl hl.1 rfl (lv_room (Nat.le_of_ble_eq_true rfl)) dX3_skips_6 ⟨Nat.le_of_ble_eq_true rfl, Nat.le_of_ble_eq_true rfl⟩) hH (fun H locs hH => ?_)
      refine j_top (b := herO (st 4) (st 5 0) (pl)) rfl ?_
      refine j_bipush hx hb dX3_skips_9 (by decide) ?_
      refine j_icmp_ne (tgt := 27) hx hb dX3_skips_11 (by decide) (by omega) (by omega) (fun c11 => ?_) (fun c11 => ?_)
      · have hsk : skO (st 4) (st 5 0) (st 20 0) = pl := by rw [i4]; exact ruO_n (fun q z => by rcases hhb with k | k; exact absurd q (by omega); exact c11 (k.1.trans z))
        refine lv_aload_n hx hb dX3_skips_27 rfl (lv_at hl 0 rfl) ?_
        refine j_get hx hb hts hown hV hH wM_o rfl in_X3 20 (Nat.le_of_ble_eq_true rfl) q2249 (fun _ h => h) rfl dX3_skips_28 ?_
        refine j_top (b := pl) rfl ?_
        refine lv_iload_n hx hb dX3_skips_31 rfl (lv_at hl 1 rfl) ?_
        refine j_icmp_le (tgt := 39) hx hb dX3_skips_32 (by decide) (by omega) (by omega) (fun c32 => ?_) (fun c32 => ?_)
        · refine j_iconst hx hb dX3_skips_39 ?_
          exact hret (txO st pl (st 21 0) (st 22)) hH dX3_skips_40 (Nat.le_of_ble_eq_true rfl) (Nat.le_of_ble_eq_true rfl) (by decide) (⟨by first | exact bT (by omega) | exact bF (by omega), by rw [hsk]⟩)
        · refine j_iconst hx hb dX3_skips_35 ?_
          refine lv_goto (tgt := 40) hx hb dX3_skips_36 (by decide) ?_
          exact hret (txO st pl (st 21 0) (st 22)) hH dX3_skips_40 (Nat.le_of_ble_eq_true rfl) (Nat.le_of_ble_eq_true rfl) (by decide) (⟨by first | exact bT (by omega) | exact bF (by omega), by rw [hsk]⟩)
      · refine lv_aload_n hx hb dX3_skips_14 rfl (lv_at hl 0 rfl) ?_
        refine lv_dup hx hb dX3_skips_15 rfl ?_
        refine j_get hx hb hts hown hV hH wM_o rfl in_X3 20 (Nat.le_of_ble_eq_true rfl) q2249 (fun _ h => h) rfl dX3_skips_16 ?_
        refine j_top (b := pl) rfl ?_
        refine j_iconst hx hb dX3_skips_19 ?_
        refine j_iadd hx hb dX3_skips_20 ?_
        refine j_put hx hb hts hown hV hH wM_o rfl in_X3 tyX3 tyX3_ok nmX3 20 (Nat.le_of_ble_eq_true rfl) q2249 (fun _ h => h) rfl rfl rfl (Nat.le_of_ble_eq_true rfl) dX3_skips_21 (fun H locs hH => ?_)
        rw [wM_f20] at hH
        refine lv_goto (tgt := 5) hx hb dX3_skips_24 (by decide) ?_
        have hH : jH E s.heap (wM E o (txO st (pl + 1) (st 21 0) (st 22)) w0) H locs := by rw [txO_p] at hH; exact hH
        exact ih_5 fr (pl + 1) (by omega) (i1) (by first | assumption | omega) (by first | assumption | omega) (by rw [i4]; exact ruO_s (by omega) (show st 4 pl = 32 by omega)) _ _ hH ls (lv_sub hl [0, 1] rfl)
  have hH : jH E s.heap (wM E o (txO st (st 20 0) (st 21 0) (st 22)) w0) s.heap [] := by rw [txO_self]; exact hH
  exact L5 ((st 5 0 - (st 20 0)).toNat + 1) x1 (st 20 0) (by omega) (ex1) (by first | assumption | omega) (by first | assumption | omega) (rfl) _ _ hH ls (lv_sub hl [1, 0] rfl)
theorem cw_X3_readNumber {R : Room} {s : State} {args : Array Value} {own : String} {index lev mc ms : Nat} (hts : ∀ w ∈ lw_all, w.before args s = true) (hl : Cond.methodLink own index yX3_readNumber ∈ lw_all) (hR1 : (rmL lev mc ms).frames + 1 ≤ R.frames) (hR2 : 8 + (4 + 11) + (rmL lev mc ms).locals ≤ R.locals) : CallW R s args own RX3 index yX3_readNumber cX3_readNumber 4 (some .boolean) (ws_ yX3_readNumber cX3_readNumber 4 (some .boolean)) (rmL lev mc ms) mc ms 1 :=
  cwV 1 hts (lw_V hl q2688 qs102 q116 q2689) rfl rfl rfl (by decide +kernel) ⟨hR1, hR2⟩
set_option maxHeartbeats 4000000 in
theorem m_X3_readNumber {E : jE} (l : Launch) (o : Nat) (st : Ms) (w0 : Wl) (which : Int) (h1 : TXW st) (h2 : 0 ≤ st 20 0 ∧ st 20 0 ≤ st 5 0) (h3 : 0 ≤ which ∧ which < 6) : Met l yX3_readNumber (ws_ yX3_readNumber cX3_readNumber 4 (some .boolean)) (rmL 3 0 0) (va_Pc [.ref o, .int (iI which)] (jP E (wM E o st w0))) (jQi E (fun u : Ms => wM E o u w0) (fun z u => z = bI ((nuO (st 4) (st 5 0) (st 20 0)).1 = 1) ∧ u = txO (st) (nuO (st 4) (st 5 0) (st 20 0)).2 (st 21 0) (if skO (st 4) (st 5 0) (st 20 0) = st 20 0 then st 22 else upz (st 22) which (dgF (st 4) (st 5 0) 3 (skO (st 4) (st 5 0) (st 20 0)) 0).2))) 0 0 (jA E) := by
  refine j_metZ (by decide) (Nat.le_of_ble_eq_true rfl) ?_
  intro p e s m args below meth c Q hx hb hml hown hnm hts hV hH hret ls hl
  have hl : lv_has ls 4 [(0, .ref o), (1, .int (iI which))] := hl
  have hT := h1.1
  have hsb := ruO_b isSp (st 4) (st 5 0) (st 20 0)
  obtain ⟨q0, hq0⟩ : ∃ q, q = skO (st 4) (st 5 0) (st 20 0) := ⟨_, rfl⟩
  have hsb : st 20 0 ≤ q0 ∧ (q0 ≤ st 5 0 ∨ q0 = st 20 0) := by rw [hq0]; exact hsb
  refine lv_aload_n hx hb dX3_readNumber_0 rfl (lv_at hl 0 rfl) ?_
  refine j_callif (va_runV (As := []) (rest := []) ⟨hx, hb, hml, hown, hts⟩ (m_X3_skips l o st w0 (h1) (by omega)) (cw_X3_skips hts q2651 (Nat.le_of_ble_eq_true rfl) (Nat.le_of_ble_eq_true rfl)) (j_preV hV hH wM_o rfl) rfl rfl hl.1 rfl (lv_room (Nat.le_of_ble_eq_true rfl)) dX3_readNumber_1 ⟨Nat.le_of_ble_eq_true rfl, Nat.le_of_ble_eq_true rfl⟩) hH (fun H locs hH => ?_)
  refine j_ifne_b (tgt := 9) hx hb dX3_readNumber_4 (by decide) (fun c4 => ?_) (fun c4 => ?_)
  · refine lv_aload_n hx hb dX3_readNumber_9 rfl (lv_at hl 0 rfl) ?_
    refine j_get hx hb hts hown hV hH wM_o rfl in_X3 20 (Nat.le_of_ble_eq_true rfl) q2249 (fun _ h => h) rfl dX3_readNumber_10 ?_
    refine j_top (b := skO (st 4) (st 5 0) (st 20 0)) rfl ?_
    refine j_top (b := q0) (hq0.symm) ?_
    refine j_istore_n (lv' := fun x1 => [(2, .int (iI x1)), (0, .ref o), (1, .int (iI which))]) hx hb dX3_readNumber_13 rfl hl (by decide) (fun _ => rfl) (fun x1 ex1 ls hl => ?_)
    refine j_iconst hx hb dX3_readNumber_14 ?_
    refine j_istore_n (lv' := fun x2 => [(3, .int (iI x2)), (2, .int (iI x1)), (0, .ref o), (1, .int (iI which))]) hx hb dX3_readNumber_15 rfl hl (by decide) (fun _ => rfl) (fun x2 ex2 ls hl => ?_)
    have L16 : ∀ (n_ : Nat), ∀ (fr : Int) (pl : Int) (v : Int) (hm_ : q0 + 3 - pl < (n_ : Int)) (i1 : fr = q0) (i2 : q0 ≤ pl ∧ pl ≤ q0 + 3) (i3 : pl ≤ st 5 0) (i4 : dgF (st 4) (st 5 0) 3 q0 0 = dgF (st 4) (st 5 0) (3 - (pl - q0)).toNat pl v) (i5 : 0 ≤ v ∧ (v = 0 ∨ (v ≤ 9 ∧ q0 + 1 ≤ pl) ∨ (v ≤ 99 ∧ q0 + 2 ≤ pl) ∨ (v ≤ 999 ∧ q0 + 3 ≤ pl))) (H : Heap) (locs : List Loc), jH E s.heap (wM E o (txO st pl (st 21 0) (st 22)) w0) H locs → ∀ ls : Array Slot, lv_has ls 4 [(0, .ref o), (1, .int (iI which)), (2, .int (iI fr)), (3, .int (iI v))] → W p l e (rmL 3 0 0) s m args below meth c H locs 0 0 Q (F0 m 16 ls []) := by
      intro n_
      induction n_ with
      | zero =>
        intro fr pl v hm_ i1 i2 i3 i4 i5 H locs hH ls hl
        exact absurd hm_ (by omega)
      | succ n_ ih_16 =>
        intro fr pl v hm_ i1 i2 i3 i4 i5 H locs hH ls hl
        have hhb := herO_b h1 (p := pl) (by omega)
        refine lv_aload_n hx hb dX3_readNumber_16 rfl (lv_at hl 0 rfl) ?_
        refine j_get hx hb hts hown hV hH wM_o rfl in_X3 20 (Nat.le_of_ble_eq_true rfl) q2249 (fun _ h => h) rfl dX3_readNumber_17 ?_
        refine j_top (b := pl) rfl ?_
        refine lv_iload_n hx hb dX3_readNumber_20 rfl (lv_at hl 2 rfl) ?_
        refine j_iconst hx hb dX3_readNumber_21 ?_
        refine j_iadd hx hb dX3_readNumber_22 ?_
        refine j_icmp_ge (tgt := 66) hx hb dX3_readNumber_23 (by decide) (by omega) (by omega) (fun c23 => ?_) (fun c23 => ?_)
        · have hdg : dgF (st 4) (st 5 0) 3 q0 0 = (pl, v) := by rw [i4]; exact dgF_e (by first | exact Or.inl (by omega) | exact Or.inr (fun q => by have q2 : 48 ≤ st 4 pl ∧ st 4 pl ≤ 57 := q.2; omega))
          refine lv_aload_n hx hb dX3_readNumber_66 rfl (lv_at hl 0 rfl) ?_
          refine j_get hx hb hts hown hV hH wM_o rfl in_X3 22 (Nat.le_of_ble_eq_true rfl) q2251 (fun _ h => h) rfl dX3_readNumber_67 ?_
          refine lv_iload_n hx hb dX3_readNumber_70 rfl (lv_at hl 1 rfl) ?_
          refine lv_iload_n hx hb dX3_readNumber_71 rfl (lv_at hl 3 rfl) ?_
          refine j_iast (n := 6) hx hb hV hH wM_22 (by omega) (by omega) dX3_readNumber_72 (fun H locs hH => ?_)
          rw [wM_s22] at hH
          refine lv_aload_n hx hb dX3_readNumber_73 rfl (lv_at hl 0 rfl) ?_
          refine j_get hx hb hts hown hV hH wM_o rfl in_X3 20 (Nat.le_of_ble_eq_true rfl) q2249 (fun _ h => h) rfl dX3_readNumber_74 ?_
          refine j_top (b := pl) rfl ?_
          refine lv_iload_n hx hb dX3_readNumber_77 rfl (lv_at hl 2 rfl) ?_
          refine j_icmp_le (tgt := 85) hx hb dX3_readNumber_78 (by decide) (by omega) (by omega) (fun c78 => ?_) (fun c78 => ?_)
          · refine j_iconst hx hb dX3_readNumber_85 ?_
            exact hret (su (txO st pl (st 21 0) (st 22)) 22 which v) hH dX3_readNumber_86 (Nat.le_of_ble_eq_true rfl) (Nat.le_of_ble_eq_true rfl) (by decide) (⟨by rw [nuO_y c4, ← hq0, hdg]; dsimp only; first | exact bT (if_pos (by omega)) | exact bF (fun q => by rw [if_neg (by omega)] at q; exact absurd (show (0 : Int) = 1 from q) (by decide)), by rw [nuO_y c4, ← hq0, hdg, if_neg (show ¬ q0 = st 20 0 by omega), txO_n]⟩)
          · refine j_iconst hx hb dX3_readNumber_81 ?_
            refine lv_goto (tgt := 86) hx hb dX3_readNumber_82 (by decide) ?_
            exact hret (su (txO st pl (st 21 0) (st 22)) 22 which v) hH dX3_readNumber_86 (Nat.le_of_ble_eq_true rfl) (Nat.le_of_ble_eq_true rfl) (by decide) (⟨by rw [nuO_y c4, ← hq0, hdg]; dsimp only; first | exact bT (if_pos (by omega)) | exact bF (fun q => by rw [if_neg (by omega)] at q; exact absurd (show (0 : Int) = 1 from q) (by decide)), by rw [nuO_y c4, ← hq0, hdg, if_neg (show ¬ q0 = st 20 0 by omega), txO_n]⟩)
        · refine lv_aload_n hx hb dX3_readNumber_26 rfl (lv_at hl 0 rfl) ?_
          refine j_callif (va_runV (As := []) (rest := []) ⟨hx, hb, hml, hown, hts⟩ (m_X3_here l o (txO st pl (st 21 0) (st 22)) w0 (h1) (show 0 ≤ pl ∧ pl ≤ st 5 0 by omega)) (cw_X3_here hts q2655 (Nat.le_of_ble_eq_true rfl) (Nat.le_of_ble_eq_true rfl)) (j_preV hV hH wM_o rfl) rfl rfl hl.1 rfl (lv_room (Nat.le_of_ble_eq_true rfl)) dX3_readNumber_27 ⟨Nat.le_of_ble_eq_true rfl, Nat.le_of_ble_eq_true rfl⟩) hH (fun H locs hH => ?_)
          refine j_top (b := herO (st 4) (st 5 0) (pl)) rfl ?_
          refine j_bipush hx hb dX3_readNumber_30 (by decide) ?_
          refine j_bipush hx hb dX3_readNumber_32 (by decide) ?_
          refine j_callip (va_runS (As := [.int (iI (herO (st 4) (st 5 0) (pl))), .int (iI 48), .int (iI 57)]) (rest := []) ⟨hx, hb, hml, hown, hts⟩ (m_X3_in l _ (herO (st 4) (st 5 0) (pl)) 48 57 (by omega) (by omega) (by omega)) (cw_X3_in hts q2313 (Nat.le_of_ble_eq_true rfl) (Nat.le_of_ble_eq_true rfl)) (j_preS hV hH) rfl rfl hl.1 rfl (lv_room (Nat.le_of_ble_eq_true rfl)) dX3_readNumber_34 ⟨Nat.le_of_ble_eq_true rfl, Nat.le_of_ble_eq_true rfl⟩) hH (fun H locs hH => ?_)
          refine j_ifeq_b (tgt := 66) hx hb dX3_readNumber_37 (by decide) (fun c37 => ?_) (fun c37 => ?_)
          · have hdg : dgF (st 4) (st 5 0) 3 q0 0 = (pl, v) := by rw [i4]; exact dgF_e (by first | exact Or.inl (by omega) | exact Or.inr (fun q => by have q2 : 48 ≤ st 4 pl ∧ st 4 pl ≤ 57 := q.2; omega))
            refine lv_aload_n hx hb dX3_readNumber_66 rfl (lv_at hl 0 rfl) ?_
            refine j_get hx hb hts hown hV hH wM_o rfl in_X3 22 (Nat.le_of_ble_eq_true rfl) q2251 (fun _ h => h) rfl dX3_readNumber_67 ?_
            refine lv_iload_n hx hb dX3_readNumber_70 rfl (lv_at hl 1 rfl) ?_
            refine lv_iload_n hx hb dX3_readNumber_71 rfl (lv_at hl 3 rfl) ?_
            refine j_iast (n := 6) hx hb hV hH wM_22 (by omega) (by omega) dX3_readNumber_72 (fun H locs hH => ?_)
            rw [wM_s22] at hH
            refine lv_aload_n hx hb dX3_readNumber_73 rfl (lv_at hl 0 rfl) ?_
            refine j_get hx hb hts hown hV hH wM_o rfl in_X3 20 (Nat.le_of_ble_eq_true rfl) q2249 (fun _ h => h) rfl dX3_readNumber_74 ?_
            refine j_top (b := pl) rfl ?_
            refine lv_iload_n hx hb dX3_readNumber_77 rfl (lv_at hl 2 rfl) ?_
            refine j_icmp_le (tgt := 85) hx hb dX3_readNumber_78 (by decide) (by omega) (by omega) (fun c78 => ?_) (fun c78 => ?_)
            · refine j_iconst hx hb dX3_readNumber_85 ?_
              exact hret (su (txO st pl (st 21 0) (st 22)) 22 which v) hH dX3_readNumber_86 (Nat.le_of_ble_eq_true rfl) (Nat.le_of_ble_eq_true rfl) (by decide) (⟨by rw [nuO_y c4, ← hq0, hdg]; dsimp only; first | exact bT (if_pos (by omega)) | exact bF (fun q => by rw [if_neg (by omega)] at q; exact absurd (show (0 : Int) = 1 from q) (by decide)), by rw [nuO_y c4, ← hq0, hdg, if_neg (show ¬ q0 = st 20 0 by omega), txO_n]⟩)
            · refine j_iconst hx hb dX3_readNumber_81 ?_
              refine lv_goto (tgt := 86) hx hb dX3_readNumber_82 (by decide) ?_
              exact hret (su (txO st pl (st 21 0) (st 22)) 22 which v) hH dX3_readNumber_86 (Nat.le_of_ble_eq_true rfl) (Nat.le_of_ble_eq_true rfl) (by decide) (⟨by rw [nuO_y c4, ← hq0, hdg]; dsimp only; first | exact bT (if_pos (by omega)) | exact bF (fun q => by rw [if_neg (by omega)] at q; exact absurd (show (0 : Int) = 1 from q) (by decide)), by rw [nuO_y c4, ← hq0, hdg, if_neg (show ¬ q0 = st 20 0 by omega), txO_n]⟩)
          · refine j_bipush hx hb dX3_readNumber_40 (by decide) ?_
            refine lv_iload_n hx hb dX3_readNumber_42 rfl (lv_at hl 3 rfl) ?_
            refine j_imul hx hb dX3_readNumber_43 ?_
            refine lv_aload_n hx hb dX3_readNumber_44 rfl (lv_at hl 0 rfl) ?_
            refine j_callif (va_runV (As := []) (rest := [.int (iI (10 * v))]) ⟨hx, hb, hml, hown, hts⟩ (m_X3_here l o (txO st pl (st 21 0) (st 22)) w0 (h1) (show 0 ≤ pl ∧ pl ≤ st 5 0 by omega)) (cw_X3_here hts q2655 (Nat.le_of_ble_eq_true rfl) (Nat.le_of_ble_eq_true rfl)) (j_preV hV hH wM_o rfl) rfl rfl hl.1 rfl (lv_room (Nat.le_of_ble_eq_true rfl)) dX3_readNumber_45 ⟨Nat.le_of_ble_eq_true rfl, Nat.le_of_ble_eq_true rfl⟩) hH (fun H locs hH => ?_)
            refine j_top (b := herO (st 4) (st 5 0) (pl)) rfl ?_
            refine j_iadd hx hb dX3_readNumber_48 ?_
            refine j_bipush hx hb dX3_readNumber_49 (by decide) ?_
            refine j_isub hx hb dX3_readNumber_51 ?_
            refine j_istore_n (lv' := fun x3 => [(3, .int (iI x3)), (0, .ref o), (1, .int (iI which)), (2, .int (iI fr))]) hx hb dX3_readNumber_52 rfl hl (by decide) (fun _ => rfl) (fun x3 ex3 ls hl => ?_)
            refine lv_aload_n hx hb dX3_readNumber_53 rfl (lv_at hl 1 rfl) ?_
            refine lv_dup hx hb dX3_readNumber_54 rfl ?_
            refine j_get hx hb hts hown hV hH wM_o rfl in_X3 20 (Nat.le_of_ble_eq_true rfl) q2249 (fun _ h => h) rfl dX3_readNumber_55 ?_
            refine j_top (b := pl) rfl ?_
            refine j_iconst hx hb dX3_readNumber_58 ?_
            refine j_iadd hx hb dX3_readNumber_59 ?_
            refine j_put hx hb hts hown hV hH wM_o rfl in_X3 tyX3 tyX3_ok nmX3 20 (Nat.le_of_ble_eq_true rfl) q2249 (fun _ h => h) rfl rfl rfl (Nat.le_of_ble_eq_true rfl) dX3_readNumber_60 (fun H locs hH => ?_)
            rw [wM_f20] at hH
            refine lv_goto (tgt := 16) hx hb dX3_readNumber_63 (by decide) ?_
            have hH : jH E s.heap (wM E o (txO st (pl + 1) (st 21 0) (st 22)) w0) H locs := by rw [txO_p] at hH; exact hH
            exact ih_16 fr (pl + 1) x3 (by omega) (i1) (by first | assumption | omega) (by first | assumption | omega) (by rw [i4, ex3]; rw [dgF_s (g := (3 - (pl + 1 - q0)).toNat) (by omega) ⟨by omega, show 48 ≤ st 4 pl ∧ st 4 pl ≤ 57 by omega⟩, show herO (st 4) (st 5 0) pl = st 4 pl by omega]) (by first | assumption | omega) _ _ hH ls (lv_sub hl [1, 2, 3, 0] rfl)
    have hH : jH E s.heap (wM E o (txO st q0 (st 21 0) (st 22)) w0) H locs := by rw [hq0]; exact hH
    exact L16 ((q0 + 3 - q0).toNat + 1) x1 q0 x2 (by omega) (ex1) (by first | assumption | omega) (by first | assumption | omega) (by rw [ex2, show (3 - (q0 - q0)).toNat = 3 by omega]) (by first | assumption | omega) _ _ hH ls (lv_sub hl [2, 3, 1, 0] rfl)
  · refine j_iconst hx hb dX3_readNumber_7 ?_
    exact hret (txO (st) (skO (st 4) (st 5 0) (st 20 0)) (st 21 0) (st 22)) hH dX3_readNumber_8 (Nat.le_of_ble_eq_true rfl) (Nat.le_of_ble_eq_true rfl) (by decide) (⟨bF (fun q => by rw [(nuO_n c4).1] at q; exact absurd (show (0 : Int) = 1 from q) (by decide)), by rw [(nuO_n c4).1, if_pos (nuO_n c4).2]; rw [(nuO_n c4).2]⟩)
theorem cw_X3_manyFor {R : Room} {s : State} {args : Array Value} {own : String} {index lev mc ms : Nat} (hts : ∀ w ∈ lw_all, w.before args s = true) (hl : Cond.methodLink own index yX3_manyFor ∈ lw_all) (hR1 : (rmL lev mc ms).frames + 1 ≤ R.frames) (hR2 : 8 + (1 + 11) + (rmL lev mc ms).locals ≤ R.locals) : CallW R s args own RX3 index yX3_manyFor cX3_manyFor 1 (some .int) (ws_ yX3_manyFor cX3_manyFor 1 (some .int)) (rmL lev mc ms) mc ms 0 :=
  cwV 0 hts (lw_V hl q2684 qs101 q116 q2685) rfl rfl rfl (by decide +kernel) ⟨hR1, hR2⟩
set_option maxHeartbeats 4000000 in
theorem m_X3_manyFor {E : jE} (l : Launch) (o : Nat) (st : Ms) (w0 : Wl) (h1 : 0 ≤ st 21 0 ∧ st 21 0 ≤ 8) : Met l yX3_manyFor (ws_ yX3_manyFor cX3_manyFor 1 (some .int)) (rmL 1 0 0) (va_Pc [.ref o] (jP E (wM E o st w0))) (jQi E (fun u : Ms => wM E o u w0) (fun z u => z = manO (st 21 0) ∧ u = st)) 0 0 (jA E) := by
  refine j_metI (by decide) (Nat.le_of_ble_eq_true rfl) ?_
  intro p e s m args below meth c Q hx hb hml hown hnm hts hV hH hret ls hl
  have hl : lv_has ls 1 [(0, .ref o)] := hl
  refine lv_aload_n hx hb dX3_manyFor_0 rfl (lv_at hl 0 rfl) ?_
  refine j_get hx hb hts hown hV hH wM_o rfl in_X3 21 (Nat.le_of_ble_eq_true rfl) q2250 (fun _ h => h) rfl dX3_manyFor_1 ?_
  have hsw : ((st 21 0) < 0 ∨ 8 < (st 21 0)) ∨ (st 21 0) = 0 ∨ (st 21 0) = 1 ∨ (st 21 0) = 2 ∨ (st 21 0) = 3 ∨ (st 21 0) = 4 ∨ (st 21 0) = 5 ∨ (st 21 0) = 6 ∨ (st 21 0) = 7 ∨ (st 21 0) = 8 := by omega
  rcases hsw with c4 | c4 | c4 | c4 | c4 | c4 | c4 | c4 | c4 | c4
  · refine j_tableOut (tgt := 65) hx hb dX3_manyFor_4 (by omega) c4 (by decide) ?_
    refine j_iconst hx hb dX3_manyFor_65 ?_
    exact hret st hH dX3_manyFor_66 (Nat.le_of_ble_eq_true rfl) (Nat.le_of_ble_eq_true rfl) (⟨by unfold manO; first | (rw [if_pos (by omega)]; done) | (rw [if_neg (by omega), if_pos (by omega)]; done) | (rw [if_neg (by omega), if_neg (by omega), if_pos (by omega)]; done) | (rw [if_neg (by omega), if_neg (by omega), if_neg (by omega), if_pos (by omega)]; done) | (rw [if_neg (by omega), if_neg (by omega), if_neg (by omega), if_neg (by omega)]; done), rfl⟩)
  · refine j_tableIn (tgt := 58) hx hb 0 dX3_manyFor_4 c4 (by decide) (by decide) rfl (by decide) ?_
    refine j_iconst hx hb dX3_manyFor_58 ?_
    exact hret st hH dX3_manyFor_59 (Nat.le_of_ble_eq_true rfl) (Nat.le_of_ble_eq_true rfl) (⟨by unfold manO; first | (rw [if_pos (by omega)]; done) | (rw [if_neg (by omega), if_pos (by omega)]; done) | (rw [if_neg (by omega), if_neg (by omega), if_pos (by omega)]; done) | (rw [if_neg (by omega), if_neg (by omega), if_neg (by omega), if_pos (by omega)]; done) | (rw [if_neg (by omega), if_neg (by omega), if_neg (by omega), if_neg (by omega)]; done), rfl⟩)
  · refine j_tableIn (tgt := 65) hx hb 1 dX3_manyFor_4 c4 (by decide) (by decide) rfl (by decide) ?_
    refine j_iconst hx hb dX3_manyFor_65 ?_
    exact hret st hH dX3_manyFor_66 (Nat.le_of_ble_eq_true rfl) (Nat.le_of_ble_eq_true rfl) (⟨by unfold manO; first | (rw [if_pos (by omega)]; done) | (rw [if_neg (by omega), if_pos (by omega)]; done) | (rw [if_neg (by omega), if_neg (by omega), if_pos (by omega)]; done) | (rw [if_neg (by omega), if_neg (by omega), if_neg (by omega), if_pos (by omega)]; done) | (rw [if_neg (by omega), if_neg (by omega), if_neg (by omega), if_neg (by omega)]; done), rfl⟩)
  · refine j_tableIn (tgt := 62) hx hb 2 dX3_manyFor_4 c4 (by decide) (by decide) rfl (by decide) ?_
    refine j_bipush hx hb dX3_manyFor_62 (by decide) ?_
    exact hret st hH dX3_manyFor_64 (Nat.le_of_ble_eq_true rfl) (Nat.le_of_ble_eq_true rfl) (⟨by unfold manO; first | (rw [if_pos (by omega)]; done) | (rw [if_neg (by omega), if_pos (by omega)]; done) | (rw [if_neg (by omega), if_neg (by omega), if_pos (by omega)]; done) | (rw [if_neg (by omega), if_neg (by omega), if_neg (by omega), if_pos (by omega)]; done) | (rw [if_neg (by omega), if_neg (by omega), if_neg (by omega), if_neg (by omega)]; done), rfl⟩)
  · refine j_tableIn (tgt := 60) hx hb 3 dX3_manyFor_4 c4 (by decide) (by decide) rfl (by decide) ?_
    refine j_iconst hx hb dX3_manyFor_60 ?_
    exact hret st hH dX3_manyFor_61 (Nat.le_of_ble_eq_true rfl) (Nat.le_of_ble_eq_true rfl) (⟨by unfold manO; first | (rw [if_pos (by omega)]; done) | (rw [if_neg (by omega), if_pos (by omega)]; done) | (rw [if_neg (by omega), if_neg (by omega), if_pos (by omega)]; done) | (rw [if_neg (by omega), if_neg (by omega), if_neg (by omega), if_pos (by omega)]; done) | (rw [if_neg (by omega), if_neg (by omega), if_neg (by omega), if_neg (by omega)]; done), rfl⟩)
  · refine j_tableIn (tgt := 65) hx hb 4 dX3_manyFor_4 c4 (by decide) (by decide) rfl (by decide) ?_
    refine j_iconst hx hb dX3_manyFor_65 ?_
    exact hret st hH dX3_manyFor_66 (Nat.le_of_ble_eq_true rfl) (Nat.le_of_ble_eq_true rfl) (⟨by unfold manO; first | (rw [if_pos (by omega)]; done) | (rw [if_neg (by omega), if_pos (by omega)]; done) | (rw [if_neg (by omega), if_neg (by omega), if_pos (by omega)]; done) | (rw [if_neg (by omega), if_neg (by omega), if_neg (by omega), if_pos (by omega)]; done) | (rw [if_neg (by omega), if_neg (by omega), if_neg (by omega), if_neg (by omega)]; done), rfl⟩)
  · refine j_tableIn (tgt := 58) hx hb 5 dX3_manyFor_4 c4 (by decide) (by decide) rfl (by decide) ?_
    refine j_iconst hx hb dX3_manyFor_58 ?_
    exact hret st hH dX3_manyFor_59 (Nat.le_of_ble_eq_true rfl) (Nat.le_of_ble_eq_true rfl) (⟨by unfold manO; first | (rw [if_pos (by omega)]; done) | (rw [if_neg (by omega), if_pos (by omega)]; done) | (rw [if_neg (by omega), if_neg (by omega), if_pos (by omega)]; done) | (rw [if_neg (by omega), if_neg (by omega), if_neg (by omega), if_pos (by omega)]; done) | (rw [if_neg (by omega), if_neg (by omega), if_neg (by omega), if_neg (by omega)]; done), rfl⟩)
  · refine j_tableIn (tgt := 65) hx hb 6 dX3_manyFor_4 c4 (by decide) (by decide) rfl (by decide) ?_
    refine j_iconst hx hb dX3_manyFor_65 ?_
    exact hret st hH dX3_manyFor_66 (Nat.le_of_ble_eq_true rfl) (Nat.le_of_ble_eq_true rfl) (⟨by unfold manO; first | (rw [if_pos (by omega)]; done) | (rw [if_neg (by omega), if_pos (by omega)]; done) | (rw [if_neg (by omega), if_neg (by omega), if_pos (by omega)]; done) | (rw [if_neg (by omega), if_neg (by omega), if_neg (by omega), if_pos (by omega)]; done) | (rw [if_neg (by omega), if_neg (by omega), if_neg (by omega), if_neg (by omega)]; done), rfl⟩)
  · refine j_tableIn (tgt := 56) hx hb 7 dX3_manyFor_4 c4 (by decide) (by decide) rfl (by decide) ?_
    refine j_iconst hx hb dX3_manyFor_56 ?_
    exact hret st hH dX3_manyFor_57 (Nat.le_of_ble_eq_true rfl) (Nat.le_of_ble_eq_true rfl) (⟨by unfold manO; first | (rw [if_pos (by omega)]; done) | (rw [if_neg (by omega), if_pos (by omega)]; done) | (rw [if_neg (by omega), if_neg (by omega), if_pos (by omega)]; done) | (rw [if_neg (by omega), if_neg (by omega), if_neg (by omega), if_pos (by omega)]; done) | (rw [if_neg (by omega), if_neg (by omega), if_neg (by omega), if_neg (by omega)]; done), rfl⟩)
  · refine j_tableIn (tgt := 56) hx hb 8 dX3_manyFor_4 c4 (by decide) (by decide) rfl (by decide) ?_
    refine j_iconst hx hb dX3_manyFor_56 ?_
    exact hret st hH dX3_manyFor_57 (Nat.le_of_ble_eq_true rfl) (Nat.le_of_ble_eq_true rfl) (⟨by unfold manO; first | (rw [if_pos (by omega)]; done) | (rw [if_neg (by omega), if_pos (by omega)]; done) | (rw [if_neg (by omega), if_neg (by omega), if_pos (by omega)]; done) | (rw [if_neg (by omega), if_neg (by omega), if_neg (by omega), if_pos (by omega)]; done) | (rw [if_neg (by omega), if_neg (by omega), if_neg (by omega), if_neg (by omega)]; done), rfl⟩)
