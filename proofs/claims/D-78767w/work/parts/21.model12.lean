/-! THE REFERENCE's METHODS: what if -/
set_option maxRecDepth 100000
/-- but for scratch cells -/
def qO (st u : Ms) : Ms := fun k => if k = 1 ∨ (7 ≤ k ∧ k ≤ 19) then u k else st k
theorem qO_mk {st u : Ms} (h : ∀ k : Nat, ¬ (k = 1 ∨ (7 ≤ k ∧ k ≤ 19)) → u k = st k) : qO st u = u := by
  funext k
  unfold qO
  by_cases hk : k = 1 ∨ (7 ≤ k ∧ k ≤ 19)
  · rw [if_pos hk]
  · rw [if_neg hk, h k hk]
theorem qO_self (st : Ms) : qO st st = st := qO_mk fun _ _ => rfl
def cdG (P : Int → Int) (n v : Int) : Int := if 0 ≤ n ∧ n < P 2 then if 1 ≤ v ∧ v ≤ 15 then 0 else 2 else 1
theorem cdG_or (P : Int → Int) (n what : Int) : (cdG P n what = 0 ∧ (0 ≤ n ∧ n < P 2) ∧ 1 ≤ what ∧ what ≤ 15) ∨ (cdG P n what = 1 ∧ ¬ (0 ≤ n ∧ n < P 2)) ∨ (cdG P n what = 2 ∧ (0 ≤ n ∧ n < P 2) ∧ ¬ (1 ≤ what ∧ what ≤ 15)) := by
  unfold cdG; split <;> (try split) <;> omega
theorem back_P {P R : Int → Int} {S : Int → Int} (hS : ∀ b : Int, 0 ≤ b → b < 198 → S b = P b) (hR : ∀ b : Int, b < 0 ∨ 198 ≤ b → R b = P b) : (fun b : Int => if (0 : Nat) = 0 ∧ (0 : Int) ≤ b ∧ b < 0 + 198 then S (0 + (b - 0)) else R b) = P := by
  funext b
  by_cases h : 0 ≤ b ∧ b < 198
  · rw [if_pos ⟨rfl, h.1, by omega⟩, show 0 + (b - 0) = b by omega]
    exact hS b h.1 h.2
  · rw [if_neg (by omega)]
    exact hR b (by omega)
/-- the page brought back -/
theorem back_q {st W : Ms} (h1 : ∀ b : Int, 0 ≤ b → b < 198 → W 1 b = st 0 b) (h0 : ∀ b : Int, b < 0 ∨ 198 ≤ b → W 0 b = st 0 b) (hk : ∀ k : Nat, k ≠ 0 → ¬ (k = 1 ∨ (7 ≤ k ∧ k ≤ 19)) → W k = st k) : qO st (cpO W 1 0 0 0 198) = cpO W 1 0 0 0 198 := by
  refine qO_mk fun k hq => ?_
  by_cases e : k = 0
  · subst e
    exact back_P h1 h0
  · rw [cpO_k _ e]
    exact hk k e hq
theorem cp01 {st : Ms} {b : Int} (h0 : 0 ≤ b) (h1 : b < 198) : cpO st 0 0 1 0 198 1 b = st 0 b := by
  unfold cpO
  rw [if_pos ⟨rfl, h0, by omega⟩]
  congr 1; omega
theorem ful_s {P : Int → Int} {n it x : Int} (hx : x = it + 1) (h0 : 0 ≤ it) (h1 : it ≤ n) (hn : ¬ fulP P it) : upF (fulP P) (n + 1 - it).toNat it = upF (fulP P) (n + 1 - x).toNat x := by
  rw [show (n + 1 - it).toNat = (n + 1 - x).toNat + 1 by omega, upF_n hn, hx]
theorem ful_y {P : Int → Int} {n it : Int} (h0 : 0 ≤ it) (h1 : it ≤ n) (hn : fulP P it) (h : upF (fulP P) (n + 1).toNat 0 = upF (fulP P) (n + 1 - it).toNat it) : it = fulO P n := by
  unfold fulO
  rw [h, show (n + 1 - it).toNat = (n + 1 - it - 1).toNat + 1 by omega, upF_s hn, if_neg (by omega)]
theorem ful_e {P : Int → Int} {n it : Int} (h0 : 0 ≤ it) (h1 : n < it) (h : upF (fulP P) (n + 1).toNat 0 = upF (fulP P) (n + 1 - it).toNat it) : (-1000 : Int) = fulO P n := by
  unfold fulO
  rw [h, upF_0 (by omega), if_pos rfl]
theorem cw_X3_percentageFor {R : Room} {s : State} {args : Array Value} {own : String} {index lev mc ms : Nat} (hts : ∀ w ∈ lw_all, w.before args s = true) (hl : Cond.methodLink own index yX3_percentageFor ∈ lw_all) (hR1 : (rmL lev mc ms).frames + 1 ≤ R.frames) (hR2 : 8 + (3 + 11) + (rmL lev mc ms).locals ≤ R.locals) : CallW R s args own RX3 index yX3_percentageFor cX3_percentageFor 3 (some .int) (ws_ yX3_percentageFor cX3_percentageFor 3 (some .int)) (rmL lev mc ms) mc ms 2 :=
  cwV 2 hts (lw_V hl q2617 q2618 q116 q2619) rfl rfl rfl (by decide +kernel) ⟨hR1, hR2⟩
set_option maxHeartbeats 4000000 in
theorem m_X3_percentageFor {E : jE} (l : Launch) (o : Nat) (st : Ms) (w0 : Wl) (T : Int) (a : Int) (b : Int) (h1 : PWF T (st 0)) (h2 : -2147483648 ≤ a ∧ a ≤ 2147483647) (h3 : -2147483648 ≤ b ∧ b ≤ 2147483647) : Met l yX3_percentageFor (ws_ yX3_percentageFor cX3_percentageFor 3 (some .int)) (rmL 5 0 0) (va_Pc [.ref o, .int (iI a), .int (iI b)] (jP E (wM E o st w0))) (jQi E (fun u : Ms => wM E o (svO (su st 6 0 (cdU a b)) u) w0) (fun z u => z = if cdU a b = 0 then pctO (st 0) a b else 0)) 0 0 (jA E) := by
  refine j_metI (by decide) (Nat.le_of_ble_eq_true rfl) ?_
  intro p e s m args below meth c Q hx hb hml hown hnm hts hV hH hret ls hl
  have hl : lv_has ls 3 [(0, .ref o), (1, .int (iI a)), (2, .int (iI b))] := hl
  have hA := h1.A
  have hcd := cdU_or a b
  have hPL : PLC (plO (su st 6 0 (cdU a b)) (st 0 2)) := plO_C (st := su st 6 0 (cdU a b))
  refine lv_aload_n hx hb dX3_percentageFor_0 rfl (lv_at hl 0 rfl) ?_
  refine lv_iload_n hx hb dX3_percentageFor_1 rfl (lv_at hl 1 rfl) ?_
  refine lv_iload_n hx hb dX3_percentageFor_2 rfl (lv_at hl 2 rfl) ?_
  refine j_callip (va_runS (As := [.int (iI a), .int (iI b)]) (rest := [.ref o]) ⟨hx, hb, hml, hown, hts⟩ (m_X3_isBudget l _ a b (by omega) (by omega)) (cw_X3_isBudget hts q2620 (Nat.le_of_ble_eq_true rfl) (Nat.le_of_ble_eq_true rfl)) (j_preS hV hH) rfl rfl hl.1 rfl (lv_room (Nat.le_of_ble_eq_true rfl)) dX3_percentageFor_3 ⟨Nat.le_of_ble_eq_true rfl, Nat.le_of_ble_eq_true rfl⟩) hH (fun H locs hH => ?_)
  refine j_ifeq_b (tgt := 13) hx hb dX3_percentageFor_6 (by decide) (fun c6 => ?_) (fun c6 => ?_)
  · refine j_iconst hx hb dX3_percentageFor_13 ?_
    refine j_top (b := cdU a b) (by omega) ?_
    refine j_put hx hb hts hown hV hH wM_o rfl in_X3 tyX3 tyX3_ok nmX3 6 (Nat.le_of_ble_eq_true rfl) q2235 (fun _ h => h) rfl rfl rfl (Nat.le_of_ble_eq_true rfl) dX3_percentageFor_14 (fun H locs hH => ?_)
    rw [wM_f6] at hH
    refine lv_aload_n hx hb dX3_percentageFor_17 rfl (lv_at hl 0 rfl) ?_
    refine j_get hx hb hts hown hV hH wM_o rfl in_X3 6 (Nat.le_of_ble_eq_true rfl) q2235 (fun _ h => h) rfl dX3_percentageFor_18 ?_
    refine j_top (b := cdU a b) rfl ?_
    refine j_if_eq (tgt := 26) hx hb dX3_percentageFor_21 (by decide) (by omega) (fun c21 => ?_) (fun c21 => ?_)
    · refine lv_aload_n hx hb dX3_percentageFor_26 rfl (lv_at hl 0 rfl) ?_
      refine j_callvf (va_runV (As := []) (rest := []) ⟨hx, hb, hml, hown, hts⟩ (m_X3_places l o (su st 6 0 (cdU a b)) w0 _ (h1)) (cw_X3_places hts q2467 (Nat.le_of_ble_eq_true rfl) (Nat.le_of_ble_eq_true rfl)) (j_preV hV hH wM_o rfl) rfl rfl hl.1 rfl (lv_room (Nat.le_of_ble_eq_true rfl)) dX3_percentageFor_27 ⟨Nat.le_of_ble_eq_true rfl, Nat.le_of_ble_eq_true rfl⟩) hH (fun H locs hH => ?_)
      have hH : jH E s.heap (wM E o (plO (su st 6 0 (cdU a b)) (st 0 2)) w0) H locs := hH
      refine lv_aload_n hx hb dX3_percentageFor_30 rfl (lv_at hl 0 rfl) ?_
      refine lv_iload_n hx hb dX3_percentageFor_31 rfl (lv_at hl 1 rfl) ?_
      refine lv_iload_n hx hb dX3_percentageFor_32 rfl (lv_at hl 2 rfl) ?_
      refine j_callif (va_runV (As := [.int (iI a), .int (iI b)]) (rest := []) ⟨hx, hb, hml, hown, hts⟩ (m_X3_percentageBy l o (plO (su st 6 0 (cdU a b)) (st 0 2)) w0 _ a b (h1) (hPL) (by omega) (by omega)) (cw_X3_percentageBy hts q2475 (Nat.le_of_ble_eq_true rfl) (Nat.le_of_ble_eq_true rfl)) (j_preV hV hH wM_o rfl) rfl rfl hl.1 rfl (lv_room (Nat.le_of_ble_eq_true rfl)) dX3_percentageFor_33 ⟨Nat.le_of_ble_eq_true rfl, Nat.le_of_ble_eq_true rfl⟩) hH (fun H locs hH => ?_)
      refine j_top (b := pctO (st 0) a b) rfl ?_
      have hH : jH E s.heap (wM E o (svO (su st 6 0 (cdU a b)) ((plO (su st 6 0 (cdU a b)) (st 0 2)))) w0) H locs := by rw [svO_mk (fun k hk => plO_k _ _ (by omega) (by omega) (by omega))]; exact hH
      exact hret (plO (su st 6 0 (cdU a b)) (st 0 2)) hH dX3_percentageFor_36 (Nat.le_of_ble_eq_true rfl) (Nat.le_of_ble_eq_true rfl) ((by rw [if_pos (by omega)]))
    · refine j_iconst hx hb dX3_percentageFor_24 ?_
      have hH : jH E s.heap (wM E o (svO (su st 6 0 (cdU a b)) ((su st 6 0 (cdU a b)))) w0) H locs := by rw [svO_self]; exact hH
      exact hret (su st 6 0 (cdU a b)) hH dX3_percentageFor_25 (Nat.le_of_ble_eq_true rfl) (Nat.le_of_ble_eq_true rfl) ((by rw [if_neg (by omega)]))
  · refine j_iconst hx hb dX3_percentageFor_9 ?_
    refine lv_goto (tgt := 14) hx hb dX3_percentageFor_10 (by decide) ?_
    refine j_top (b := cdU a b) (by omega) ?_
    refine j_put hx hb hts hown hV hH wM_o rfl in_X3 tyX3 tyX3_ok nmX3 6 (Nat.le_of_ble_eq_true rfl) q2235 (fun _ h => h) rfl rfl rfl (Nat.le_of_ble_eq_true rfl) dX3_percentageFor_14 (fun H locs hH => ?_)
    rw [wM_f6] at hH
    refine lv_aload_n hx hb dX3_percentageFor_17 rfl (lv_at hl 0 rfl) ?_
    refine j_get hx hb hts hown hV hH wM_o rfl in_X3 6 (Nat.le_of_ble_eq_true rfl) q2235 (fun _ h => h) rfl dX3_percentageFor_18 ?_
    refine j_top (b := cdU a b) rfl ?_
    refine j_if_eq (tgt := 26) hx hb dX3_percentageFor_21 (by decide) (by omega) (fun c21 => ?_) (fun c21 => ?_)
    · refine lv_aload_n hx hb dX3_percentageFor_26 rfl (lv_at hl 0 rfl) ?_
      refine j_callvf (va_runV (As := []) (rest := []) ⟨hx, hb, hml, hown, hts⟩ (m_X3_places l o (su st 6 0 (cdU a b)) w0 _ (h1)) (cw_X3_places hts q2467 (Nat.le_of_ble_eq_true rfl) (Nat.le_of_ble_eq_true rfl)) (j_preV hV hH wM_o rfl) rfl rfl hl.1 rfl (lv_room (Nat.le_of_ble_eq_true rfl)) dX3_percentageFor_27 ⟨Nat.le_of_ble_eq_true rfl, Nat.le_of_ble_eq_true rfl⟩) hH (fun H locs hH => ?_)
      have hH : jH E s.heap (wM E o (plO (su st 6 0 (cdU a b)) (st 0 2)) w0) H locs := hH
      refine lv_aload_n hx hb dX3_percentageFor_30 rfl (lv_at hl 0 rfl) ?_
      refine lv_iload_n hx hb dX3_percentageFor_31 rfl (lv_at hl 1 rfl) ?_
      refine lv_iload_n hx hb dX3_percentageFor_32 rfl (lv_at hl 2 rfl) ?_
      refine j_callif (va_runV (As := [.int (iI a), .int (iI b)]) (rest := []) ⟨hx, hb, hml, hown, hts⟩ (m_X3_percentageBy l o (plO (su st 6 0 (cdU a b)) (st 0 2)) w0 _ a b (h1) (hPL) (by omega) (by omega)) (cw_X3_percentageBy hts q2475 (Nat.le_of_ble_eq_true rfl) (Nat.le_of_ble_eq_true rfl)) (j_preV hV hH wM_o rfl) rfl rfl hl.1 rfl (lv_room (Nat.le_of_ble_eq_true rfl)) dX3_percentageFor_33 ⟨Nat.le_of_ble_eq_true rfl, Nat.le_of_ble_eq_true rfl⟩) hH (fun H locs hH => ?_)
      refine j_top (b := pctO (st 0) a b) rfl ?_
      have hH : jH E s.heap (wM E o (svO (su st 6 0 (cdU a b)) ((plO (su st 6 0 (cdU a b)) (st 0 2)))) w0) H locs := by rw [svO_mk (fun k hk => plO_k _ _ (by omega) (by omega) (by omega))]; exact hH
      exact hret (plO (su st 6 0 (cdU a b)) (st 0 2)) hH dX3_percentageFor_36 (Nat.le_of_ble_eq_true rfl) (Nat.le_of_ble_eq_true rfl) ((by rw [if_pos (by omega)]))
    · refine j_iconst hx hb dX3_percentageFor_24 ?_
      have hH : jH E s.heap (wM E o (svO (su st 6 0 (cdU a b)) ((su st 6 0 (cdU a b)))) w0) H locs := by rw [svO_self]; exact hH
      exact hret (su st 6 0 (cdU a b)) hH dX3_percentageFor_25 (Nat.le_of_ble_eq_true rfl) (Nat.le_of_ble_eq_true rfl) ((by rw [if_neg (by omega)]))
theorem cw_X3_fittingGain {R : Room} {s : State} {args : Array Value} {own : String} {index lev mc ms : Nat} (hts : ∀ w ∈ lw_all, w.before args s = true) (hl : Cond.methodLink own index yX3_fittingGain ∈ lw_all) (hR1 : (rmL lev mc ms).frames + 1 ≤ R.frames) (hR2 : 8 + (3 + 11) + (rmL lev mc ms).locals ≤ R.locals) : CallW R s args own RX3 index yX3_fittingGain cX3_fittingGain 3 (some .int) (ws_ yX3_fittingGain cX3_fittingGain 3 (some .int)) (rmL lev mc ms) mc ms 0 :=
  cwV 0 hts (lw_V hl q2624 q2625 q116 q2626) rfl rfl rfl (by decide +kernel) ⟨hR1, hR2⟩
set_option maxHeartbeats 4000000 in
theorem m_X3_fittingGain {E : jE} (l : Launch) (o : Nat) (st : Ms) (w0 : Wl) (T : Int) (h1 : PWF T (st 0)) : Met l yX3_fittingGain (ws_ yX3_fittingGain cX3_fittingGain 3 (some .int)) (rmL 4 0 0) (va_Pc [.ref o] (jP E (wM E o st w0))) (jQi E (fun u : Ms => wM E o (svO (su st 6 0 0) u) w0) (fun z u => z = gainO (st 0))) 0 0 (jA E) := by
  refine j_metI (by decide) (Nat.le_of_ble_eq_true rfl) ?_
  intro p e s m args below meth c Q hx hb hml hown hnm hts hV hH hret ls hl
  have hl : lv_has ls 3 [(0, .ref o)] := hl
  have hA := h1.A
  have hB := h1.B
  have hPL : PLC (plO (su st 6 0 0) (st 0 2)) := plO_C (st := su st 6 0 0)
  refine lv_aload_n hx hb dX3_fittingGain_0 rfl (lv_at hl 0 rfl) ?_
  refine j_iconst hx hb dX3_fittingGain_1 ?_
  refine j_put hx hb hts hown hV hH wM_o rfl in_X3 tyX3 tyX3_ok nmX3 6 (Nat.le_of_ble_eq_true rfl) q2235 (fun _ h => h) rfl rfl rfl (Nat.le_of_ble_eq_true rfl) dX3_fittingGain_2 (fun H locs hH => ?_)
  rw [wM_f6] at hH
  refine lv_aload_n hx hb dX3_fittingGain_5 rfl (lv_at hl 0 rfl) ?_
  refine j_callvf (va_runV (As := []) (rest := []) ⟨hx, hb, hml, hown, hts⟩ (m_X3_places l o (su st 6 0 0) w0 _ (h1)) (cw_X3_places hts q2467 (Nat.le_of_ble_eq_true rfl) (Nat.le_of_ble_eq_true rfl)) (j_preV hV hH wM_o rfl) rfl rfl hl.1 rfl (lv_room (Nat.le_of_ble_eq_true rfl)) dX3_fittingGain_6 ⟨Nat.le_of_ble_eq_true rfl, Nat.le_of_ble_eq_true rfl⟩) hH (fun H locs hH => ?_)
  have hH : jH E s.heap (wM E o (plO (su st 6 0 0) (st 0 2)) w0) H locs := hH
  refine lv_aload_n hx hb dX3_fittingGain_9 rfl (lv_at hl 0 rfl) ?_
  refine j_get hx hb hts hown hV hH wM_o rfl in_X3 0 (Nat.le_of_ble_eq_true rfl) q2229 (fun _ h => h) rfl dX3_fittingGain_10 ?_
  refine j_bipush hx hb dX3_fittingGain_13 (by decide) ?_
  refine j_iald (n := 198) hx hb hV hH wM_0 (by omega) (by omega) dX3_fittingGain_15 ?_
  refine j_top (b := st 0 7) (rfl) ?_
  refine j_istore_n (lv' := fun x1 => [(1, .int (iI x1)), (0, .ref o)]) hx hb dX3_fittingGain_16 rfl hl (by decide) (fun _ => rfl) (fun x1 ex1 ls hl => ?_)
  refine lv_aload_n hx hb dX3_fittingGain_17 rfl (lv_at hl 1 rfl) ?_
  refine j_get hx hb hts hown hV hH wM_o rfl in_X3 0 (Nat.le_of_ble_eq_true rfl) q2229 (fun _ h => h) rfl dX3_fittingGain_18 ?_
  refine j_bipush hx hb dX3_fittingGain_21 (by decide) ?_
  refine j_bipush hx hb dX3_fittingGain_23 (by decide) ?_
  refine j_iast (n := 198) hx hb hV hH wM_0 (by omega) (by omega) dX3_fittingGain_25 (fun H locs hH => ?_)
  rw [wM_s0] at hH
  have L26 : ∀ (n_ : Nat), ∀ (g : Int) (had : Int) (hm_ : g < (n_ : Int)) (i1 : 0 ≤ g ∧ g ≤ 100) (i2 : gainO (st 0) = dnF (fun g => fitsG (st 0) g 100 (st 0 5) (st 0 6)) g.toNat g) (i3 : had = st 0 7) (H : Heap) (locs : List Loc), jH E s.heap (wM E o (sp (plO (su st 6 0 0) (st 0 2)) (upz (st 0) 7 g)) w0) H locs → ∀ ls : Array Slot, lv_has ls 3 [(0, .ref o), (1, .int (iI had))] → W p l e (rmL 4 0 0) s m args below meth c H locs 0 0 Q (F0 m 26 ls []) := by
    intro n_
    induction n_ with
    | zero =>
      intro g had hm_ i1 i2 i3 H locs hH ls hl
      exact absurd hm_ (by omega)
    | succ n_ ih_26 =>
      intro g had hm_ i1 i2 i3 H locs hH ls hl
      refine lv_aload_n hx hb dX3_fittingGain_26 rfl (lv_at hl 0 rfl) ?_
      refine j_bipush hx hb dX3_fittingGain_27 (by decide) ?_
      refine lv_aload_n hx hb dX3_fittingGain_29 rfl (lv_at hl 0 rfl) ?_
      refine j_get hx hb hts hown hV hH wM_o rfl in_X3 0 (Nat.le_of_ble_eq_true rfl) q2229 (fun _ h => h) rfl dX3_fittingGain_30 ?_
      refine j_iconst hx hb dX3_fittingGain_33 ?_
      refine j_iald (n := 198) hx hb hV hH wM_0 (by omega) (by omega) dX3_fittingGain_34 ?_
      refine j_top (b := st 0 5) (rfl) ?_
      refine lv_aload_n hx hb dX3_fittingGain_35 rfl (lv_at hl 0 rfl) ?_
      refine j_get hx hb hts hown hV hH wM_o rfl in_X3 0 (Nat.le_of_ble_eq_true rfl) q2229 (fun _ h => h) rfl dX3_fittingGain_36 ?_
      refine j_bipush hx hb dX3_fittingGain_39 (by decide) ?_
      refine j_iald (n := 198) hx hb hV hH wM_0 (by omega) (by omega) dX3_fittingGain_41 ?_
      refine j_top (b := st 0 6) (rfl) ?_
      refine j_callif (va_runV (As := [.int (iI 100), .int (iI (st 0 5)), .int (iI (st 0 6))]) (rest := []) ⟨hx, hb, hml, hown, hts⟩ (m_X3_fits l o (sp (plO (su st 6 0 0) (st 0 2)) (upz (st 0) 7 g)) w0 _ 100 (st 0 5) (st 0 6) (h1.gain i1) ((agN.plc (agN_gain _ _) h1 hPL)) (by omega) (by omega) (by omega)) (cw_X3_fits hts q2479 (Nat.le_of_ble_eq_true rfl) (Nat.le_of_ble_eq_true rfl)) (j_preV hV hH wM_o rfl) rfl rfl hl.1 rfl (lv_room (Nat.le_of_ble_eq_true rfl)) dX3_fittingGain_42 ⟨Nat.le_of_ble_eq_true rfl, Nat.le_of_ble_eq_true rfl⟩) hH (fun H locs hH => ?_)
      refine j_top (b := bI (fitsG (st 0) g 100 (st 0 5) (st 0 6))) (bI_c (by rw [sp_0, upz_s]; exact (agN_gain (st 0) g).fits h1 g 100 _ _)) ?_
      refine j_ifne_b (tgt := 62) hx hb dX3_fittingGain_45 (by decide) (fun c45 => ?_) (fun c45 => ?_)
      · refine lv_aload_n hx hb dX3_fittingGain_62 rfl (lv_at hl 0 rfl) ?_
        refine j_get hx hb hts hown hV hH wM_o rfl in_X3 0 (Nat.le_of_ble_eq_true rfl) q2229 (fun _ h => h) rfl dX3_fittingGain_63 ?_
        refine j_bipush hx hb dX3_fittingGain_66 (by decide) ?_
        refine j_iald (n := 198) hx hb hV hH wM_0 (by omega) (by omega) dX3_fittingGain_68 ?_
        refine j_top (b := g) (rfl) ?_
        refine j_istore_n (lv' := fun x2 => [(2, .int (iI x2)), (0, .ref o), (1, .int (iI had))]) hx hb dX3_fittingGain_69 rfl hl (by decide) (fun _ => rfl) (fun x2 ex2 ls hl => ?_)
        refine lv_aload_n hx hb dX3_fittingGain_70 rfl (lv_at hl 1 rfl) ?_
        refine j_get hx hb hts hown hV hH wM_o rfl in_X3 0 (Nat.le_of_ble_eq_true rfl) q2229 (fun _ h => h) rfl dX3_fittingGain_71 ?_
        refine j_bipush hx hb dX3_fittingGain_74 (by decide) ?_
        refine lv_iload_n hx hb dX3_fittingGain_76 rfl (lv_at hl 2 rfl) ?_
        refine j_iast (n := 198) hx hb hV hH wM_0 (by omega) (by omega) dX3_fittingGain_77 (fun H locs hH => ?_)
        rw [wM_s0] at hH
        have hH : jH E s.heap (wM E o (svO (su st 6 0 0) (plO (su st 6 0 0) (st 0 2))) w0) H locs := by rw [svO_mk (fun k hk => plO_k _ _ (by omega) (by omega) (by omega))]; rw [sp_su, sp_sp, sp_0, upz_u, i3, upz_self] at hH; rw [show sp (plO (su st 6 0 0) (st 0 2)) (st 0) = (plO (su st 6 0 0) (st 0 2)) from sp_self (plO (su st 6 0 0) (st 0 2))] at hH; exact hH
        refine lv_iload_n hx hb dX3_fittingGain_78 rfl (lv_at hl 0 rfl) ?_
        exact hret (plO (su st 6 0 0) (st 0 2)) hH dX3_fittingGain_79 (Nat.le_of_ble_eq_true rfl) (Nat.le_of_ble_eq_true rfl) ((by rw [ex2, i2]; exact (dnF_t (p := (fun g => fitsG (st 0) g 100 (st 0 5) (st 0 6))) c45 _).symm))
      · refine lv_aload_n hx hb dX3_fittingGain_48 rfl (lv_at hl 0 rfl) ?_
        refine j_get hx hb hts hown hV hH wM_o rfl in_X3 0 (Nat.le_of_ble_eq_true rfl) q2229 (fun _ h => h) rfl dX3_fittingGain_49 ?_
        refine j_bipush hx hb dX3_fittingGain_52 (by decide) ?_
        refine lv_dup2_11 hx hb dX3_fittingGain_54 rfl rfl ?_
        refine j_iald (n := 198) hx hb hV hH wM_0 (by omega) (by omega) dX3_fittingGain_55 ?_
        refine j_top (b := g) (rfl) ?_
        refine j_iconst hx hb dX3_fittingGain_56 ?_
        refine j_isub hx hb dX3_fittingGain_57 ?_
        refine j_iast (n := 198) hx hb hV hH wM_0 (by omega) (by omega) dX3_fittingGain_58 (fun H locs hH => ?_)
        rw [wM_s0] at hH
        refine lv_goto (tgt := 26) hx hb dX3_fittingGain_59 (by decide) ?_
        have hH : jH E s.heap (wM E o (sp (plO (su st 6 0 0) (st 0 2)) (upz (st 0) 7 (g - 1))) w0) H locs := by rw [sp_su, sp_sp, sp_0, upz_u] at hH; exact hH
        exact ih_26 (g - 1) had (by omega) (by have hg0 : g ≠ 0 := fun q => c45 (by rw [q]; intro n q0 q1 q2; have := hB.1; have := hB.2.1; simp; omega); omega) (by have hg0 : g ≠ 0 := fun q => c45 (by rw [q]; intro n q0 q1 q2; have := hB.1; have := hB.2.1; simp; omega); rw [i2, show g.toNat = (g - 1).toNat + 1 by omega]; exact dnF_f (p := (fun g => fitsG (st 0) g 100 (st 0 5) (st 0 6))) c45 _) (i3) _ _ hH ls (lv_sub hl [0, 1] rfl)
  have hH : jH E s.heap (wM E o (sp (plO (su st 6 0 0) (st 0 2)) (upz (st 0) 7 100)) w0) H locs := by rw [sp_su] at hH; exact hH
  exact L26 (((100 : Int)).toNat + 1) (100 : Int) x1 (by omega) (by first | assumption | omega) (rfl) (ex1) _ _ hH ls (lv_sub hl [1, 0] rfl)
theorem cw_X3_fullAfter {R : Room} {s : State} {args : Array Value} {own : String} {index lev mc ms : Nat} (hts : ∀ w ∈ lw_all, w.before args s = true) (hl : Cond.methodLink own index yX3_fullAfter ∈ lw_all) (hR1 : (rmL lev mc ms).frames + 1 ≤ R.frames) (hR2 : 8 + (3 + 11) + (rmL lev mc ms).locals ≤ R.locals) : CallW R s args own RX3 index yX3_fullAfter cX3_fullAfter 3 (some .int) (ws_ yX3_fullAfter cX3_fullAfter 3 (some .int)) (rmL lev mc ms) mc ms 1 :=
  cwV 1 hts (lw_V hl q2628 q2629 q116 q2630) rfl rfl rfl (by decide +kernel) ⟨hR1, hR2⟩
set_option maxHeartbeats 4000000 in
theorem m_X3_fullAfter {E : jE} (l : Launch) (o : Nat) (st : Ms) (w0 : Wl) (T : Int) (n : Int) (h1 : PWF T (st 0)) (h2 : -2147483648 ≤ n ∧ n ≤ 2147483647) (h3 : T ≤ 900000000) : Met l yX3_fullAfter (ws_ yX3_fullAfter cX3_fullAfter 3 (some .int)) (rmL 4 0 0) (va_Pc [.ref o, .int (iI n)] (jP E (wM E o st w0))) (jQi E (fun u : Ms => wM E o (qO (su st 6 0 (cdB 0 200 n)) u) w0) (fun z u => z = if cdB 0 200 n = 0 then fulO (st 0) n else 0)) 0 0 (jA E) := by
  refine j_metI (by decide) (Nat.le_of_ble_eq_true rfl) ?_
  intro p e s m args below meth c Q hx hb hml hown hnm hts hV hH hret ls hl
  have hl : lv_has ls 3 [(0, .ref o), (1, .int (iI n))] := hl
  have hA := h1.A
  have hcd := cdB_or 0 200 n
  refine lv_aload_n hx hb dX3_fullAfter_0 rfl (lv_at hl 0 rfl) ?_
  refine lv_iload_n hx hb dX3_fullAfter_1 rfl (lv_at hl 1 rfl) ?_
  refine j_iconst hx hb dX3_fullAfter_2 ?_
  refine j_sipush hx hb dX3_fullAfter_3 (by decide) ?_
  refine j_callip (va_runS (As := [.int (iI n), .int (iI 0), .int (iI 200)]) (rest := [.ref o]) ⟨hx, hb, hml, hown, hts⟩ (m_X3_in l _ n 0 200 (by omega) (by omega) (by omega)) (cw_X3_in hts q2313 (Nat.le_of_ble_eq_true rfl) (Nat.le_of_ble_eq_true rfl)) (j_preS hV hH) rfl rfl hl.1 rfl (lv_room (Nat.le_of_ble_eq_true rfl)) dX3_fullAfter_6 ⟨Nat.le_of_ble_eq_true rfl, Nat.le_of_ble_eq_true rfl⟩) hH (fun H locs hH => ?_)
  refine j_ifeq_b (tgt := 16) hx hb dX3_fullAfter_9 (by decide) (fun c9 => ?_) (fun c9 => ?_)
  · refine j_iconst hx hb dX3_fullAfter_16 ?_
    refine j_top (b := cdB 0 200 n) (by omega) ?_
    refine j_put hx hb hts hown hV hH wM_o rfl in_X3 tyX3 tyX3_ok nmX3 6 (Nat.le_of_ble_eq_true rfl) q2235 (fun _ h => h) rfl rfl rfl (Nat.le_of_ble_eq_true rfl) dX3_fullAfter_17 (fun H locs hH => ?_)
    rw [wM_f6] at hH
    refine lv_aload_n hx hb dX3_fullAfter_20 rfl (lv_at hl 0 rfl) ?_
    refine j_get hx hb hts hown hV hH wM_o rfl in_X3 6 (Nat.le_of_ble_eq_true rfl) q2235 (fun _ h => h) rfl dX3_fullAfter_21 ?_
    refine j_top (b := cdB 0 200 n) rfl ?_
    refine j_if_eq (tgt := 29) hx hb dX3_fullAfter_24 (by decide) (by omega) (fun c24 => ?_) (fun c24 => ?_)
    · refine lv_aload_n hx hb dX3_fullAfter_29 rfl (lv_at hl 0 rfl) ?_
      refine j_callvf (va_runV (As := []) (rest := []) ⟨hx, hb, hml, hown, hts⟩ (m_X3_places l o (su st 6 0 (cdB 0 200 n)) w0 _ (h1)) (cw_X3_places hts q2467 (Nat.le_of_ble_eq_true rfl) (Nat.le_of_ble_eq_true rfl)) (j_preV hV hH wM_o rfl) rfl rfl hl.1 rfl (lv_room (Nat.le_of_ble_eq_true rfl)) dX3_fullAfter_30 ⟨Nat.le_of_ble_eq_true rfl, Nat.le_of_ble_eq_true rfl⟩) hH (fun H locs hH => ?_)
      have hH : jH E s.heap (wM E o (plO (su st 6 0 (cdB 0 200 n)) (st 0 2)) w0) H locs := hH
      refine lv_aload_n hx hb dX3_fullAfter_33 rfl (lv_at hl 0 rfl) ?_
      refine j_get hx hb hts hown hV hH wM_o rfl in_X3 0 (Nat.le_of_ble_eq_true rfl) q2229 (fun _ h => h) rfl dX3_fullAfter_34 ?_
      refine j_iconst hx hb dX3_fullAfter_37 ?_
      refine lv_aload_n hx hb dX3_fullAfter_38 rfl (lv_at hl 0 rfl) ?_
      refine j_get hx hb hts hown hV hH wM_o rfl in_X3 1 (Nat.le_of_ble_eq_true rfl) q2230 (fun _ h => h) rfl dX3_fullAfter_39 ?_
      refine j_iconst hx hb dX3_fullAfter_42 ?_
      refine j_callvf (va_runS (As := [.ref (o + 1), .int (iI 0), .ref (o + 2), .int (iI 0)]) (rest := []) ⟨hx, hb, hml, hown, hts⟩ (m_X3_bring01 l o (plO (su st 6 0 (cdB 0 200 n)) (st 0 2)) w0 0 0 (by omega) (by omega)) (cw_X3_bring hts q2320 (Nat.le_of_ble_eq_true rfl) (Nat.le_of_ble_eq_true rfl)) (j_preS hV hH) rfl rfl hl.1 rfl (lv_room (Nat.le_of_ble_eq_true rfl)) dX3_fullAfter_43 ⟨Nat.le_of_ble_eq_true rfl, Nat.le_of_ble_eq_true rfl⟩) hH (fun H locs hH => ?_)
      refine j_iconst hx hb dX3_fullAfter_46 ?_
      refine j_istore_n (lv' := fun x1 => [(2, .int (iI x1)), (0, .ref o), (1, .int (iI n))]) hx hb dX3_fullAfter_47 rfl hl (by decide) (fun _ => rfl) (fun x1 ex1 ls hl => ?_)
      have L48 : ∀ (n_ : Nat), ∀ (it : Int) (hm_ : n + 1 - it < (n_ : Int)) (i1 : 0 ≤ it) (i2 : it ≤ n + 1) (i3 : upF (fulP (st 0)) (n + 1).toNat 0 = upF (fulP (st 0)) (n + 1 - it).toNat it) (H : Heap) (locs : List Loc), jH E s.heap (wM E o (sp (cpO (plO (su st 6 0 (cdB 0 200 n)) (st 0 2)) 0 0 1 0 198) (ticksO (st 0) it.toNat)) w0) H locs → ∀ ls : Array Slot, lv_has ls 3 [(0, .ref o), (1, .int (iI n)), (2, .int (iI it))] → W p l e (rmL 4 0 0) s m args below meth c H locs 0 0 Q (F0 m 48 ls []) := by
        intro n_
        induction n_ with
        | zero =>
          intro it hm_ i1 i2 i3 H locs hH ls hl
          exact absurd hm_ (by omega)
        | succ n_ ih_48 =>
          intro it hm_ i1 i2 i3 H locs hH ls hl
          have hti := h1.ticks it.toNat
          have htB := hti.B
          have hPL : PLC (cpO (plO (su st 6 0 (cdB 0 200 n)) (st 0 2)) 0 0 1 0 198) := by intro j j0 j1; rw [cpO_k _ (by decide), cpO_k _ (by decide), cpO_k _ (by decide), cpO_k _ (by decide)]; exact plO_C (st := su st 6 0 (cdB 0 200 n)) j j0 j1
          refine lv_iload_n hx hb dX3_fullAfter_48 rfl (lv_at hl 2 rfl) ?_
          refine lv_iload_n hx hb dX3_fullAfter_49 rfl (lv_at hl 1 rfl) ?_
          refine j_icmp_gt (tgt := 85) hx hb dX3_fullAfter_50 (by decide) (by omega) (by omega) (fun c50 => ?_) (fun c50 => ?_)
          · refine lv_aload_n hx hb dX3_fullAfter_85 rfl (lv_at hl 0 rfl) ?_
            refine j_get hx hb hts hown hV hH wM_o rfl in_X3 1 (Nat.le_of_ble_eq_true rfl) q2230 (fun _ h => h) rfl dX3_fullAfter_86 ?_
            refine j_iconst hx hb dX3_fullAfter_89 ?_
            refine lv_aload_n hx hb dX3_fullAfter_90 rfl (lv_at hl 0 rfl) ?_
            refine j_get hx hb hts hown hV hH wM_o rfl in_X3 0 (Nat.le_of_ble_eq_true rfl) q2229 (fun _ h => h) rfl dX3_fullAfter_91 ?_
            refine j_iconst hx hb dX3_fullAfter_94 ?_
            refine j_callvf (va_runS (As := [.ref (o + 2), .int (iI 0), .ref (o + 1), .int (iI 0)]) (rest := []) ⟨hx, hb, hml, hown, hts⟩ (m_X3_bring10 l o (sp (cpO (plO (su st 6 0 (cdB 0 200 n)) (st 0 2)) 0 0 1 0 198) (ticksO (st 0) it.toNat)) w0 0 0 (by omega) (by omega)) (cw_X3_bring hts q2320 (Nat.le_of_ble_eq_true rfl) (Nat.le_of_ble_eq_true rfl)) (j_preS hV hH) rfl rfl hl.1 rfl (lv_room (Nat.le_of_ble_eq_true rfl)) dX3_fullAfter_95 ⟨Nat.le_of_ble_eq_true rfl, Nat.le_of_ble_eq_true rfl⟩) hH (fun H locs hH => ?_)
            have hH : jH E s.heap (wM E o (qO (su st 6 0 (cdB 0 200 n)) ((cpO ((sp (cpO (plO (su st 6 0 (cdB 0 200 n)) (st 0 2)) 0 0 1 0 198) (ticksO (st 0) it.toNat))) 1 0 0 0 198))) w0) H locs := by rw [back_q (st := su st 6 0 (cdB 0 200 n)) (W := sp (cpO (plO (su st 6 0 (cdB 0 200 n)) (st 0 2)) 0 0 1 0 198) (ticksO (st 0) it.toNat)) (fun b b0 b1 => cp01 b0 b1) (fun b hb => ticksO_k (by omega) (by omega) (by omega) _) (fun k k0 kq => by rw [sp_k _ _ k0, cpO_k _ (by omega), plO_k _ _ (by omega) (by omega) (by omega)])]; exact hH
            refine lv_iload_n hx hb dX3_fullAfter_98 rfl (lv_at hl 2 rfl) ?_
            refine lv_iload_n hx hb dX3_fullAfter_99 rfl (lv_at hl 1 rfl) ?_
            refine j_icmp_le (tgt := 109) hx hb dX3_fullAfter_100 (by decide) (by omega) (by omega) (fun c100 => ?_) (fun c100 => ?_)
            · refine lv_iload_n hx hb dX3_fullAfter_109 rfl (lv_at hl 2 rfl) ?_
              exact hret (cpO ((sp (cpO (plO (su st 6 0 (cdB 0 200 n)) (st 0 2)) 0 0 1 0 198) (ticksO (st 0) it.toNat))) 1 0 0 0 198) hH dX3_fullAfter_110 (Nat.le_of_ble_eq_true rfl) (Nat.le_of_ble_eq_true rfl) ((by rw [if_pos (by omega)]; first | exact ful_y i1 c50 c72 i3 | exact ful_e i1 c50 i3 | omega))
            · refine j_sipush hx hb dX3_fullAfter_103 (by decide) ?_
              refine lv_goto (tgt := 110) hx hb dX3_fullAfter_106 (by decide) ?_
              exact hret (cpO ((sp (cpO (plO (su st 6 0 (cdB 0 200 n)) (st 0 2)) 0 0 1 0 198) (ticksO (st 0) it.toNat))) 1 0 0 0 198) hH dX3_fullAfter_110 (Nat.le_of_ble_eq_true rfl) (Nat.le_of_ble_eq_true rfl) ((by rw [if_pos (by omega)]; first | exact ful_y i1 c50 c72 i3 | exact ful_e i1 c50 i3 | omega))
          · refine lv_aload_n hx hb dX3_fullAfter_53 rfl (lv_at hl 0 rfl) ?_
            refine j_bipush hx hb dX3_fullAfter_54 (by decide) ?_
            refine lv_aload_n hx hb dX3_fullAfter_56 rfl (lv_at hl 0 rfl) ?_
            refine j_get hx hb hts hown hV hH wM_o rfl in_X3 0 (Nat.le_of_ble_eq_true rfl) q2229 (fun _ h => h) rfl dX3_fullAfter_57 ?_
            refine j_iconst hx hb dX3_fullAfter_60 ?_
            refine j_iald (n := 198) hx hb hV hH wM_0 (by omega) (by omega) dX3_fullAfter_61 ?_
            refine j_top (b := ticksO (st 0) it.toNat 5) (rfl) ?_
            refine lv_aload_n hx hb dX3_fullAfter_62 rfl (lv_at hl 0 rfl) ?_
            refine j_get hx hb hts hown hV hH wM_o rfl in_X3 0 (Nat.le_of_ble_eq_true rfl) q2229 (fun _ h => h) rfl dX3_fullAfter_63 ?_
            refine j_bipush hx hb dX3_fullAfter_66 (by decide) ?_
            refine j_iald (n := 198) hx hb hV hH wM_0 (by omega) (by omega) dX3_fullAfter_68 ?_
            refine j_top (b := ticksO (st 0) it.toNat 6) (rfl) ?_
            refine j_callif (va_runV (As := [.int (iI 100), .int (iI (ticksO (st 0) it.toNat 5)), .int (iI (ticksO (st 0) it.toNat 6))]) (rest := []) ⟨hx, hb, hml, hown, hts⟩ (m_X3_fits l o (sp (cpO (plO (su st 6 0 (cdB 0 200 n)) (st 0 2)) 0 0 1 0 198) (ticksO (st 0) it.toNat)) w0 _ 100 (ticksO (st 0) it.toNat 5) (ticksO (st 0) it.toNat 6) (hti) ((agN.plc (agN_ticks _ _) h1 hPL)) (by omega) (by omega) (by omega)) (cw_X3_fits hts q2479 (Nat.le_of_ble_eq_true rfl) (Nat.le_of_ble_eq_true rfl)) (j_preV hV hH wM_o rfl) rfl rfl hl.1 rfl (lv_room (Nat.le_of_ble_eq_true rfl)) dX3_fullAfter_69 ⟨Nat.le_of_ble_eq_true rfl, Nat.le_of_ble_eq_true rfl⟩) hH (fun H locs hH => ?_)
            refine j_top (b := bI (fulP (st 0) it)) (bI_c (by rw [sp_0, show ticksO (st 0) it.toNat 7 = st 0 7 from ticksO_k (by decide) (by decide) (by decide) _]; exact (agN_ticks (st 0) it.toNat).fits h1 _ _ _ _)) ?_
            refine j_ifne_b (tgt := 85) hx hb dX3_fullAfter_72 (by decide) (fun c72 => ?_) (fun c72 => ?_)
            · refine lv_aload_n hx hb dX3_fullAfter_85 rfl (lv_at hl 0 rfl) ?_
              refine j_get hx hb hts hown hV hH wM_o rfl in_X3 1 (Nat.le_of_ble_eq_true rfl) q2230 (fun _ h => h) rfl dX3_fullAfter_86 ?_
              refine j_iconst hx hb dX3_fullAfter_89 ?_
              refine lv_aload_n hx hb dX3_fullAfter_90 rfl (lv_at hl 0 rfl) ?_
              refine j_get hx hb hts hown hV hH wM_o rfl in_X3 0 (Nat.le_of_ble_eq_true rfl) q2229 (fun _ h => h) rfl dX3_fullAfter_91 ?_
              refine j_iconst hx hb dX3_fullAfter_94 ?_
              refine j_callvf (va_runS (As := [.ref (o + 2), .int (iI 0), .ref (o + 1), .int (iI 0)]) (rest := []) ⟨hx, hb, hml, hown, hts⟩ (m_X3_bring10 l o (sp (cpO (plO (su st 6 0 (cdB 0 200 n)) (st 0 2)) 0 0 1 0 198) (ticksO (st 0) it.toNat)) w0 0 0 (by omega) (by omega)) (cw_X3_bring hts q2320 (Nat.le_of_ble_eq_true rfl) (Nat.le_of_ble_eq_true rfl)) (j_preS hV hH) rfl rfl hl.1 rfl (lv_room (Nat.le_of_ble_eq_true rfl)) dX3_fullAfter_95 ⟨Nat.le_of_ble_eq_true rfl, Nat.le_of_ble_eq_true rfl⟩) hH (fun H locs hH => ?_)
              have hH : jH E s.heap (wM E o (qO (su st 6 0 (cdB 0 200 n)) ((cpO ((sp (cpO (plO (su st 6 0 (cdB 0 200 n)) (st 0 2)) 0 0 1 0 198) (ticksO (st 0) it.toNat))) 1 0 0 0 198))) w0) H locs := by rw [back_q (st := su st 6 0 (cdB 0 200 n)) (W := sp (cpO (plO (su st 6 0 (cdB 0 200 n)) (st 0 2)) 0 0 1 0 198) (ticksO (st 0) it.toNat)) (fun b b0 b1 => cp01 b0 b1) (fun b hb => ticksO_k (by omega) (by omega) (by omega) _) (fun k k0 kq => by rw [sp_k _ _ k0, cpO_k _ (by omega), plO_k _ _ (by omega) (by omega) (by omega)])]; exact hH
              refine lv_iload_n hx hb dX3_fullAfter_98 rfl (lv_at hl 2 rfl) ?_
              refine lv_iload_n hx hb dX3_fullAfter_99 rfl (lv_at hl 1 rfl) ?_
              refine j_icmp_le (tgt := 109) hx hb dX3_fullAfter_100 (by decide) (by omega) (by omega) (fun c100 => ?_) (fun c100 => ?_)
              · refine lv_iload_n hx hb dX3_fullAfter_109 rfl (lv_at hl 2 rfl) ?_
                exact hret (cpO ((sp (cpO (plO (su st 6 0 (cdB 0 200 n)) (st 0 2)) 0 0 1 0 198) (ticksO (st 0) it.toNat))) 1 0 0 0 198) hH dX3_fullAfter_110 (Nat.le_of_ble_eq_true rfl) (Nat.le_of_ble_eq_true rfl) ((by rw [if_pos (by omega)]; first | exact ful_y i1 c50 c72 i3 | exact ful_e i1 c50 i3 | omega))
              · refine j_sipush hx hb dX3_fullAfter_103 (by decide) ?_
                refine lv_goto (tgt := 110) hx hb dX3_fullAfter_106 (by decide) ?_
                exact hret (cpO ((sp (cpO (plO (su st 6 0 (cdB 0 200 n)) (st 0 2)) 0 0 1 0 198) (ticksO (st 0) it.toNat))) 1 0 0 0 198) hH dX3_fullAfter_110 (Nat.le_of_ble_eq_true rfl) (Nat.le_of_ble_eq_true rfl) ((by rw [if_pos (by omega)]; first | exact ful_y i1 c50 c72 i3 | exact ful_e i1 c50 i3 | omega))
            · refine lv_aload_n hx hb dX3_fullAfter_75 rfl (lv_at hl 0 rfl) ?_
              refine j_callvf (va_runV (As := []) (rest := []) ⟨hx, hb, hml, hown, hts⟩ (m_X3_tickOnce l o (sp (cpO (plO (su st 6 0 (cdB 0 200 n)) (st 0 2)) 0 0 1 0 198) (ticksO (st 0) it.toNat)) w0 _ (hti) (by omega)) (cw_X3_tickOnce hts q2448 (Nat.le_of_ble_eq_true rfl) (Nat.le_of_ble_eq_true rfl)) (j_preV hV hH wM_o rfl) rfl rfl hl.1 rfl (lv_room (Nat.le_of_ble_eq_true rfl)) dX3_fullAfter_76 ⟨Nat.le_of_ble_eq_true rfl, Nat.le_of_ble_eq_true rfl⟩) hH (fun H locs hH => ?_)
              refine j_iinc (k := 2) (lv' := fun x2 => [(2, .int (iI x2)), (0, .ref o), (1, .int (iI n))]) hx hb dX3_fullAfter_79 hl rfl (by decide) (fun _ => rfl) (fun x2 ex2 ls hl => ?_)
              refine lv_goto (tgt := 48) hx hb dX3_fullAfter_82 (by decide) ?_
              have hH : jH E s.heap (wM E o (sp (cpO (plO (su st 6 0 (cdB 0 200 n)) (st 0 2)) 0 0 1 0 198) (ticksO (st 0) (x2).toNat)) w0) H locs := by rw [ex2, show (it + 1).toNat = it.toNat + 1 by omega]; rw [sp_sp] at hH; exact hH
              exact ih_48 x2 (by omega) (by first | assumption | omega) (by first | assumption | omega) (by rw [i3]; exact ful_s ex2 i1 c50 c72) _ _ hH ls (lv_sub hl [1, 2, 0] rfl)
      have hH : jH E s.heap (wM E o (sp (cpO (plO (su st 6 0 (cdB 0 200 n)) (st 0 2)) 0 0 1 0 198) (ticksO (st 0) (x1).toNat)) w0) H locs := by rw [ex1]; exact (congrArg (fun q => jH E s.heap (wM E o q w0) H locs) (sp_self (cpO (plO (su st 6 0 (cdB 0 200 n)) (st 0 2)) 0 0 1 0 198))).mpr hH
      exact L48 ((n + 1 - x1).toNat + 1) x1 (by omega) (by first | assumption | omega) (by first | assumption | omega) (by rw [ex1]; rw [show n + 1 - 0 = n + 1 by omega]) _ _ hH ls (lv_sub hl [1, 2, 0] rfl)
    · refine j_iconst hx hb dX3_fullAfter_27 ?_
      have hH : jH E s.heap (wM E o (qO (su st 6 0 (cdB 0 200 n)) ((su st 6 0 (cdB 0 200 n)))) w0) H locs := by rw [qO_self]; exact hH
      exact hret (su st 6 0 (cdB 0 200 n)) hH dX3_fullAfter_28 (Nat.le_of_ble_eq_true rfl) (Nat.le_of_ble_eq_true rfl) ((by rw [if_neg (by omega)]))
  · refine j_iconst hx hb dX3_fullAfter_12 ?_
    refine lv_goto (tgt := 17) hx hb dX3_fullAfter_13 (by decide) ?_
    refine j_top (b := cdB 0 200 n) (by omega) ?_
    refine j_put hx hb hts hown hV hH wM_o rfl in_X3 tyX3 tyX3_ok nmX3 6 (Nat.le_of_ble_eq_true rfl) q2235 (fun _ h => h) rfl rfl rfl (Nat.le_of_ble_eq_true rfl) dX3_fullAfter_17 (fun H locs hH => ?_)
    rw [wM_f6] at hH
    refine lv_aload_n hx hb dX3_fullAfter_20 rfl (lv_at hl 0 rfl) ?_
    refine j_get hx hb hts hown hV hH wM_o rfl in_X3 6 (Nat.le_of_ble_eq_true rfl) q2235 (fun _ h => h) rfl dX3_fullAfter_21 ?_
    refine j_top (b := cdB 0 200 n) rfl ?_
    refine j_if_eq (tgt := 29) hx hb dX3_fullAfter_24 (by decide) (by omega) (fun c24 => ?_) (fun c24 => ?_)
    · refine lv_aload_n hx hb dX3_fullAfter_29 rfl (lv_at hl 0 rfl) ?_
      refine j_callvf (va_runV (As := []) (rest := []) ⟨hx, hb, hml, hown, hts⟩ (m_X3_places l o (su st 6 0 (cdB 0 200 n)) w0 _ (h1)) (cw_X3_places hts q2467 (Nat.le_of_ble_eq_true rfl) (Nat.le_of_ble_eq_true rfl)) (j_preV hV hH wM_o rfl) rfl rfl hl.1 rfl (lv_room (Nat.le_of_ble_eq_true rfl)) dX3_fullAfter_30 ⟨Nat.le_of_ble_eq_true rfl, Nat.le_of_ble_eq_true rfl⟩) hH (fun H locs hH => ?_)
      have hH : jH E s.heap (wM E o (plO (su st 6 0 (cdB 0 200 n)) (st 0 2)) w0) H locs := hH
      refine lv_aload_n hx hb dX3_fullAfter_33 rfl (lv_at hl 0 rfl) ?_
      refine j_get hx hb hts hown hV hH wM_o rfl in_X3 0 (Nat.le_of_ble_eq_true rfl) q2229 (fun _ h => h) rfl dX3_fullAfter_34 ?_
      refine j_iconst hx hb dX3_fullAfter_37 ?_
      refine lv_aload_n hx hb dX3_fullAfter_38 rfl (lv_at hl 0 rfl) ?_
      refine j_get hx hb hts hown hV hH wM_o rfl in_X3 1 (Nat.le_of_ble_eq_true rfl) q2230 (fun _ h => h) rfl dX3_fullAfter_39 ?_
      refine j_iconst hx hb dX3_fullAfter_42 ?_
      refine j_callvf (va_runS (As := [.ref (o + 1), .int (iI 0), .ref (o + 2), .int (iI 0)]) (rest := []) ⟨hx, hb, hml, hown, hts⟩ (m_X3_bring01 l o (plO (su st 6 0 (cdB 0 200 n)) (st 0 2)) w0 0 0 (by omega) (by omega)) (cw_X3_bring hts q2320 (Nat.le_of_ble_eq_true rfl) (Nat.le_of_ble_eq_true rfl)) (j_preS hV hH) rfl rfl hl.1 rfl (lv_room (Nat.le_of_ble_eq_true rfl)) dX3_fullAfter_43 ⟨Nat.le_of_ble_eq_true rfl, Nat.le_of_ble_eq_true rfl⟩) hH (fun H locs hH => ?_)
      refine j_iconst hx hb dX3_fullAfter_46 ?_
      refine j_istore_n (lv' := fun x3 => [(2, .int (iI x3)), (0, .ref o), (1, .int (iI n))]) hx hb dX3_fullAfter_47 rfl hl (by decide) (fun _ => rfl) (fun x3 ex3 ls hl => ?_)
      have L48 : ∀ (n_ : Nat), ∀ (it : Int) (hm_ : n + 1 - it < (n_ : Int)) (i1 : 0 ≤ it) (i2 : it ≤ n + 1) (i3 : upF (fulP (st 0)) (n + 1).toNat 0 = upF (fulP (st 0)) (n + 1 - it).toNat it) (H : Heap) (locs : List Loc), jH E s.heap (wM E o (sp (cpO (plO (su st 6 0 (cdB 0 200 n)) (st 0 2)) 0 0 1 0 198) (ticksO (st 0) it.toNat)) w0) H locs → ∀ ls : Array Slot, lv_has ls 3 [(0, .ref o), (1, .int (iI n)), (2, .int (iI it))] → W p l e (rmL 4 0 0) s m args below meth c H locs 0 0 Q (F0 m 48 ls []) := by
        intro n_
        induction n_ with
        | zero =>
          intro it hm_ i1 i2 i3 H locs hH ls hl
          exact absurd hm_ (by omega)
        | succ n_ ih_48 =>
          intro it hm_ i1 i2 i3 H locs hH ls hl
          have hti := h1.ticks it.toNat
          have htB := hti.B
          have hPL : PLC (cpO (plO (su st 6 0 (cdB 0 200 n)) (st 0 2)) 0 0 1 0 198) := by intro j j0 j1; rw [cpO_k _ (by decide), cpO_k _ (by decide), cpO_k _ (by decide), cpO_k _ (by decide)]; exact plO_C (st := su st 6 0 (cdB 0 200 n)) j j0 j1
          refine lv_iload_n hx hb dX3_fullAfter_48 rfl (lv_at hl 2 rfl) ?_
          refine lv_iload_n hx hb dX3_fullAfter_49 rfl (lv_at hl 1 rfl) ?_
          refine j_icmp_gt (tgt := 85) hx hb dX3_fullAfter_50 (by decide) (by omega) (by omega) (fun c50 => ?_) (fun c50 => ?_)
          · refine lv_aload_n hx hb dX3_fullAfter_85 rfl (lv_at hl 0 rfl) ?_
            refine j_get hx hb hts hown hV hH wM_o rfl in_X3 1 (Nat.le_of_ble_eq_true rfl) q2230 (fun _ h => h) rfl dX3_fullAfter_86 ?_
            refine j_iconst hx hb dX3_fullAfter_89 ?_
            refine lv_aload_n hx hb dX3_fullAfter_90 rfl (lv_at hl 0 rfl) ?_
            refine j_get hx hb hts hown hV hH wM_o rfl in_X3 0 (Nat.le_of_ble_eq_true rfl) q2229 (fun _ h => h) rfl dX3_fullAfter_91 ?_
            refine j_iconst hx hb dX3_fullAfter_94 ?_
            refine j_callvf (va_runS (As := [.ref (o + 2), .int (iI 0), .ref (o + 1), .int (iI 0)]) (rest := []) ⟨hx, hb, hml, hown, hts⟩ (m_X3_bring10 l o (sp (cpO (plO (su st 6 0 (cdB 0 200 n)) (st 0 2)) 0 0 1 0 198) (ticksO (st 0) it.toNat)) w0 0 0 (by omega) (by omega)) (cw_X3_bring hts q2320 (Nat.le_of_ble_eq_true rfl) (Nat.le_of_ble_eq_true rfl)) (j_preS hV hH) rfl rfl hl.1 rfl (lv_room (Nat.le_of_ble_eq_true rfl)) dX3_fullAfter_95 ⟨Nat.le_of_ble_eq_true rfl, Nat.le_of_ble_eq_true rfl⟩) hH (fun H locs hH => ?_)
            have hH : jH E s.heap (wM E o (qO (su st 6 0 (cdB 0 200 n)) ((cpO ((sp (cpO (plO (su st 6 0 (cdB 0 200 n)) (st 0 2)) 0 0 1 0 198) (ticksO (st 0) it.toNat))) 1 0 0 0 198))) w0) H locs := by rw [back_q (st := su st 6 0 (cdB 0 200 n)) (W := sp (cpO (plO (su st 6 0 (cdB 0 200 n)) (st 0 2)) 0 0 1 0 198) (ticksO (st 0) it.toNat)) (fun b b0 b1 => cp01 b0 b1) (fun b hb => ticksO_k (by omega) (by omega) (by omega) _) (fun k k0 kq => by rw [sp_k _ _ k0, cpO_k _ (by omega), plO_k _ _ (by omega) (by omega) (by omega)])]; exact hH
            refine lv_iload_n hx hb dX3_fullAfter_98 rfl (lv_at hl 2 rfl) ?_
            refine lv_iload_n hx hb dX3_fullAfter_99 rfl (lv_at hl 1 rfl) ?_
            refine j_icmp_le (tgt := 109) hx hb dX3_fullAfter_100 (by decide) (by omega) (by omega) (fun c100 => ?_) (fun c100 => ?_)
            · refine lv_iload_n hx hb dX3_fullAfter_109 rfl (lv_at hl 2 rfl) ?_
              exact hret (cpO ((sp (cpO (plO (su st 6 0 (cdB 0 200 n)) (st 0 2)) 0 0 1 0 198) (ticksO (st 0) it.toNat))) 1 0 0 0 198) hH dX3_fullAfter_110 (Nat.le_of_ble_eq_true rfl) (Nat.le_of_ble_eq_true rfl) ((by rw [if_pos (by omega)]; first | exact ful_y i1 c50 c72 i3 | exact ful_e i1 c50 i3 | omega))
            · refine j_sipush hx hb dX3_fullAfter_103 (by decide) ?_
              refine lv_goto (tgt := 110) hx hb dX3_fullAfter_106 (by decide) ?_
              exact hret (cpO ((sp (cpO (plO (su st 6 0 (cdB 0 200 n)) (st 0 2)) 0 0 1 0 198) (ticksO (st 0) it.toNat))) 1 0 0 0 198) hH dX3_fullAfter_110 (Nat.le_of_ble_eq_true rfl) (Nat.le_of_ble_eq_true rfl) ((by rw [if_pos (by omega)]; first | exact ful_y i1 c50 c72 i3 | exact ful_e i1 c50 i3 | omega))
          · refine lv_aload_n hx hb dX3_fullAfter_53 rfl (lv_at hl 0 rfl) ?_
            refine j_bipush hx hb dX3_fullAfter_54 (by decide) ?_
            refine lv_aload_n hx hb dX3_fullAfter_56 rfl (lv_at hl 0 rfl) ?_
            refine j_get hx hb hts hown hV hH wM_o rfl in_X3 0 (Nat.le_of_ble_eq_true rfl) q2229 (fun _ h => h) rfl dX3_fullAfter_57 ?_
            refine j_iconst hx hb dX3_fullAfter_60 ?_
            refine j_iald (n := 198) hx hb hV hH wM_0 (by omega) (by omega) dX3_fullAfter_61 ?_
            refine j_top (b := ticksO (st 0) it.toNat 5) (rfl) ?_
            refine lv_aload_n hx hb dX3_fullAfter_62 rfl (lv_at hl 0 rfl) ?_
            refine j_get hx hb hts hown hV hH wM_o rfl in_X3 0 (Nat.le_of_ble_eq_true rfl) q2229 (fun _ h => h) rfl dX3_fullAfter_63 ?_
            refine j_bipush hx hb dX3_fullAfter_66 (by decide) ?_
            refine j_iald (n := 198) hx hb hV hH wM_0 (by omega) (by omega) dX3_fullAfter_68 ?_
            refine j_top (b := ticksO (st 0) it.toNat 6) (rfl) ?_
            refine j_callif (va_runV (As := [.int (iI 100), .int (iI (ticksO (st 0) it.toNat 5)), .int (iI (ticksO (st 0) it.toNat 6))]) (rest := []) ⟨hx, hb, hml, hown, hts⟩ (m_X3_fits l o (sp (cpO (plO (su st 6 0 (cdB 0 200 n)) (st 0 2)) 0 0 1 0 198) (ticksO (st 0) it.toNat)) w0 _ 100 (ticksO (st 0) it.toNat 5) (ticksO (st 0) it.toNat 6) (hti) ((agN.plc (agN_ticks _ _) h1 hPL)) (by omega) (by omega) (by omega)) (cw_X3_fits hts q2479 (Nat.le_of_ble_eq_true rfl) (Nat.le_of_ble_eq_true rfl)) (j_preV hV hH wM_o rfl) rfl rfl hl.1 rfl (lv_room (Nat.le_of_ble_eq_true rfl)) dX3_fullAfter_69 ⟨Nat.le_of_ble_eq_true rfl, Nat.le_of_ble_eq_true rfl⟩) hH (fun H locs hH => ?_)
            refine j_top (b := bI (fulP (st 0) it)) (bI_c (by rw [sp_0, show ticksO (st 0) it.toNat 7 = st 0 7 from ticksO_k (by decide) (by decide) (by decide) _]; exact (agN_ticks (st 0) it.toNat).fits h1 _ _ _ _)) ?_
            refine j_ifne_b (tgt := 85) hx hb dX3_fullAfter_72 (by decide) (fun c72 => ?_) (fun c72 => ?_)
            · refine lv_aload_n hx hb dX3_fullAfter_85 rfl (lv_at hl 0 rfl) ?_
              refine j_get hx hb hts hown hV hH wM_o rfl in_X3 1 (Nat.le_of_ble_eq_true rfl) q2230 (fun _ h => h) rfl dX3_fullAfter_86 ?_
              refine j_iconst hx hb dX3_fullAfter_89 ?_
              refine lv_aload_n hx hb dX3_fullAfter_90 rfl (lv_at hl 0 rfl) ?_
              refine j_get hx hb hts hown hV hH wM_o rfl in_X3 0 (Nat.le_of_ble_eq_true rfl) q2229 (fun _ h => h) rfl dX3_fullAfter_91 ?_
              refine j_iconst hx hb dX3_fullAfter_94 ?_
              refine j_callvf (va_runS (As := [.ref (o + 2), .int (iI 0), .ref (o + 1), .int (iI 0)]) (rest := []) ⟨hx, hb, hml, hown, hts⟩ (m_X3_bring10 l o (sp (cpO (plO (su st 6 0 (cdB 0 200 n)) (st 0 2)) 0 0 1 0 198) (ticksO (st 0) it.toNat)) w0 0 0 (by omega) (by omega)) (cw_X3_bring hts q2320 (Nat.le_of_ble_eq_true rfl) (Nat.le_of_ble_eq_true rfl)) (j_preS hV hH) rfl rfl hl.1 rfl (lv_room (Nat.le_of_ble_eq_true rfl)) dX3_fullAfter_95 ⟨Nat.le_of_ble_eq_true rfl, Nat.le_of_ble_eq_true rfl⟩) hH (fun H locs hH => ?_)
              have hH : jH E s.heap (wM E o (qO (su st 6 0 (cdB 0 200 n)) ((cpO ((sp (cpO (plO (su st 6 0 (cdB 0 200 n)) (st 0 2)) 0 0 1 0 198) (ticksO (st 0) it.toNat))) 1 0 0 0 198))) w0) H locs := by rw [back_q (st := su st 6 0 (cdB 0 200 n)) (W := sp (cpO (plO (su st 6 0 (cdB 0 200 n)) (st 0 2)) 0 0 1 0 198) (ticksO (st 0) it.toNat)) (fun b b0 b1 => cp01 b0 b1) (fun b hb => ticksO_k (by omega) (by omega) (by omega) _) (fun k k0 kq => by rw [sp_k _ _ k0, cpO_k _ (by omega), plO_k _ _ (by omega) (by omega) (by omega)])]; exact hH
              refine lv_iload_n hx hb dX3_fullAfter_98 rfl (lv_at hl 2 rfl) ?_
              refine lv_iload_n hx hb dX3_fullAfter_99 rfl (lv_at hl 1 rfl) ?_
              refine j_icmp_le (tgt := 109) hx hb dX3_fullAfter_100 (by decide) (by omega) (by omega) (fun c100 => ?_) (fun c100 => ?_)
              · refine lv_iload_n hx hb dX3_fullAfter_109 rfl (lv_at hl 2 rfl) ?_
                exact hret (cpO ((sp (cpO (plO (su st 6 0 (cdB 0 200 n)) (st 0 2)) 0 0 1 0 198) (ticksO (st 0) it.toNat))) 1 0 0 0 198) hH dX3_fullAfter_110 (Nat.le_of_ble_eq_true rfl) (Nat.le_of_ble_eq_true rfl) ((by rw [if_pos (by omega)]; first | exact ful_y i1 c50 c72 i3 | exact ful_e i1 c50 i3 | omega))
              · refine j_sipush hx hb dX3_fullAfter_103 (by decide) ?_
                refine lv_goto (tgt := 110) hx hb dX3_fullAfter_106 (by decide) ?_
                exact hret (cpO ((sp (cpO (plO (su st 6 0 (cdB 0 200 n)) (st 0 2)) 0 0 1 0 198) (ticksO (st 0) it.toNat))) 1 0 0 0 198) hH dX3_fullAfter_110 (Nat.le_of_ble_eq_true rfl) (Nat.le_of_ble_eq_true rfl) ((by rw [if_pos (by omega)]; first | exact ful_y i1 c50 c72 i3 | exact ful_e i1 c50 i3 | omega))
            · refine lv_aload_n hx hb dX3_fullAfter_75 rfl (lv_at hl 0 rfl) ?_
              refine j_callvf (va_runV (As := []) (rest := []) ⟨hx, hb, hml, hown, hts⟩ (m_X3_tickOnce l o (sp (cpO (plO (su st 6 0 (cdB 0 200 n)) (st 0 2)) 0 0 1 0 198) (ticksO (st 0) it.toNat)) w0 _ (hti) (by omega)) (cw_X3_tickOnce hts q2448 (Nat.le_of_ble_eq_true rfl) (Nat.le_of_ble_eq_true rfl)) (j_preV hV hH wM_o rfl) rfl rfl hl.1 rfl (lv_room (Nat.le_of_ble_eq_true rfl)) dX3_fullAfter_76 ⟨Nat.le_of_ble_eq_true rfl, Nat.le_of_ble_eq_true rfl⟩) hH (fun H locs hH => ?_)
              refine j_iinc (k := 2) (lv' := fun x4 => [(2, .int (iI x4)), (0, .ref o), (1, .int (iI n))]) hx hb dX3_fullAfter_79 hl rfl (by decide) (fun _ => rfl) (fun x4 ex4 ls hl => ?_)
              refine lv_goto (tgt := 48) hx hb dX3_fullAfter_82 (by decide) ?_
              have hH : jH E s.heap (wM E o (sp (cpO (plO (su st 6 0 (cdB 0 200 n)) (st 0 2)) 0 0 1 0 198) (ticksO (st 0) (x4).toNat)) w0) H locs := by rw [ex4, show (it + 1).toNat = it.toNat + 1 by omega]; rw [sp_sp] at hH; exact hH
              exact ih_48 x4 (by omega) (by first | assumption | omega) (by first | assumption | omega) (by rw [i3]; exact ful_s ex4 i1 c50 c72) _ _ hH ls (lv_sub hl [1, 2, 0] rfl)
      have hH : jH E s.heap (wM E o (sp (cpO (plO (su st 6 0 (cdB 0 200 n)) (st 0 2)) 0 0 1 0 198) (ticksO (st 0) (x3).toNat)) w0) H locs := by rw [ex3]; exact (congrArg (fun q => jH E s.heap (wM E o q w0) H locs) (sp_self (cpO (plO (su st 6 0 (cdB 0 200 n)) (st 0 2)) 0 0 1 0 198))).mpr hH
      exact L48 ((n + 1 - x3).toNat + 1) x3 (by omega) (by first | assumption | omega) (by first | assumption | omega) (by rw [ex3]; rw [show n + 1 - 0 = n + 1 by omega]) _ _ hH ls (lv_sub hl [1, 2, 0] rfl)
    · refine j_iconst hx hb dX3_fullAfter_27 ?_
      have hH : jH E s.heap (wM E o (qO (su st 6 0 (cdB 0 200 n)) ((su st 6 0 (cdB 0 200 n)))) w0) H locs := by rw [qO_self]; exact hH
      exact hret (su st 6 0 (cdB 0 200 n)) hH dX3_fullAfter_28 (Nat.le_of_ble_eq_true rfl) (Nat.le_of_ble_eq_true rfl) ((by rw [if_neg (by omega)]))
theorem cw_X3_ghostsWithout {R : Room} {s : State} {args : Array Value} {own : String} {index lev mc ms : Nat} (hts : ∀ w ∈ lw_all, w.before args s = true) (hl : Cond.methodLink own index yX3_ghostsWithout ∈ lw_all) (hR1 : (rmL lev mc ms).frames + 1 ≤ R.frames) (hR2 : 8 + (5 + 11) + (rmL lev mc ms).locals ≤ R.locals) : CallW R s args own RX3 index yX3_ghostsWithout cX3_ghostsWithout 5 (some .int) (ws_ yX3_ghostsWithout cX3_ghostsWithout 5 (some .int)) (rmL lev mc ms) mc ms 2 :=
  cwV 2 hts (lw_V hl q2632 q2633 q116 q2634) rfl rfl rfl (by decide +kernel) ⟨hR1, hR2⟩
set_option maxHeartbeats 4000000 in
theorem m_X3_ghostsWithout {E : jE} (l : Launch) (o : Nat) (st : Ms) (w0 : Wl) (T : Int) (x : Int) (b : Int) (h1 : PWF T (st 0)) (h2 : -2147483648 ≤ x ∧ x ≤ 2147483647) (h3 : -2147483648 ≤ b ∧ b ≤ 2147483647) : Met l yX3_ghostsWithout (ws_ yX3_ghostsWithout cX3_ghostsWithout 5 (some .int)) (rmL 9 0 0) (va_Pc [.ref o, .int (iI x), .int (iI b)] (jP E (wM E o st w0))) (jQi E (fun u : Ms => wM E o (qO (su st 6 0 (cdG (st 0) x b)) u) w0) (fun z u => z = if cdG (st 0) x b = 0 then ghsO (remP (st 0) x) b else 0)) 0 0 (jA E) := by
  refine j_metI (by decide) (Nat.le_of_ble_eq_true rfl) ?_
  intro p e s m args below meth c Q hx hb hml hown hnm hts hV hH hret ls hl
  have hl : lv_has ls 5 [(0, .ref o), (1, .int (iI x)), (2, .int (iI b))] := hl
  have hA := h1.A
  have hcd := cdG_or (st 0) x b
  refine lv_aload_n hx hb dX3_ghostsWithout_0 rfl (lv_at hl 0 rfl) ?_
  refine lv_aload_n hx hb dX3_ghostsWithout_1 rfl (lv_at hl 0 rfl) ?_
  refine lv_iload_n hx hb dX3_ghostsWithout_2 rfl (lv_at hl 1 rfl) ?_
  refine j_callif (va_runV (As := [.int (iI x)]) (rest := [.ref o]) ⟨hx, hb, hml, hown, hts⟩ (m_X3_isNode l o st w0 _ x (h1) (by omega)) (cw_X3_isNode hts q2335 (Nat.le_of_ble_eq_true rfl) (Nat.le_of_ble_eq_true rfl)) (j_preV hV hH wM_o rfl) rfl rfl hl.1 rfl (lv_room (Nat.le_of_ble_eq_true rfl)) dX3_ghostsWithout_3 ⟨Nat.le_of_ble_eq_true rfl, Nat.le_of_ble_eq_true rfl⟩) hH (fun H locs hH => ?_)
  refine j_ifne_b (tgt := 13) hx hb dX3_ghostsWithout_6 (by decide) (fun c6 => ?_) (fun c6 => ?_)
  · refine lv_iload_n hx hb dX3_ghostsWithout_13 rfl (lv_at hl 2 rfl) ?_
    refine j_iconst hx hb dX3_ghostsWithout_14 ?_
    refine j_bipush hx hb dX3_ghostsWithout_15 (by decide) ?_
    refine j_callip (va_runS (As := [.int (iI b), .int (iI 1), .int (iI 15)]) (rest := [.ref o]) ⟨hx, hb, hml, hown, hts⟩ (m_X3_in l _ b 1 15 (by omega) (by omega) (by omega)) (cw_X3_in hts q2313 (Nat.le_of_ble_eq_true rfl) (Nat.le_of_ble_eq_true rfl)) (j_preS hV hH) rfl rfl hl.1 rfl (lv_room (Nat.le_of_ble_eq_true rfl)) dX3_ghostsWithout_17 ⟨Nat.le_of_ble_eq_true rfl, Nat.le_of_ble_eq_true rfl⟩) hH (fun H locs hH => ?_)
    refine j_ifeq_b (tgt := 27) hx hb dX3_ghostsWithout_20 (by decide) (fun c20 => ?_) (fun c20 => ?_)
    · refine j_iconst hx hb dX3_ghostsWithout_27 ?_
      refine j_top (b := cdG (st 0) x b) (by omega) ?_
      refine j_put hx hb hts hown hV hH wM_o rfl in_X3 tyX3 tyX3_ok nmX3 6 (Nat.le_of_ble_eq_true rfl) q2235 (fun _ h => h) rfl rfl rfl (Nat.le_of_ble_eq_true rfl) dX3_ghostsWithout_28 (fun H locs hH => ?_)
      rw [wM_f6] at hH
      refine lv_aload_n hx hb dX3_ghostsWithout_31 rfl (lv_at hl 0 rfl) ?_
      refine j_get hx hb hts hown hV hH wM_o rfl in_X3 6 (Nat.le_of_ble_eq_true rfl) q2235 (fun _ h => h) rfl dX3_ghostsWithout_32 ?_
      refine j_top (b := cdG (st 0) x b) rfl ?_
      refine j_if_eq (tgt := 40) hx hb dX3_ghostsWithout_35 (by decide) (by omega) (fun c35 => ?_) (fun c35 => ?_)
      · refine lv_aload_n hx hb dX3_ghostsWithout_40 rfl (lv_at hl 0 rfl) ?_
        refine j_get hx hb hts hown hV hH wM_o rfl in_X3 0 (Nat.le_of_ble_eq_true rfl) q2229 (fun _ h => h) rfl dX3_ghostsWithout_41 ?_
        refine j_iconst hx hb dX3_ghostsWithout_44 ?_
        refine lv_aload_n hx hb dX3_ghostsWithout_45 rfl (lv_at hl 0 rfl) ?_
        refine j_get hx hb hts hown hV hH wM_o rfl in_X3 1 (Nat.le_of_ble_eq_true rfl) q2230 (fun _ h => h) rfl dX3_ghostsWithout_46 ?_
        refine j_iconst hx hb dX3_ghostsWithout_49 ?_
        have hx0 : 0 ≤ x ∧ x < st 0 2 := by omega
        have hwr := h1.rem (x := x) hx0.1
        refine j_callvf (va_runS (As := [.ref (o + 1), .int (iI 0), .ref (o + 2), .int (iI 0)]) (rest := []) ⟨hx, hb, hml, hown, hts⟩ (m_X3_bring01 l o (su st 6 0 (cdG (st 0) x b)) w0 0 0 (by omega) (by omega)) (cw_X3_bring hts q2320 (Nat.le_of_ble_eq_true rfl) (Nat.le_of_ble_eq_true rfl)) (j_preS hV hH) rfl rfl hl.1 rfl (lv_room (Nat.le_of_ble_eq_true rfl)) dX3_ghostsWithout_50 ⟨Nat.le_of_ble_eq_true rfl, Nat.le_of_ble_eq_true rfl⟩) hH (fun H locs hH => ?_)
        refine lv_aload_n hx hb dX3_ghostsWithout_53 rfl (lv_at hl 0 rfl) ?_
        refine lv_iload_n hx hb dX3_ghostsWithout_54 rfl (lv_at hl 1 rfl) ?_
        refine j_callif (va_runV (As := [.int (iI x)]) (rest := []) ⟨hx, hb, hml, hown, hts⟩ (m_X3_removes l o (cpO ((su st 6 0 (cdG (st 0) x b))) 0 0 1 0 198) w0 _ x (h1) (show 0 ≤ x ∧ x < st 0 2 by omega)) (cw_X3_removes hts q2390 (Nat.le_of_ble_eq_true rfl) (Nat.le_of_ble_eq_true rfl)) (j_preV hV hH wM_o rfl) rfl rfl hl.1 rfl (lv_room (Nat.le_of_ble_eq_true rfl)) dX3_ghostsWithout_55 ⟨Nat.le_of_ble_eq_true rfl, Nat.le_of_ble_eq_true rfl⟩) hH (fun H locs hH => ?_)
        have hH : jH E s.heap (wM E o (sp (nnS ((cpO ((su st 6 0 (cdG (st 0) x b))) 0 0 1 0 198)) x (st 0 2)) (remP (st 0) x)) w0) H locs := hH
        refine j_top (b := lfF (st 0) x (st 0 2).toNat) rfl ?_
        refine j_istore_n (lv' := fun x1 => [(3, .int (iI x1)), (0, .ref o), (1, .int (iI x)), (2, .int (iI b))]) hx hb dX3_ghostsWithout_58 rfl hl (by decide) (fun _ => rfl) (fun x1 ex1 ls hl => ?_)
        refine lv_aload_n hx hb dX3_ghostsWithout_59 rfl (lv_at hl 1 rfl) ?_
        refine lv_iload_n hx hb dX3_ghostsWithout_60 rfl (lv_at hl 3 rfl) ?_
        refine j_calli (va_runV (As := [.int (iI b)]) (rest := []) ⟨hx, hb, hml, hown, hts⟩ (m_X3_ghostsNow l o (sp (nnS ((cpO ((su st 6 0 (cdG (st 0) x b))) 0 0 1 0 198)) x (st 0 2)) (remP (st 0) x)) w0 _ b (hwr) (by omega)) (cw_X3_ghostsNow hts q2608 (Nat.le_of_ble_eq_true rfl) (Nat.le_of_ble_eq_true rfl)) (j_preV hV hH wM_o rfl) rfl rfl hl.1 rfl (lv_room (Nat.le_of_ble_eq_true rfl)) dX3_ghostsWithout_61 ⟨Nat.le_of_ble_eq_true rfl, Nat.le_of_ble_eq_true rfl⟩) hH (fun z u H locs hp hH => ?_)
        obtain ⟨z2, hzz2⟩ : ∃ q, q = z := ⟨_, rfl⟩
        subst hzz2
        obtain ⟨u3, huu3⟩ : ∃ q, q = u := ⟨_, rfl⟩
        subst huu3
        have hH : jH E s.heap (wM E o (svO (sp (nnS ((cpO ((su st 6 0 (cdG (st 0) x b))) 0 0 1 0 198)) x (st 0 2)) (remP (st 0) x)) u3) w0) H locs := hH
        have hp61 : (fun z u => z = ghsO ((sp (nnS ((cpO ((su st 6 0 (cdG (st 0) x b))) 0 0 1 0 198)) x (st 0 2)) (remP (st 0) x)) 0) b) z2 u3 := hp
        refine j_istore (lv' := fun x4 => [(4, .int (iI x4)), (3, .int (iI x1)), (0, .ref o), (1, .int (iI x)), (2, .int (iI b))]) hx hb dX3_ghostsWithout_64 hl (by decide) (fun _ => rfl) (fun x4 ex4 ls hl => ?_)
        refine lv_aload_n hx hb dX3_ghostsWithout_66 rfl (lv_at hl 2 rfl) ?_
        refine j_get hx hb hts hown hV hH wM_o rfl in_X3 1 (Nat.le_of_ble_eq_true rfl) q2230 (fun _ h => h) rfl dX3_ghostsWithout_67 ?_
        refine j_iconst hx hb dX3_ghostsWithout_70 ?_
        refine lv_aload_n hx hb dX3_ghostsWithout_71 rfl (lv_at hl 2 rfl) ?_
        refine j_get hx hb hts hown hV hH wM_o rfl in_X3 0 (Nat.le_of_ble_eq_true rfl) q2229 (fun _ h => h) rfl dX3_ghostsWithout_72 ?_
        refine j_iconst hx hb dX3_ghostsWithout_75 ?_
        refine j_callvf (va_runS (As := [.ref (o + 2), .int (iI 0), .ref (o + 1), .int (iI 0)]) (rest := []) ⟨hx, hb, hml, hown, hts⟩ (m_X3_bring10 l o (svO (sp (nnS ((cpO ((su st 6 0 (cdG (st 0) x b))) 0 0 1 0 198)) x (st 0 2)) (remP (st 0) x)) u3) w0 0 0 (by omega) (by omega)) (cw_X3_bring hts q2320 (Nat.le_of_ble_eq_true rfl) (Nat.le_of_ble_eq_true rfl)) (j_preS hV hH) rfl rfl hl.1 rfl (lv_room (Nat.le_of_ble_eq_true rfl)) dX3_ghostsWithout_76 ⟨Nat.le_of_ble_eq_true rfl, Nat.le_of_ble_eq_true rfl⟩) hH (fun H locs hH => ?_)
        have hH : jH E s.heap (wM E o (qO (su st 6 0 (cdG (st 0) x b)) ((cpO ((svO (sp (nnS ((cpO ((su st 6 0 (cdG (st 0) x b))) 0 0 1 0 198)) x (st 0 2)) (remP (st 0) x)) u3)) 1 0 0 0 198))) w0) H locs := by rw [back_q (st := su st 6 0 (cdG (st 0) x b)) (W := svO (sp (nnS (cpO (su st 6 0 (cdG (st 0) x b)) 0 0 1 0 198) x (st 0 2)) (remP (st 0) x)) _) (fun b b0 b1 => cp01 b0 b1) (fun b hb => remP_out h1 (by omega) (by omega)) (fun k k0 kq => by rw [svO_out _ _ (by omega), sp_k _ _ k0, nnS_k _ _ _ (by omega), cpO_k _ (by omega)])]; exact hH
        refine lv_iload hx hb dX3_ghostsWithout_79 (lv_at hl 0 rfl) ?_
        exact hret (cpO ((svO (sp (nnS ((cpO ((su st 6 0 (cdG (st 0) x b))) 0 0 1 0 198)) x (st 0 2)) (remP (st 0) x)) u3)) 1 0 0 0 198) hH dX3_ghostsWithout_81 (Nat.le_of_ble_eq_true rfl) (Nat.le_of_ble_eq_true rfl) ((by rw [if_pos (by omega)]; rw [ex4]; exact hp61))
      · refine j_iconst hx hb dX3_ghostsWithout_38 ?_
        have hH : jH E s.heap (wM E o (qO (su st 6 0 (cdG (st 0) x b)) ((su st 6 0 (cdG (st 0) x b)))) w0) H locs := by rw [qO_self]; exact hH
        exact hret (su st 6 0 (cdG (st 0) x b)) hH dX3_ghostsWithout_39 (Nat.le_of_ble_eq_true rfl) (Nat.le_of_ble_eq_true rfl) ((by rw [if_neg (by omega)]))
    · refine j_iconst hx hb dX3_ghostsWithout_23 ?_
      refine lv_goto (tgt := 28) hx hb dX3_ghostsWithout_24 (by decide) ?_
      refine j_top (b := cdG (st 0) x b) (by omega) ?_
      refine j_put hx hb hts hown hV hH wM_o rfl in_X3 tyX3 tyX3_ok nmX3 6 (Nat.le_of_ble_eq_true rfl) q2235 (fun _ h => h) rfl rfl rfl (Nat.le_of_ble_eq_true rfl) dX3_ghostsWithout_28 (fun H locs hH => ?_)
      rw [wM_f6] at hH
      refine lv_aload_n hx hb dX3_ghostsWithout_31 rfl (lv_at hl 0 rfl) ?_
      refine j_get hx hb hts hown hV hH wM_o rfl in_X3 6 (Nat.le_of_ble_eq_true rfl) q2235 (fun _ h => h) rfl dX3_ghostsWithout_32 ?_
      refine j_top (b := cdG (st 0) x b) rfl ?_
      refine j_if_eq (tgt := 40) hx hb dX3_ghostsWithout_35 (by decide) (by omega) (fun c35 => ?_) (fun c35 => ?_)
      · refine lv_aload_n hx hb dX3_ghostsWithout_40 rfl (lv_at hl 0 rfl) ?_
        refine j_get hx hb hts hown hV hH wM_o rfl in_X3 0 (Nat.le_of_ble_eq_true rfl) q2229 (fun _ h => h) rfl dX3_ghostsWithout_41 ?_
        refine j_iconst hx hb dX3_ghostsWithout_44 ?_
        refine lv_aload_n hx hb dX3_ghostsWithout_45 rfl (lv_at hl 0 rfl) ?_
        refine j_get hx hb hts hown hV hH wM_o rfl in_X3 1 (Nat.le_of_ble_eq_true rfl) q2230 (fun _ h => h) rfl dX3_ghostsWithout_46 ?_
        refine j_iconst hx hb dX3_ghostsWithout_49 ?_
        have hx0 : 0 ≤ x ∧ x < st 0 2 := by omega
        have hwr := h1.rem (x := x) hx0.1
        refine j_callvf (va_runS (As := [.ref (o + 1), .int (iI 0), .ref (o + 2), .int (iI 0)]) (rest := []) ⟨hx, hb, hml, hown, hts⟩ (m_X3_bring01 l o (su st 6 0 (cdG (st 0) x b)) w0 0 0 (by omega) (by omega)) (cw_X3_bring hts q2320 (Nat.le_of_ble_eq_true rfl) (Nat.le_of_ble_eq_true rfl)) (j_preS hV hH) rfl rfl hl.1 rfl (lv_room (Nat.le_of_ble_eq_true rfl)) dX3_ghostsWithout_50 ⟨Nat.le_of_ble_eq_true rfl, Nat.le_of_ble_eq_true rfl⟩) hH (fun H locs hH => ?_)
        refine lv_aload_n hx hb dX3_ghostsWithout_53 rfl (lv_at hl 0 rfl) ?_
        refine lv_iload_n hx hb dX3_ghostsWithout_54 rfl (lv_at hl 1 rfl) ?_
        refine j_callif (va_runV (As := [.int (iI x)]) (rest := []) ⟨hx, hb, hml, hown, hts⟩ (m_X3_removes l o (cpO ((su st 6 0 (cdG (st 0) x b))) 0 0 1 0 198) w0 _ x (h1) (show 0 ≤ x ∧ x < st 0 2 by omega)) (cw_X3_removes hts q2390 (Nat.le_of_ble_eq_true rfl) (Nat.le_of_ble_eq_true rfl)) (j_preV hV hH wM_o rfl) rfl rfl hl.1 rfl (lv_room (Nat.le_of_ble_eq_true rfl)) dX3_ghostsWithout_55 ⟨Nat.le_of_ble_eq_true rfl, Nat.le_of_ble_eq_true rfl⟩) hH (fun H locs hH => ?_)
        have hH : jH E s.heap (wM E o (sp (nnS ((cpO ((su st 6 0 (cdG (st 0) x b))) 0 0 1 0 198)) x (st 0 2)) (remP (st 0) x)) w0) H locs := hH
        refine j_top (b := lfF (st 0) x (st 0 2).toNat) rfl ?_
        refine j_istore_n (lv' := fun x5 => [(3, .int (iI x5)), (0, .ref o), (1, .int (iI x)), (2, .int (iI b))]) hx hb dX3_ghostsWithout_58 rfl hl (by decide) (fun _ => rfl) (fun x5 ex5 ls hl => ?_)
        refine lv_aload_n hx hb dX3_ghostsWithout_59 rfl (lv_at hl 1 rfl) ?_
        refine lv_iload_n hx hb dX3_ghostsWithout_60 rfl (lv_at hl 3 rfl) ?_
        refine j_calli (va_runV (As := [.int (iI b)]) (rest := []) ⟨hx, hb, hml, hown, hts⟩ (m_X3_ghostsNow l o (sp (nnS ((cpO ((su st 6 0 (cdG (st 0) x b))) 0 0 1 0 198)) x (st 0 2)) (remP (st 0) x)) w0 _ b (hwr) (by omega)) (cw_X3_ghostsNow hts q2608 (Nat.le_of_ble_eq_true rfl) (Nat.le_of_ble_eq_true rfl)) (j_preV hV hH wM_o rfl) rfl rfl hl.1 rfl (lv_room (Nat.le_of_ble_eq_true rfl)) dX3_ghostsWithout_61 ⟨Nat.le_of_ble_eq_true rfl, Nat.le_of_ble_eq_true rfl⟩) hH (fun z u H locs hp hH => ?_)
        obtain ⟨z6, hzz6⟩ : ∃ q, q = z := ⟨_, rfl⟩
        subst hzz6
        obtain ⟨u7, huu7⟩ : ∃ q, q = u := ⟨_, rfl⟩
        subst huu7
        have hH : jH E s.heap (wM E o (svO (sp (nnS ((cpO ((su st 6 0 (cdG (st 0) x b))) 0 0 1 0 198)) x (st 0 2)) (remP (st 0) x)) u7) w0) H locs := hH
        have hp61 : (fun z u => z = ghsO ((sp (nnS ((cpO ((su st 6 0 (cdG (st 0) x b))) 0 0 1 0 198)) x (st 0 2)) (remP (st 0) x)) 0) b) z6 u7 := hp
        refine j_istore (lv' := fun x8 => [(4, .int (iI x8)), (3, .int (iI x5)), (0, .ref o), (1, .int (iI x)), (2, .int (iI b))]) hx hb dX3_ghostsWithout_64 hl (by decide) (fun _ => rfl) (fun x8 ex8 ls hl => ?_)
        refine lv_aload_n hx hb dX3_ghostsWithout_66 rfl (lv_at hl 2 rfl) ?_
        refine j_get hx hb hts hown hV hH wM_o rfl in_X3 1 (Nat.le_of_ble_eq_true rfl) q2230 (fun _ h => h) rfl dX3_ghostsWithout_67 ?_
        refine j_iconst hx hb dX3_ghostsWithout_70 ?_
        refine lv_aload_n hx hb dX3_ghostsWithout_71 rfl (lv_at hl 2 rfl) ?_
        refine j_get hx hb hts hown hV hH wM_o rfl in_X3 0 (Nat.le_of_ble_eq_true rfl) q2229 (fun _ h => h) rfl dX3_ghostsWithout_72 ?_
        refine j_iconst hx hb dX3_ghostsWithout_75 ?_
        refine j_callvf (va_runS (As := [.ref (o + 2), .int (iI 0), .ref (o + 1), .int (iI 0)]) (rest := []) ⟨hx, hb, hml, hown, hts⟩ (m_X3_bring10 l o (svO (sp (nnS ((cpO ((su st 6 0 (cdG (st 0) x b))) 0 0 1 0 198)) x (st 0 2)) (remP (st 0) x)) u7) w0 0 0 (by omega) (by omega)) (cw_X3_bring hts q2320 (Nat.le_of_ble_eq_true rfl) (Nat.le_of_ble_eq_true rfl)) (j_preS hV hH) rfl rfl hl.1 rfl (lv_room (Nat.le_of_ble_eq_true rfl)) dX3_ghostsWithout_76 ⟨Nat.le_of_ble_eq_true rfl, Nat.le_of_ble_eq_true rfl⟩) hH (fun H locs hH => ?_)
        have hH : jH E s.heap (wM E o (qO (su st 6 0 (cdG (st 0) x b)) ((cpO ((svO (sp (nnS ((cpO ((su st 6 0 (cdG (st 0) x b))) 0 0 1 0 198)) x (st 0 2)) (remP (st 0) x)) u7)) 1 0 0 0 198))) w0) H locs := by rw [back_q (st := su st 6 0 (cdG (st 0) x b)) (W := svO (sp (nnS (cpO (su st 6 0 (cdG (st 0) x b)) 0 0 1 0 198) x (st 0 2)) (remP (st 0) x)) _) (fun b b0 b1 => cp01 b0 b1) (fun b hb => remP_out h1 (by omega) (by omega)) (fun k k0 kq => by rw [svO_out _ _ (by omega), sp_k _ _ k0, nnS_k _ _ _ (by omega), cpO_k _ (by omega)])]; exact hH
        refine lv_iload hx hb dX3_ghostsWithout_79 (lv_at hl 0 rfl) ?_
        exact hret (cpO ((svO (sp (nnS ((cpO ((su st 6 0 (cdG (st 0) x b))) 0 0 1 0 198)) x (st 0 2)) (remP (st 0) x)) u7)) 1 0 0 0 198) hH dX3_ghostsWithout_81 (Nat.le_of_ble_eq_true rfl) (Nat.le_of_ble_eq_true rfl) ((by rw [if_pos (by omega)]; rw [ex8]; exact hp61))
      · refine j_iconst hx hb dX3_ghostsWithout_38 ?_
        have hH : jH E s.heap (wM E o (qO (su st 6 0 (cdG (st 0) x b)) ((su st 6 0 (cdG (st 0) x b)))) w0) H locs := by rw [qO_self]; exact hH
        exact hret (su st 6 0 (cdG (st 0) x b)) hH dX3_ghostsWithout_39 (Nat.le_of_ble_eq_true rfl) (Nat.le_of_ble_eq_true rfl) ((by rw [if_neg (by omega)]))
  · refine j_iconst hx hb dX3_ghostsWithout_9 ?_
    refine lv_goto (tgt := 28) hx hb dX3_ghostsWithout_10 (by decide) ?_
    refine j_top (b := cdG (st 0) x b) (by omega) ?_
    refine j_put hx hb hts hown hV hH wM_o rfl in_X3 tyX3 tyX3_ok nmX3 6 (Nat.le_of_ble_eq_true rfl) q2235 (fun _ h => h) rfl rfl rfl (Nat.le_of_ble_eq_true rfl) dX3_ghostsWithout_28 (fun H locs hH => ?_)
    rw [wM_f6] at hH
    refine lv_aload_n hx hb dX3_ghostsWithout_31 rfl (lv_at hl 0 rfl) ?_
    refine j_get hx hb hts hown hV hH wM_o rfl in_X3 6 (Nat.le_of_ble_eq_true rfl) q2235 (fun _ h => h) rfl dX3_ghostsWithout_32 ?_
    refine j_top (b := cdG (st 0) x b) rfl ?_
    refine j_if_eq (tgt := 40) hx hb dX3_ghostsWithout_35 (by decide) (by omega) (fun c35 => ?_) (fun c35 => ?_)
    · refine lv_aload_n hx hb dX3_ghostsWithout_40 rfl (lv_at hl 0 rfl) ?_
      refine j_get hx hb hts hown hV hH wM_o rfl in_X3 0 (Nat.le_of_ble_eq_true rfl) q2229 (fun _ h => h) rfl dX3_ghostsWithout_41 ?_
      refine j_iconst hx hb dX3_ghostsWithout_44 ?_
      refine lv_aload_n hx hb dX3_ghostsWithout_45 rfl (lv_at hl 0 rfl) ?_
      refine j_get hx hb hts hown hV hH wM_o rfl in_X3 1 (Nat.le_of_ble_eq_true rfl) q2230 (fun _ h => h) rfl dX3_ghostsWithout_46 ?_
      refine j_iconst hx hb dX3_ghostsWithout_49 ?_
      have hx0 : 0 ≤ x ∧ x < st 0 2 := by omega
      have hwr := h1.rem (x := x) hx0.1
      refine j_callvf (va_runS (As := [.ref (o + 1), .int (iI 0), .ref (o + 2), .int (iI 0)]) (rest := []) ⟨hx, hb, hml, hown, hts⟩ (m_X3_bring01 l o (su st 6 0 (cdG (st 0) x b)) w0 0 0 (by omega) (by omega)) (cw_X3_bring hts q2320 (Nat.le_of_ble_eq_true rfl) (Nat.le_of_ble_eq_true rfl)) (j_preS hV hH) rfl rfl hl.1 rfl (lv_room (Nat.le_of_ble_eq_true rfl)) dX3_ghostsWithout_50 ⟨Nat.le_of_ble_eq_true rfl, Nat.le_of_ble_eq_true rfl⟩) hH (fun H locs hH => ?_)
      refine lv_aload_n hx hb dX3_ghostsWithout_53 rfl (lv_at hl 0 rfl) ?_
      refine lv_iload_n hx hb dX3_ghostsWithout_54 rfl (lv_at hl 1 rfl) ?_
      refine j_callif (va_runV (As := [.int (iI x)]) (rest := []) ⟨hx, hb, hml, hown, hts⟩ (m_X3_removes l o (cpO ((su st 6 0 (cdG (st 0) x b))) 0 0 1 0 198) w0 _ x (h1) (show 0 ≤ x ∧ x < st 0 2 by omega)) (cw_X3_removes hts q2390 (Nat.le_of_ble_eq_true rfl) (Nat.le_of_ble_eq_true rfl)) (j_preV hV hH wM_o rfl) rfl rfl hl.1 rfl (lv_room (Nat.le_of_ble_eq_true rfl)) dX3_ghostsWithout_55 ⟨Nat.le_of_ble_eq_true rfl, Nat.le_of_ble_eq_true rfl⟩) hH (fun H locs hH => ?_)
      have hH : jH E s.heap (wM E o (sp (nnS ((cpO ((su st 6 0 (cdG (st 0) x b))) 0 0 1 0 198)) x (st 0 2)) (remP (st 0) x)) w0) H locs := hH
      refine j_top (b := lfF (st 0) x (st 0 2).toNat) rfl ?_
      refine j_istore_n (lv' := fun x9 => [(3, .int (iI x9)), (0, .ref o), (1, .int (iI x)), (2, .int (iI b))]) hx hb dX3_ghostsWithout_58 rfl hl (by decide) (fun _ => rfl) (fun x9 ex9 ls hl => ?_)
      refine lv_aload_n hx hb dX3_ghostsWithout_59 rfl (lv_at hl 1 rfl) ?_
      refine lv_iload_n hx hb dX3_ghostsWithout_60 rfl (lv_at hl 3 rfl) ?_
      refine j_calli (va_runV (As := [.int (iI b)]) (rest := []) ⟨hx, hb, hml, hown, hts⟩ (m_X3_ghostsNow l o (sp (nnS ((cpO ((su st 6 0 (cdG (st 0) x b))) 0 0 1 0 198)) x (st 0 2)) (remP (st 0) x)) w0 _ b (hwr) (by omega)) (cw_X3_ghostsNow hts q2608 (Nat.le_of_ble_eq_true rfl) (Nat.le_of_ble_eq_true rfl)) (j_preV hV hH wM_o rfl) rfl rfl hl.1 rfl (lv_room (Nat.le_of_ble_eq_true rfl)) dX3_ghostsWithout_61 ⟨Nat.le_of_ble_eq_true rfl, Nat.le_of_ble_eq_true rfl⟩) hH (fun z u H locs hp hH => ?_)
      obtain ⟨z10, hzz10⟩ : ∃ q, q = z := ⟨_, rfl⟩
      subst hzz10
      obtain ⟨u11, huu11⟩ : ∃ q, q = u := ⟨_, rfl⟩
      subst huu11
      have hH : jH E s.heap (wM E o (svO (sp (nnS ((cpO ((su st 6 0 (cdG (st 0) x b))) 0 0 1 0 198)) x (st 0 2)) (remP (st 0) x)) u11) w0) H locs := hH
      have hp61 : (fun z u => z = ghsO ((sp (nnS ((cpO ((su st 6 0 (cdG (st 0) x b))) 0 0 1 0 198)) x (st 0 2)) (remP (st 0) x)) 0) b) z10 u11 := hp
      refine j_istore (lv' := fun x12 => [(4, .int (iI x12)), (3, .int (iI x9)), (0, .ref o), (1, .int (iI x)), (2, .int (iI b))]) hx hb dX3_ghostsWithout_64 hl (by decide) (fun _ => rfl) (fun x12 ex12 ls hl => ?_)
      refine lv_aload_n hx hb dX3_ghostsWithout_66 rfl (lv_at hl 2 rfl) ?_
      refine j_get hx hb hts hown hV hH wM_o rfl in_X3 1 (Nat.le_of_ble_eq_true rfl) q2230 (fun _ h => h) rfl dX3_ghostsWithout_67 ?_
      refine j_iconst hx hb dX3_ghostsWithout_70 ?_
      refine lv_aload_n hx hb dX3_ghostsWithout_71 rfl (lv_at hl 2 rfl) ?_
      refine j_get hx hb hts hown hV hH wM_o rfl in_X3 0 (Nat.le_of_ble_eq_true rfl) q2229 (fun _ h => h) rfl dX3_ghostsWithout_72 ?_
      refine j_iconst hx hb dX3_ghostsWithout_75 ?_
      refine j_callvf (va_runS (As := [.ref (o + 2), .int (iI 0), .ref (o + 1), .int (iI 0)]) (rest := []) ⟨hx, hb, hml, hown, hts⟩ (m_X3_bring10 l o (svO (sp (nnS ((cpO ((su st 6 0 (cdG (st 0) x b))) 0 0 1 0 198)) x (st 0 2)) (remP (st 0) x)) u11) w0 0 0 (by omega) (by omega)) (cw_X3_bring hts q2320 (Nat.le_of_ble_eq_true rfl) (Nat.le_of_ble_eq_true rfl)) (j_preS hV hH) rfl rfl hl.1 rfl (lv_room (Nat.le_of_ble_eq_true rfl)) dX3_ghostsWithout_76 ⟨Nat.le_of_ble_eq_true rfl, Nat.le_of_ble_eq_true rfl⟩) hH (fun H locs hH => ?_)
      have hH : jH E s.heap (wM E o (qO (su st 6 0 (cdG (st 0) x b)) ((cpO ((svO (sp (nnS ((cpO ((su st 6 0 (cdG (st 0) x b))) 0 0 1 0 198)) x (st 0 2)) (remP (st 0) x)) u11)) 1 0 0 0 198))) w0) H locs := by rw [back_q (st := su st 6 0 (cdG (st 0) x b)) (W := svO (sp (nnS (cpO (su st 6 0 (cdG (st 0) x b)) 0 0 1 0 198) x (st 0 2)) (remP (st 0) x)) _) (fun b b0 b1 => cp01 b0 b1) (fun b hb => remP_out h1 (by omega) (by omega)) (fun k k0 kq => by rw [svO_out _ _ (by omega), sp_k _ _ k0, nnS_k _ _ _ (by omega), cpO_k _ (by omega)])]; exact hH
      refine lv_iload hx hb dX3_ghostsWithout_79 (lv_at hl 0 rfl) ?_
      exact hret (cpO ((svO (sp (nnS ((cpO ((su st 6 0 (cdG (st 0) x b))) 0 0 1 0 198)) x (st 0 2)) (remP (st 0) x)) u11)) 1 0 0 0 198) hH dX3_ghostsWithout_81 (Nat.le_of_ble_eq_true rfl) (Nat.le_of_ble_eq_true rfl) ((by rw [if_pos (by omega)]; rw [ex12]; exact hp61))
    · refine j_iconst hx hb dX3_ghostsWithout_38 ?_
      have hH : jH E s.heap (wM E o (qO (su st 6 0 (cdG (st 0) x b)) ((su st 6 0 (cdG (st 0) x b)))) w0) H locs := by rw [qO_self]; exact hH
      exact hret (su st 6 0 (cdG (st 0) x b)) hH dX3_ghostsWithout_39 (Nat.le_of_ble_eq_true rfl) (Nat.le_of_ble_eq_true rfl) ((by rw [if_neg (by omega)]))
