/-! THE SYSTEM's METHODS: nodes are added -/
set_option maxRecDepth 100000
theorem upz_agree {f : Int → Nat} {k n : Int} {r : Nat} (h : n ≠ k) : upz f k r n = f n := upz_n h
/-- the page with one more node, in the heap -/
theorem TRE.addn {T : Int} {w : Wl} {t r : Nat} {P : Int → Int} {f : Int → Nat} {sh : Int → Int} {pa dx dy dz w1 v1 : Int} {c : va_E} (hP : PWF T (addP P pa dx dy dz w1 v1)) (hA : 0 ≤ P 2 ∧ P 2 < 20) (h : TRE w t P f sh) (hr : w r = some (t, c)) (hB : 0 < w1 → c = .inr (3, [.int (iI (P 2)), va_rf (if pa = -1000 then none else some (f pa)), .int (iI dx), .int (iI dy), .int (iI dz), .int (iI w1), .int (iI v1), .int (iI 8), .int (iI 0)])) (hG : ¬ 0 < w1 → c = .inr (4, [.int (iI (P 2)), va_rf (if pa = -1000 then none else some (f pa)), .int (iI dx), .int (iI dy), .int (iI dz)])) : TRE w t (addP P pa dx dy dz w1 v1) (upz f (P 2) r) (upz sh (P 2) 0) := by
  have h2 : addP P pa dx dy dz w1 v1 2 = P 2 + 1 := upz_s
  have hn := addP_new (P := P) (pa := pa) (dx := dx) (dy := dy) (dz := dz) (w := w1) (v := v1) hA.1
  have hk : TREk w t (addP P pa dx dy dz w1 v1) f (upz sh (P 2) 0) (P 2) := fun n p q => by
    have ho : ∀ k : Int, 0 ≤ k → k < 8 → nd (addP P pa dx dy dz w1 v1) n k = nd P n k := fun k k0 k1 => addP_old p q k0 k1
    have hp : paO (addP P pa dx dy dz w1 v1) f n = paO P f n := by unfold paO; rw [ho 0 (by omega) (by omega)]
    have e1 : ndB (addP P pa dx dy dz w1 v1) f (upz sh (P 2) 0) n = ndB P f sh n := by unfold ndB; rw [hp, ho 1 (by omega) (by omega), ho 2 (by omega) (by omega), ho 3 (by omega) (by omega), ho 4 (by omega) (by omega), ho 5 (by omega) (by omega), ho 6 (by omega) (by omega), upz_n (by omega)]
    have e2 : ndG (addP P pa dx dy dz w1 v1) f n = ndG P f n := by unfold ndG; rw [hp, ho 1 (by omega) (by omega), ho 2 (by omega) (by omega), ho 3 (by omega) (by omega)]
    rw [e1, e2, ho 4 (by omega) (by omega)]
    exact h n p q
  have hpa : paO (addP P pa dx dy dz w1 v1) f (P 2) = if pa = -1000 then none else some (f pa) := by unfold paO; rw [hn.1]
  refine (TREk.add hP hk hA.1 (by omega) hr (fun q => ?_) (fun q => ?_)).tre h2.symm
  · rw [hn.2.2.2.2.1] at q
    rw [hB q]
    unfold ndB
    rw [hpa, hn.2.1, hn.2.2.1, hn.2.2.2.1, hn.2.2.2.2.1, hn.2.2.2.2.2.1, hn.2.2.2.2.2.2, upz_s]
  · rw [hn.2.2.2.2.1] at q
    rw [hG q]
    unfold ndG
    rw [hpa, hn.2.1, hn.2.2.1, hn.2.2.2.1]
theorem cwu_X4_groupsAround_X4_35_X6 {R : Room} {s : State} {args : Array Value} {k : Nat} (hts : ∀ w ∈ lw_all, w.before args s = true) (hR1 : k + 1 ≤ R.frames) (hR2 : 8 + (1 + 11) + 96 * k ≤ R.locals) : va_CU R s args "EyeStage$Part" RX6 "EyeStage$Part" 35 ⟨"EyeStage$Group", "groupsAround", "()I"⟩ yX4_groupsAround cX4_groupsAround 1 (some .int) (ws_ yX4_groupsAround cX4_groupsAround 1 (some .int)) (rmL k 0 0) 0 0 0 :=
  va_cwU 0 hts (lw_U q1286 q1287 q1289 q1281 q131 q1285) rfl rfl rfl rfl (by decide +kernel) ⟨hR1, hR2⟩
set_option maxHeartbeats 4000000 in
theorem m_X4_groupsAround_X5 {E : jE} (l : Launch) (w : Wl) (nb : Nat) (t : Nat) (t2 : Nat) (T : Int) (P : Int → Int) (f : Int → Nat) (sh : Int → Int) (pa : Int) (m0 : Int) (e1_ : Int) (e2_ : Int) (e3_ : Int) (w1 : Int) (v1 : Int) (s1 : Int) (f1 : Int) (h1 : w nb = some (t2, .inr (3, [.int (iI m0), va_rf (if pa = -1000 then none else some (f pa)), .int (iI e1_), .int (iI e2_), .int (iI e3_), .int (iI w1), .int (iI v1), .int (iI s1), .int (iI f1)]))) (h2 : PWF T P) (h3 : TRE w t P f sh) (h4 : pa = -1000 ∨ (0 ≤ pa ∧ pa < P 2 ∧ nd P pa 4 = 0)) : Met l yX4_groupsAround (ws_ yX4_groupsAround cX4_groupsAround 1 (some .int)) (rmL 21 0 0) (va_Pc [.ref nb] (jP E w)) (jQi E (fun _ : Unit => w) (fun z _ => z = gaO P pa)) 0 0 (jA E) := by
  refine j_metI (by decide) (Nat.le_of_ble_eq_true rfl) ?_
  intro p e s m args below meth c Q hx hb hml hown hnm hts hV hH hret ls hl
  have hl : lv_has ls 1 [(0, .ref nb)] := hl
  have h0 := hH.1.2
  have hP := h2
  have hT := h3
  have hA := hP.A
  refine lv_aload_n hx hb dX4_groupsAround_0 rfl (lv_at hl 0 rfl) ?_
  refine j_get hx hb hts hown hV hH h1 rfl in_X5 1 (Nat.le_of_ble_eq_true rfl) q413 (fun _ h => h) rfl dX4_groupsAround_1 ?_
  rcases hq4 : (if pa = -1000 then none else some (f pa)) with _ | r4
  · refine lv_ifnonnullN hx hb dX4_groupsAround_4 ?_
    rw [hq4] at h1
    have hpa0 : pa = -1000 := Classical.byContradiction fun q => by rw [if_neg q] at hq4; cases hq4
    refine j_iconst hx hb dX4_groupsAround_7 ?_
    refine lv_goto (tgt := 20) hx hb dX4_groupsAround_8 (by decide) ?_
    exact hret () hH dX4_groupsAround_20 (Nat.le_of_ble_eq_true rfl) (Nat.le_of_ble_eq_true rfl) (by unfold gaO; first | (rw [if_pos (by omega)]; done) | (rw [if_neg (by omega)]; done))
  · refine lv_ifnonnull (tgt := 11) hx hb dX4_groupsAround_4 (by decide) ?_
    rw [hq4] at h1
    have hpa1 : pa ≠ -1000 := fun q => by rw [if_pos q] at hq4; cases hq4
    rw [if_neg hpa1] at hq4
    have hr4 : r4 = f pa := by cases hq4; rfl
    have f1 : w r4 = some (t, .inr (4, [.int (iI pa), va_rf (paO P f pa), .int (iI (nd P pa 1)), .int (iI (nd P pa 2)), .int (iI (nd P pa 3))])) := by rw [hr4]; exact (hT pa (by omega) (by omega)).2 (by omega)
    refine j_iconst hx hb dX4_groupsAround_11 ?_
    refine lv_aload_n hx hb dX4_groupsAround_12 rfl (lv_at hl 0 rfl) ?_
    refine j_get hx hb hts hown hV hH h1 rfl in_X5 1 (Nat.le_of_ble_eq_true rfl) q413 (fun _ h => h) rfl dX4_groupsAround_13 ?_
    rw [hr4] at f1 ⊢
    refine j_callip (va_runU (As := []) (rest := [.int (iI 1)]) ⟨hx, hb, hml, hown, hts⟩ (m_X4_groupsAround l hP hT 20 pa (by omega) (by omega) (by omega)) (cwu_X4_groupsAround_X4_35_X6 hts (Nat.le_of_ble_eq_true rfl) (Nat.le_of_ble_eq_true rfl)) (j_preV hV hH f1 rfl) rfl rfl hl.1 rfl (lv_room (Nat.le_of_ble_eq_true rfl)) dX4_groupsAround_16 ⟨Nat.le_of_ble_eq_true rfl, Nat.le_of_ble_eq_true rfl⟩) hH (fun H locs hH => ?_)
    refine j_iadd hx hb dX4_groupsAround_19 ?_
    exact hret () hH dX4_groupsAround_20 (Nat.le_of_ble_eq_true rfl) (Nat.le_of_ble_eq_true rfl) (by unfold gaO; first | (rw [if_pos (by omega)]; done) | (rw [if_neg (by omega)]; done))
set_option maxHeartbeats 4000000 in
theorem m_X4_groupsAround_X6 {E : jE} (l : Launch) (w : Wl) (nb : Nat) (t : Nat) (t2 : Nat) (T : Int) (P : Int → Int) (f : Int → Nat) (sh : Int → Int) (pa : Int) (m0 : Int) (e1_ : Int) (e2_ : Int) (e3_ : Int) (h1 : w nb = some (t2, .inr (4, [.int (iI m0), va_rf (if pa = -1000 then none else some (f pa)), .int (iI e1_), .int (iI e2_), .int (iI e3_)]))) (h2 : PWF T P) (h3 : TRE w t P f sh) (h4 : pa = -1000 ∨ (0 ≤ pa ∧ pa < P 2 ∧ nd P pa 4 = 0)) : Met l yX4_groupsAround (ws_ yX4_groupsAround cX4_groupsAround 1 (some .int)) (rmL 21 0 0) (va_Pc [.ref nb] (jP E w)) (jQi E (fun _ : Unit => w) (fun z _ => z = gaO P pa)) 0 0 (jA E) := by
  refine j_metI (by decide) (Nat.le_of_ble_eq_true rfl) ?_
  intro p e s m args below meth c Q hx hb hml hown hnm hts hV hH hret ls hl
  have hl : lv_has ls 1 [(0, .ref nb)] := hl
  have h0 := hH.1.2
  have hP := h2
  have hT := h3
  have hA := hP.A
  refine lv_aload_n hx hb dX4_groupsAround_0 rfl (lv_at hl 0 rfl) ?_
  refine j_get hx hb hts hown hV hH h1 rfl in_X6 1 (Nat.le_of_ble_eq_true rfl) q413 (fun _ h => h) rfl dX4_groupsAround_1 ?_
  rcases hq4 : (if pa = -1000 then none else some (f pa)) with _ | r4
  · refine lv_ifnonnullN hx hb dX4_groupsAround_4 ?_
    rw [hq4] at h1
    have hpa0 : pa = -1000 := Classical.byContradiction fun q => by rw [if_neg q] at hq4; cases hq4
    refine j_iconst hx hb dX4_groupsAround_7 ?_
    refine lv_goto (tgt := 20) hx hb dX4_groupsAround_8 (by decide) ?_
    exact hret () hH dX4_groupsAround_20 (Nat.le_of_ble_eq_true rfl) (Nat.le_of_ble_eq_true rfl) (by unfold gaO; first | (rw [if_pos (by omega)]; done) | (rw [if_neg (by omega)]; done))
  · refine lv_ifnonnull (tgt := 11) hx hb dX4_groupsAround_4 (by decide) ?_
    rw [hq4] at h1
    have hpa1 : pa ≠ -1000 := fun q => by rw [if_pos q] at hq4; cases hq4
    rw [if_neg hpa1] at hq4
    have hr4 : r4 = f pa := by cases hq4; rfl
    have f1 : w r4 = some (t, .inr (4, [.int (iI pa), va_rf (paO P f pa), .int (iI (nd P pa 1)), .int (iI (nd P pa 2)), .int (iI (nd P pa 3))])) := by rw [hr4]; exact (hT pa (by omega) (by omega)).2 (by omega)
    refine j_iconst hx hb dX4_groupsAround_11 ?_
    refine lv_aload_n hx hb dX4_groupsAround_12 rfl (lv_at hl 0 rfl) ?_
    refine j_get hx hb hts hown hV hH h1 rfl in_X6 1 (Nat.le_of_ble_eq_true rfl) q413 (fun _ h => h) rfl dX4_groupsAround_13 ?_
    rw [hr4] at f1 ⊢
    refine j_callip (va_runU (As := []) (rest := [.int (iI 1)]) ⟨hx, hb, hml, hown, hts⟩ (m_X4_groupsAround l hP hT 20 pa (by omega) (by omega) (by omega)) (cwu_X4_groupsAround_X4_35_X6 hts (Nat.le_of_ble_eq_true rfl) (Nat.le_of_ble_eq_true rfl)) (j_preV hV hH f1 rfl) rfl rfl hl.1 rfl (lv_room (Nat.le_of_ble_eq_true rfl)) dX4_groupsAround_16 ⟨Nat.le_of_ble_eq_true rfl, Nat.le_of_ble_eq_true rfl⟩) hH (fun H locs hH => ?_)
    refine j_iadd hx hb dX4_groupsAround_19 ?_
    exact hret () hH dX4_groupsAround_20 (Nat.le_of_ble_eq_true rfl) (Nat.le_of_ble_eq_true rfl) (by unfold gaO; first | (rw [if_pos (by omega)]; done) | (rw [if_neg (by omega)]; done))
theorem cw_X2_requireParent {R : Room} {s : State} {args : Array Value} {own : String} {index lev mc ms : Nat} (hts : ∀ w ∈ lw_all, w.before args s = true) (hl : Cond.methodLink own index yX2_requireParent ∈ lw_all) (hR1 : (rmL lev mc ms).frames + 1 ≤ R.frames) (hR2 : 8 + (4 + 11) + (rmL lev mc ms).locals ≤ R.locals) : CallW R s args own RX2 index yX2_requireParent cX2_requireParent 4 none (ws_ yX2_requireParent cX2_requireParent 4 none) (rmL lev mc ms) mc ms 2 :=
  cwV 2 hts (lw_V hl q1257 qs17 q109 q1258) rfl rfl rfl (by decide +kernel) ⟨hR1, hR2⟩
set_option maxHeartbeats 4000000 in
theorem m_X2_requireParent {E : jE} (l : Launch) (w : Wl) (t : Nat) (a : Nat) (T : Int) (P : Int → Int) (f : Int → Nat) (sh : Int → Int) (pa : Int) (ok_ : Prop) (h1 : PWF T P) (h2 : StA E w t a P f sh) (h3 : T ≤ 1000000000) (h4 : pa = -1000 ∨ (0 ≤ pa ∧ pa < P 2 ∧ nd P pa 4 = 0)) (h5 : ok_) : Met l yX2_requireParent (ws_ yX2_requireParent cX2_requireParent 4 none) (rmL 5 0 0) (va_Pc [.ref a, .int (iI pa), .int (iI (bI ok_))] (jP E w)) (jQv E (fun _ : Unit => w) (fun _ => True)) 0 0 (jA E) := by
  refine j_metV (by decide) (Nat.le_of_ble_eq_true rfl) ?_
  intro p e s m args below meth c Q hx hb hml hown hnm hts hV hH hret ls hl
  have hl : lv_has ls 4 [(0, .ref a), (1, .int (iI pa)), (2, .int (iI (bI ok_)))] := hl
  have h0 := hH.1.2
  have hP := h1
  have hS := h2
  have hS0 := h2
  obtain ⟨nl, sl, stt, ar, tlo, mo, mo2, ch, se, ha, hnl, hAD, hT, hsl, hLQ, hSc, hst, hti⟩ := hS0
  have hA := hP.A
  have hB := hP.B
  have hC := hP.C
  have hT0 := h3
  refine lv_iload_n hx hb dX2_requireParent_0 rfl (lv_at hl 1 rfl) ?_
  refine j_sipush hx hb dX2_requireParent_1 (by decide) ?_
  refine j_icmp_eq (tgt := 18) hx hb dX2_requireParent_4 (by decide) (by omega) (by omega) (fun c4 => ?_) (fun c4 => ?_)
  · refine j_iconst hx hb dX2_requireParent_18 ?_
    refine lv_goto (tgt := 23) hx hb dX2_requireParent_19 (by decide) ?_
    refine j_istore_n (lv' := fun x1 => [(3, .int (iI x1)), (0, .ref a), (1, .int (iI pa)), (2, .int (iI (bI ok_)))]) hx hb dX2_requireParent_23 rfl hl (by decide) (fun _ => rfl) (fun x1 ex1 ls hl => ?_)
    refine lv_iload_n hx hb dX2_requireParent_24 rfl (lv_at hl 0 rfl) ?_
    refine j_if_eq (tgt := 36) hx hb dX2_requireParent_25 (by decide) (by omega) (fun c25 => ?_) (fun c25 => ?_)
    · exact absurd c25 (by omega)
    · refine lv_iload_n hx hb dX2_requireParent_28 rfl (lv_at hl 3 rfl) ?_
      refine j_ifeq_b (tgt := 36) hx hb dX2_requireParent_29 (by decide) (fun c29 => ?_) (fun c29 => ?_)
      · exact absurd h5 c29
      · refine j_iconst hx hb dX2_requireParent_32 ?_
        refine lv_goto (tgt := 37) hx hb dX2_requireParent_33 (by decide) ?_
        refine va_ldcS hx hb hown (hV.2.2.2.2.2.1 _ (List.mem_of_getElem? (i := 29) rfl)) dX2_requireParent_37 ?_
        refine j_callvp (va_runSN (As := [.int (iI (bI True)), .ref (E.2.2.2 (1 + 26))]) (rest := []) ⟨hx, hb, hml, hown, hts⟩ (m_X1_requireArgument l _ True (E.2.2.2 (1 + 26)) (trivial)) ⟨va_cnB 2 hts (lw_meth q1238) rfl rfl rfl (hV.2.1 _ q1270 rfl) (hts _ q108) (by decide +kernel) ⟨(Nat.le_of_ble_eq_true rfl), (Nat.le_of_ble_eq_true rfl)⟩, hts _ q1237, trivial⟩ (j_preS hV hH) rfl rfl hl.1 (by simp only [bI_T, bI_F]; rfl) (lv_room (Nat.le_of_ble_eq_true rfl)) dX2_requireParent_39 ⟨Nat.le_of_ble_eq_true rfl, Nat.le_of_ble_eq_true rfl⟩) hH (fun H locs hH => ?_)
        exact hret () hH dX2_requireParent_42 (Nat.le_of_ble_eq_true rfl) (Nat.le_of_ble_eq_true rfl) trivial
  · refine lv_aload_n hx hb dX2_requireParent_7 rfl (lv_at hl 0 rfl) ?_
    refine lv_iload_n hx hb dX2_requireParent_8 rfl (lv_at hl 1 rfl) ?_
    refine j_callqp (va_runV (As := [.int (iI pa)]) (rest := []) ⟨hx, hb, hml, hown, hts⟩ (m_X2_node l _ t a _ _ _ _ pa (hP) (hS) (by omega) (by omega)) (cw_X2_node hts q1259 (Nat.le_of_ble_eq_true rfl) (Nat.le_of_ble_eq_true rfl)) (j_preV hV hH ha rfl) rfl rfl hl.1 rfl (lv_room (Nat.le_of_ble_eq_true rfl)) dX2_requireParent_9 ⟨Nat.le_of_ble_eq_true rfl, Nat.le_of_ble_eq_true rfl⟩) hH (fun H locs hH => ?_)
    have hbx : ¬ 0 < nd P pa 4 := by omega
    have f2 : w (f pa) = some (t, .inr (4, [.int (iI pa), va_rf (paO P f pa), .int (iI (nd P pa 1)), .int (iI (nd P pa 2)), .int (iI (nd P pa 3))])) := (hT pa (by omega) (by omega)).2 hbx
    refine j_instS hx hb hts hown hV hH f2 rfl q376 dX2_requireParent_12 ?_
    refine j_if_eq (tgt := 22) hx hb dX2_requireParent_15 (by decide) (by omega) (fun c15 => ?_) (fun c15 => ?_)
    · exact absurd c15 (by decide)
    · refine j_iconst hx hb dX2_requireParent_18 ?_
      refine lv_goto (tgt := 23) hx hb dX2_requireParent_19 (by decide) ?_
      refine j_istore_n (lv' := fun x3 => [(3, .int (iI x3)), (0, .ref a), (1, .int (iI pa)), (2, .int (iI (bI ok_)))]) hx hb dX2_requireParent_23 rfl hl (by decide) (fun _ => rfl) (fun x3 ex3 ls hl => ?_)
      refine lv_iload_n hx hb dX2_requireParent_24 rfl (lv_at hl 0 rfl) ?_
      refine j_if_eq (tgt := 36) hx hb dX2_requireParent_25 (by decide) (by omega) (fun c25 => ?_) (fun c25 => ?_)
      · exact absurd c25 (by omega)
      · refine lv_iload_n hx hb dX2_requireParent_28 rfl (lv_at hl 3 rfl) ?_
        refine j_ifeq_b (tgt := 36) hx hb dX2_requireParent_29 (by decide) (fun c29 => ?_) (fun c29 => ?_)
        · exact absurd h5 c29
        · refine j_iconst hx hb dX2_requireParent_32 ?_
          refine lv_goto (tgt := 37) hx hb dX2_requireParent_33 (by decide) ?_
          refine va_ldcS hx hb hown (hV.2.2.2.2.2.1 _ (List.mem_of_getElem? (i := 29) rfl)) dX2_requireParent_37 ?_
          refine j_callvp (va_runSN (As := [.int (iI (bI True)), .ref (E.2.2.2 (1 + 26))]) (rest := []) ⟨hx, hb, hml, hown, hts⟩ (m_X1_requireArgument l _ True (E.2.2.2 (1 + 26)) (trivial)) ⟨va_cnB 2 hts (lw_meth q1238) rfl rfl rfl (hV.2.1 _ q1270 rfl) (hts _ q108) (by decide +kernel) ⟨(Nat.le_of_ble_eq_true rfl), (Nat.le_of_ble_eq_true rfl)⟩, hts _ q1237, trivial⟩ (j_preS hV hH) rfl rfl hl.1 (by simp only [bI_T, bI_F]; rfl) (lv_room (Nat.le_of_ble_eq_true rfl)) dX2_requireParent_39 ⟨Nat.le_of_ble_eq_true rfl, Nat.le_of_ble_eq_true rfl⟩) hH (fun H locs hH => ?_)
          exact hret () hH dX2_requireParent_42 (Nat.le_of_ble_eq_true rfl) (Nat.le_of_ble_eq_true rfl) trivial
