/-! THE SYSTEM's METHODS: groups and boxes are added -/
set_option maxRecDepth 100000
theorem nAdd_0 {T : Int} {P : Int → Int} (hP : PWF T P) {pa dx dy dz : Int} (h : nAdd P pa dx dy dz = 0) : (pa = -1000 ∨ (0 ≤ pa ∧ pa < P 2 ∧ nd P pa 4 = 0)) ∧ ((-200 ≤ dx ∧ dx ≤ 200) ∧ (-200 ≤ dy ∧ dy ≤ 200) ∧ -200 ≤ dz ∧ dz ≤ 200) ∧ P 2 < 20 ∧ gaO P pa ≤ 5 := by
  have hA := hP.A
  have h1 := nAdd_or P pa dx dy dz
  have h2 : pa = -1000 ∨ (0 ≤ pa ∧ pa < P 2 ∧ nd P pa 4 = 0) := by
    by_cases q : pa = -1000
    · exact Or.inl q
    · have hb : 0 ≤ pa ∧ pa < P 2 := by omega
      have hN := hP.N hb.1 hb.2
      exact Or.inr ⟨hb.1, hb.2, by omega⟩
  refine ⟨h2, by omega, by omega, ?_⟩
  unfold gaO
  split
  · omega
  · omega
theorem cw_X2_addGroup {R : Room} {s : State} {args : Array Value} {own : String} {index lev mc ms : Nat} (hts : ∀ w ∈ lw_all, w.before args s = true) (hl : Cond.methodLink own index yX2_addGroup ∈ lw_all) (hR1 : (rmL lev mc ms).frames + 1 ≤ R.frames) (hR2 : 8 + (5 + 11) + (rmL lev mc ms).locals ≤ R.locals) : CallW R s args own RX2 index yX2_addGroup cX2_addGroup 5 (some .int) (ws_ yX2_addGroup cX2_addGroup 5 (some .int)) (rmL lev mc ms) mc ms 4 :=
  cwV 4 hts (lw_V hl q1298 q1299 q109 q1300) rfl rfl rfl (by decide +kernel) ⟨hR1, hR2⟩
set_option maxHeartbeats 4000000 in
theorem m_X2_addGroup {E : jE} (l : Launch) (w : Wl) (t : Nat) (a : Nat) (T : Int) (P : Int → Int) (f : Int → Nat) (sh : Int → Int) (pa : Int) (dx : Int) (dy : Int) (dz : Int) (h1 : PWF T P) (h2 : StA E w t a P f sh) (h3 : T ≤ 900000000) (h4 : 3 ≤ t) (h5 : nAdd P pa dx dy dz = 0) : Met l yX2_addGroup (ws_ yX2_addGroup cX2_addGroup 5 (some .int)) (rmL 24 3 115) (va_Pc [.ref a, .int (iI pa), .int (iI dx), .int (iI dy), .int (iI dz)] (jP E w)) (jQi E (fun u : Wl => u) (fun z u => z = P 2 ∧ (∃ (f2 : Int → Nat) (s2 : Int → Int), StA E u t a (addP P pa dx dy dz 0 0) f2 s2) ∧ FR (fun T k => T = t ∨ T = 2) w u)) 3 115 (jA E) := by
  refine j_metI (by decide) (Nat.le_of_ble_eq_true rfl) ?_
  intro p e s m args below meth c Q hx hb hml hown hnm hts hV hH hret ls hl
  have hl : lv_has ls 5 [(0, .ref a), (1, .int (iI pa)), (2, .int (iI dx)), (3, .int (iI dy)), (4, .int (iI dz))] := hl
  have h0 := hH.1.2
  have hR0 := hH.1
  have hk : FR (fun T k => T = t ∨ T = 2) w w := FR.rf
  have hP := h1
  have hS := h2
  have hA := hP.A
  have hn := h5
  obtain ⟨hpk, hdd, h20, hga⟩ := nAdd_0 hP hn
  have hPn : PWF T (addP P pa dx dy dz 0 0) := PWF.add hP hn (by omega)
  obtain ⟨nl, sl, stt, ar, tlo, mo, mo2, ch, se, ha, -⟩ := id hS
  have f1 : w a = some (t, .inr (1, [.int (iI (P 0)), .int (iI (P 1)), .ref nl, .ref sl, .ref stt, va_rf tlo, .int (iI (P 4)), .int (iI (P 5)), .int (iI (P 6))])) := ha
  have p2 : StA E w t a P f sh := hS
  refine lv_aload_n hx hb dX2_addGroup_0 rfl (lv_at hl 0 rfl) ?_
  refine lv_iload_n hx hb dX2_addGroup_1 rfl (lv_at hl 1 rfl) ?_
  refine lv_iload_n hx hb dX2_addGroup_2 rfl (lv_at hl 2 rfl) ?_
  refine lv_iload_n hx hb dX2_addGroup_3 rfl (lv_at hl 3 rfl) ?_
  refine lv_iload hx hb dX2_addGroup_4 (lv_at hl 4 rfl) ?_
  refine j_callip (va_runSN (As := [.int (iI dx), .int (iI dy), .int (iI dz)]) (rest := [.int (iI pa), .ref a]) ⟨hx, hb, hml, hown, hts⟩ (m_X1_isPlace l _ dx dy dz (by omega) (by omega) (by omega)) ⟨va_cnB 3 hts (lw_meth q1253) rfl rfl rfl (hV.2.1 _ q1251 rfl) (hts _ q108) (by decide +kernel) ⟨(Nat.le_of_ble_eq_true rfl), (Nat.le_of_ble_eq_true rfl)⟩, hts _ q1252, trivial⟩ (j_preS hV hH) rfl rfl hl.1 rfl (lv_room (Nat.le_of_ble_eq_true rfl)) dX2_addGroup_6 ⟨Nat.le_of_ble_eq_true rfl, Nat.le_of_ble_eq_true rfl⟩) hH (fun H locs hH => ?_)
  refine j_callvp (va_runV (As := [.int (iI pa), .int (iI (bI ((-200 ≤ dx ∧ dx ≤ 200) ∧ (-200 ≤ dy ∧ dy ≤ 200) ∧ -200 ≤ dz ∧ dz ≤ 200)))]) (rest := []) ⟨hx, hb, hml, hown, hts⟩ (m_X2_requireParent l _ t a _ _ _ _ pa ((-200 ≤ dx ∧ dx ≤ 200) ∧ (-200 ≤ dy ∧ dy ≤ 200) ∧ -200 ≤ dz ∧ dz ≤ 200) (hP) (p2) (by omega) (hpk) (hdd)) (cw_X2_requireParent hts q1255 (Nat.le_of_ble_eq_true rfl) (Nat.le_of_ble_eq_true rfl)) (j_preV hV hH f1 rfl) rfl rfl hl.1 rfl (lv_room (Nat.le_of_ble_eq_true rfl)) dX2_addGroup_9 ⟨Nat.le_of_ble_eq_true rfl, Nat.le_of_ble_eq_true rfl⟩) hH (fun H locs hH => ?_)
  refine lv_aload_n hx hb dX2_addGroup_12 rfl (lv_at hl 0 rfl) ?_
  refine j_new (ci := 4) hx hb hts hown hV hH rfl in_X6 tyX6 tyX6_ok q376 q462 q133 [.int (iI 0), .null, .int (iI 0), .int (iI 0), .int (iI 0)] (fun j hj => by rcases j with _ | _ | _ | _ | _ | j <;> first | rfl | omega) (Nat.le_of_ble_eq_true rfl) (Nat.le_of_ble_eq_true rfl) dX2_addGroup_13 (fun r13 H er13 zr13 nr13 hH => ?_)
  have hH := hH 2
  obtain ⟨V3, eV3⟩ : ∃ V_ : Wl, V_ = up w r13 (2, .inr (4, [.int (iI 0), .null, .int (iI 0), .int (iI 0), .int (iI 0)])) := ⟨_, rfl⟩
  have hH := jH_eq hH eV3
  have nwr13 : w r13 = none := hk.non_ nr13
  have hs4 : FR (fun _ _ => False) w V3 := by rw [eV3]; exact FR.new1 nr13
  have f5 : V3 a = some (t, .inr (1, [.int (iI (P 0)), .int (iI (P 1)), .ref nl, .ref sl, .ref stt, va_rf tlo, .int (iI (P 4)), .int (iI (P 5)), .int (iI (P 6))])) := hs4.at f1 (k := 11) rfl (by first | exact not_false | (intro q_; simp at q_; done) | omega)
  have p6 : StA E V3 t a P f sh := StA.kp p2 hs4 (by intro T k h_; first | exact h_.elim | (obtain ⟨rfl, -⟩ := h_; omega) | omega)
  have f7 : V3 r13 = some (2, .inr (4, [.int (iI 0), .null, .int (iI 0), .int (iI 0), .int (iI 0)])) := by rw [eV3]; exact up_s
  have hk : FR (fun T k => T = t ∨ T = 2) w V3 := FR.tr hk hs4 (by intro T k h_; exact h_.elim)
  refine lv_dup hx hb dX2_addGroup_16 rfl ?_
  refine lv_aload_n hx hb dX2_addGroup_17 rfl (lv_at hl 0 rfl) ?_
  refine lv_iload_n hx hb dX2_addGroup_18 rfl (lv_at hl 1 rfl) ?_
  refine j_callqp (va_runV (As := [.int (iI pa)]) (rest := [.ref r13, .ref r13, .ref a]) ⟨hx, hb, hml, hown, hts⟩ (m_X2_group l _ t a _ _ _ _ pa (hP) (p6) (by omega) (hpk)) (cw_X2_group hts q1271 (Nat.le_of_ble_eq_true rfl) (Nat.le_of_ble_eq_true rfl)) (j_preV hV hH f5 rfl) rfl rfl hl.1 rfl (lv_room (Nat.le_of_ble_eq_true rfl)) dX2_addGroup_19 ⟨Nat.le_of_ble_eq_true rfl, Nat.le_of_ble_eq_true rfl⟩) hH (fun H locs hH => ?_)
  refine j_callvp (va_runI (As := [va_rf (if pa = -1000 then none else some (f pa))]) (rest := [.ref r13, .ref a]) ⟨hx, hb, hml, hown, hts⟩ (m_X6_init l _ _ _ _ _ _ _ _ (if pa = -1000 then none else some (f pa)) (f7)) (cw_X6_init hts q1301 (Nat.le_of_ble_eq_true rfl) (Nat.le_of_ble_eq_true rfl)) (j_preS hV hH) rfl rfl hl.1 rfl (lv_room (Nat.le_of_ble_eq_true rfl)) dX2_addGroup_22 ⟨Nat.le_of_ble_eq_true rfl, Nat.le_of_ble_eq_true rfl⟩) hH (fun H locs hH => ?_)
  obtain ⟨V8, eV8⟩ : ∃ V_ : Wl, V_ = up V3 r13 (2, .inr (4, [.int (iI 0), va_rf (if pa = -1000 then none else some (f pa)), .int (iI 0), .int (iI 0), .int (iI 0)])) := ⟨_, rfl⟩
  have hH := jH_eq hH eV8
  have hs9 : FR (fun T k => T = 2 ∧ k = 14) V3 V8 := by rw [eV8]; exact FR.one f7 rfl rfl
  have f10 : V8 a = some (t, .inr (1, [.int (iI (P 0)), .int (iI (P 1)), .ref nl, .ref sl, .ref stt, va_rf tlo, .int (iI (P 4)), .int (iI (P 5)), .int (iI (P 6))])) := hs9.at f5 (k := 11) rfl (by first | exact not_false | (intro q_; simp at q_; done) | omega)
  have p11 : StA E V8 t a P f sh := StA.kp p6 hs9 (by intro T k h_; first | exact h_.elim | (obtain ⟨rfl, -⟩ := h_; omega) | omega)
  have f12 : V8 r13 = some (2, .inr (4, [.int (iI 0), va_rf (if pa = -1000 then none else some (f pa)), .int (iI 0), .int (iI 0), .int (iI 0)])) := by rw [eV8]; exact up_s
  have hk : FR (fun T k => T = t ∨ T = 2) w V8 := by rw [eV8]; exact FR.putF hk nwr13
  refine lv_iload_n hx hb dX2_addGroup_25 rfl (lv_at hl 2 rfl) ?_
  refine lv_iload_n hx hb dX2_addGroup_26 rfl (lv_at hl 3 rfl) ?_
  refine lv_iload hx hb dX2_addGroup_27 (lv_at hl 4 rfl) ?_
  refine j_calli (va_runV (As := [.ref r13, .int (iI dx), .int (iI dy), .int (iI dz)]) (rest := []) ⟨hx, hb, hml, hown, hts⟩ (m_X2_add_X6 l V8 _ a _ _ _ _ pa 0 0 0 0 r13 dx dy dz (hP) (p11) (by omega) (by omega) (f12) (by omega) (by omega) (by omega) (by assumption)) (cw_X2_add hts q1276 (Nat.le_of_ble_eq_true rfl) (Nat.le_of_ble_eq_true rfl)) (j_preV hV hH f10 rfl) rfl rfl hl.1 rfl (lv_room (Nat.le_of_ble_eq_true rfl)) dX2_addGroup_29 ⟨Nat.le_of_ble_eq_true rfl, Nat.le_of_ble_eq_true rfl⟩) hH (fun z15 U13 H locs hp hH => ?_)
  obtain ⟨hzz15, hS2_29, hs14⟩ := hp
  have hk : FR (fun T k => T = t ∨ T = 2) w U13 := FR.tr hk hs14 (by intro T k h_; first | exact h_.elim | (obtain ⟨rfl, rfl⟩ := h_; simp; done) | omega)
  subst hzz15
  exact hret U13 hH dX2_addGroup_32 (Nat.le_of_ble_eq_true rfl) (Nat.le_of_ble_eq_true rfl) (⟨by first | rfl | omega, ⟨_, _, hS2_29⟩, hk⟩)
theorem cw_X2_addBox {R : Room} {s : State} {args : Array Value} {own : String} {index lev mc ms : Nat} (hts : ∀ w ∈ lw_all, w.before args s = true) (hl : Cond.methodLink own index yX2_addBox ∈ lw_all) (hR1 : (rmL lev mc ms).frames + 1 ≤ R.frames) (hR2 : 8 + (8 + 11) + (rmL lev mc ms).locals ≤ R.locals) : CallW R s args own RX2 index yX2_addBox cX2_addBox 8 (some .int) (ws_ yX2_addBox cX2_addBox 8 (some .int)) (rmL lev mc ms) mc ms 6 :=
  cwV 6 hts (lw_V hl q1247 q1248 q109 q1249) rfl rfl rfl (by decide +kernel) ⟨hR1, hR2⟩
set_option maxHeartbeats 4000000 in
theorem m_X2_addBox {E : jE} (l : Launch) (w : Wl) (t : Nat) (a : Nat) (T : Int) (P : Int → Int) (f : Int → Nat) (sh : Int → Int) (pa : Int) (dx : Int) (dy : Int) (dz : Int) (w1 : Int) (v1 : Int) (h1 : PWF T P) (h2 : StA E w t a P f sh) (h3 : T ≤ 900000000) (h4 : 3 ≤ t) (h5 : nBox P pa dx dy dz w1 v1 = 0) : Met l yX2_addBox (ws_ yX2_addBox cX2_addBox 8 (some .int)) (rmL 24 3 119) (va_Pc [.ref a, .int (iI pa), .int (iI dx), .int (iI dy), .int (iI dz), .int (iI w1), .int (iI v1)] (jP E w)) (jQi E (fun u : Wl => u) (fun z u => z = P 2 ∧ (∃ (f2 : Int → Nat) (s2 : Int → Int), StA E u t a (addP P pa dx dy dz w1 v1) f2 s2) ∧ FR (fun T k => T = t ∨ T = 2) w u)) 3 119 (jA E) := by
  refine j_metI (by decide) (Nat.le_of_ble_eq_true rfl) ?_
  intro p e s m args below meth c Q hx hb hml hown hnm hts hV hH hret ls hl
  have hl : lv_has ls 8 [(0, .ref a), (1, .int (iI pa)), (2, .int (iI dx)), (3, .int (iI dy)), (4, .int (iI dz)), (5, .int (iI w1)), (6, .int (iI v1))] := hl
  have h0 := hH.1.2
  have hR0 := hH.1
  have hk : FR (fun T k => T = t ∨ T = 2) w w := FR.rf
  have hP := h1
  have hS := h2
  have hA := hP.A
  have hn := (nBox_0 h5).1
  obtain ⟨hpk, hdd, h20, hga⟩ := nAdd_0 hP hn
  have hwb := (nBox_0 h5).2
  have hPn : PWF T (addP P pa dx dy dz w1 v1) := PWF.add hP hn (by omega)
  obtain ⟨nl, sl, stt, ar, tlo, mo, mo2, ch, se, ha, -⟩ := id hS
  have f1 : w a = some (t, .inr (1, [.int (iI (P 0)), .int (iI (P 1)), .ref nl, .ref sl, .ref stt, va_rf tlo, .int (iI (P 4)), .int (iI (P 5)), .int (iI (P 6))])) := ha
  have p2 : StA E w t a P f sh := hS
  refine lv_iload hx hb dX2_addBox_0 (lv_at hl 5 rfl) ?_
  refine j_i2l hx hb dX2_addBox_2 (by omega) ?_
  refine j_lconst (z := 1) hx hb dX2_addBox_3 (by decide +kernel) ?_
  refine j_ldc2 (z := 100) hx hb hts hown q1250 dX2_addBox_4 (by decide +kernel) ?_
  refine j_callip (va_runSN (As := [.long (lL w1), .long (lL 1), .long (lL 100)]) (rest := []) ⟨hx, hb, hml, hown, hts⟩ (m_X1_inRange l _ w1 1 100 (by omega) (by omega) (by omega)) ⟨va_cnB 3 hts (lw_meth q1033) rfl rfl rfl (hV.2.1 _ q1031 rfl) (hts _ q108) (by decide +kernel) ⟨(Nat.le_of_ble_eq_true rfl), (Nat.le_of_ble_eq_true rfl)⟩, hts _ q1032, trivial⟩ (j_preS hV hH) rfl rfl hl.1 rfl (lv_room (Nat.le_of_ble_eq_true rfl)) dX2_addBox_7 ⟨Nat.le_of_ble_eq_true rfl, Nat.le_of_ble_eq_true rfl⟩) hH (fun H locs hH => ?_)
  refine j_ifeq_b (tgt := 30) hx hb dX2_addBox_10 (by decide) (fun c10 => ?_) (fun c10 => ?_)
  · exact absurd (by omega) c10
  · refine lv_iload hx hb dX2_addBox_13 (lv_at hl 6 rfl) ?_
    refine j_i2l hx hb dX2_addBox_15 (by omega) ?_
    refine j_lconst (z := 1) hx hb dX2_addBox_16 (by decide +kernel) ?_
    refine j_ldc2 (z := 100) hx hb hts hown q1250 dX2_addBox_17 (by decide +kernel) ?_
    refine j_callip (va_runSN (As := [.long (lL v1), .long (lL 1), .long (lL 100)]) (rest := []) ⟨hx, hb, hml, hown, hts⟩ (m_X1_inRange l _ v1 1 100 (by omega) (by omega) (by omega)) ⟨va_cnB 3 hts (lw_meth q1033) rfl rfl rfl (hV.2.1 _ q1031 rfl) (hts _ q108) (by decide +kernel) ⟨(Nat.le_of_ble_eq_true rfl), (Nat.le_of_ble_eq_true rfl)⟩, hts _ q1032, trivial⟩ (j_preS hV hH) rfl rfl hl.1 rfl (lv_room (Nat.le_of_ble_eq_true rfl)) dX2_addBox_20 ⟨Nat.le_of_ble_eq_true rfl, Nat.le_of_ble_eq_true rfl⟩) hH (fun H locs hH => ?_)
    refine j_ifeq_b (tgt := 30) hx hb dX2_addBox_23 (by decide) (fun c23 => ?_) (fun c23 => ?_)
    · exact absurd (by omega) c23
    · refine j_iconst hx hb dX2_addBox_26 ?_
      refine lv_goto (tgt := 31) hx hb dX2_addBox_27 (by decide) ?_
      refine j_istore (lv' := fun x3 => [(7, .int (iI x3)), (0, .ref a), (1, .int (iI pa)), (2, .int (iI dx)), (3, .int (iI dy)), (4, .int (iI dz)), (5, .int (iI w1)), (6, .int (iI v1))]) hx hb dX2_addBox_31 hl (by decide) (fun _ => rfl) (fun x3 ex3 ls hl => ?_)
      refine lv_aload_n hx hb dX2_addBox_33 rfl (lv_at hl 1 rfl) ?_
      refine lv_iload_n hx hb dX2_addBox_34 rfl (lv_at hl 2 rfl) ?_
      refine lv_iload hx hb dX2_addBox_35 (lv_at hl 0 rfl) ?_
      refine j_if_eq (tgt := 54) hx hb dX2_addBox_37 (by decide) (by omega) (fun c37 => ?_) (fun c37 => ?_)
      · exact absurd c37 (by omega)
      · refine lv_iload_n hx hb dX2_addBox_40 rfl (lv_at hl 3 rfl) ?_
        refine lv_iload_n hx hb dX2_addBox_41 rfl (lv_at hl 4 rfl) ?_
        refine lv_iload hx hb dX2_addBox_42 (lv_at hl 5 rfl) ?_
        refine j_callip (va_runSN (As := [.int (iI dx), .int (iI dy), .int (iI dz)]) (rest := [.int (iI pa), .ref a]) ⟨hx, hb, hml, hown, hts⟩ (m_X1_isPlace l _ dx dy dz (by omega) (by omega) (by omega)) ⟨va_cnB 3 hts (lw_meth q1253) rfl rfl rfl (hV.2.1 _ q1251 rfl) (hts _ q108) (by decide +kernel) ⟨(Nat.le_of_ble_eq_true rfl), (Nat.le_of_ble_eq_true rfl)⟩, hts _ q1252, trivial⟩ (j_preS hV hH) rfl rfl hl.1 rfl (lv_room (Nat.le_of_ble_eq_true rfl)) dX2_addBox_44 ⟨Nat.le_of_ble_eq_true rfl, Nat.le_of_ble_eq_true rfl⟩) hH (fun H locs hH => ?_)
        refine j_ifeq_b (tgt := 54) hx hb dX2_addBox_47 (by decide) (fun c47 => ?_) (fun c47 => ?_)
        · exact absurd (by omega) c47
        · refine j_iconst hx hb dX2_addBox_50 ?_
          refine lv_goto (tgt := 55) hx hb dX2_addBox_51 (by decide) ?_
          refine j_callvp (va_runV (As := [.int (iI pa), .int (iI (bI True))]) (rest := []) ⟨hx, hb, hml, hown, hts⟩ (m_X2_requireParent l _ t a _ _ _ _ pa True (hP) (p2) (by omega) (hpk) (trivial)) (cw_X2_requireParent hts q1255 (Nat.le_of_ble_eq_true rfl) (Nat.le_of_ble_eq_true rfl)) (j_preV hV hH f1 rfl) rfl rfl hl.1 (by simp only [bI_T, bI_F]; rfl) (lv_room (Nat.le_of_ble_eq_true rfl)) dX2_addBox_55 ⟨Nat.le_of_ble_eq_true rfl, Nat.le_of_ble_eq_true rfl⟩) hH (fun H locs hH => ?_)
          refine lv_aload_n hx hb dX2_addBox_58 rfl (lv_at hl 1 rfl) ?_
          refine j_new (ci := 3) hx hb hts hown hV hH rfl in_X5 tyX5 tyX5_ok q1030 q388 q132 [.int (iI 0), .null, .int (iI 0), .int (iI 0), .int (iI 0), .int (iI 0), .int (iI 0), .int (iI 0), .int (iI 0)] (fun j hj => by rcases j with _ | _ | _ | _ | _ | _ | _ | _ | _ | j <;> first | rfl | omega) (Nat.le_of_ble_eq_true rfl) (Nat.le_of_ble_eq_true rfl) dX2_addBox_59 (fun r59 H er59 zr59 nr59 hH => ?_)
          have hH := hH 2
          obtain ⟨V4, eV4⟩ : ∃ V_ : Wl, V_ = up w r59 (2, .inr (3, [.int (iI 0), .null, .int (iI 0), .int (iI 0), .int (iI 0), .int (iI 0), .int (iI 0), .int (iI 0), .int (iI 0)])) := ⟨_, rfl⟩
          have hH := jH_eq hH eV4
          have nwr59 : w r59 = none := hk.non_ nr59
          have hs5 : FR (fun _ _ => False) w V4 := by rw [eV4]; exact FR.new1 nr59
          have f6 : V4 a = some (t, .inr (1, [.int (iI (P 0)), .int (iI (P 1)), .ref nl, .ref sl, .ref stt, va_rf tlo, .int (iI (P 4)), .int (iI (P 5)), .int (iI (P 6))])) := hs5.at f1 (k := 11) rfl (by first | exact not_false | (intro q_; simp at q_; done) | omega)
          have p7 : StA E V4 t a P f sh := StA.kp p2 hs5 (by intro T k h_; first | exact h_.elim | (obtain ⟨rfl, -⟩ := h_; omega) | omega)
          have f8 : V4 r59 = some (2, .inr (3, [.int (iI 0), .null, .int (iI 0), .int (iI 0), .int (iI 0), .int (iI 0), .int (iI 0), .int (iI 0), .int (iI 0)])) := by rw [eV4]; exact up_s
          have hk : FR (fun T k => T = t ∨ T = 2) w V4 := FR.tr hk hs5 (by intro T k h_; exact h_.elim)
          refine lv_dup hx hb dX2_addBox_62 rfl ?_
          refine lv_aload_n hx hb dX2_addBox_63 rfl (lv_at hl 1 rfl) ?_
          refine lv_iload_n hx hb dX2_addBox_64 rfl (lv_at hl 2 rfl) ?_
          refine j_callqp (va_runV (As := [.int (iI pa)]) (rest := [.ref r59, .ref r59, .ref a]) ⟨hx, hb, hml, hown, hts⟩ (m_X2_group l _ t a _ _ _ _ pa (hP) (p7) (by omega) (hpk)) (cw_X2_group hts q1271 (Nat.le_of_ble_eq_true rfl) (Nat.le_of_ble_eq_true rfl)) (j_preV hV hH f6 rfl) rfl rfl hl.1 rfl (lv_room (Nat.le_of_ble_eq_true rfl)) dX2_addBox_65 ⟨Nat.le_of_ble_eq_true rfl, Nat.le_of_ble_eq_true rfl⟩) hH (fun H locs hH => ?_)
          refine lv_iload hx hb dX2_addBox_68 (lv_at hl 6 rfl) ?_
          refine lv_iload hx hb dX2_addBox_70 (lv_at hl 7 rfl) ?_
          refine j_callvp (va_runI (As := [va_rf (if pa = -1000 then none else some (f pa)), .int (iI w1), .int (iI v1)]) (rest := [.ref r59, .ref a]) ⟨hx, hb, hml, hown, hts⟩ (m_X5_init l _ _ _ _ _ _ _ _ _ _ _ _ (if pa = -1000 then none else some (f pa)) w1 v1 (f8)) (cw_X5_init hts q1275 (Nat.le_of_ble_eq_true rfl) (Nat.le_of_ble_eq_true rfl)) (j_preS hV hH) rfl rfl hl.1 rfl (lv_room (Nat.le_of_ble_eq_true rfl)) dX2_addBox_72 ⟨Nat.le_of_ble_eq_true rfl, Nat.le_of_ble_eq_true rfl⟩) hH (fun H locs hH => ?_)
          obtain ⟨V9, eV9⟩ : ∃ V_ : Wl, V_ = up V4 r59 (2, .inr (3, [.int (iI 0), va_rf (if pa = -1000 then none else some (f pa)), .int (iI 0), .int (iI 0), .int (iI 0), .int (iI w1), .int (iI v1), .int (iI 8), .int (iI 0)])) := ⟨_, rfl⟩
          have hH := jH_eq hH eV9
          have hs10 : FR (fun T k => T = 2 ∧ k = 13) V4 V9 := by rw [eV9]; exact FR.one f8 rfl rfl
          have f11 : V9 a = some (t, .inr (1, [.int (iI (P 0)), .int (iI (P 1)), .ref nl, .ref sl, .ref stt, va_rf tlo, .int (iI (P 4)), .int (iI (P 5)), .int (iI (P 6))])) := hs10.at f6 (k := 11) rfl (by first | exact not_false | (intro q_; simp at q_; done) | omega)
          have p12 : StA E V9 t a P f sh := StA.kp p7 hs10 (by intro T k h_; first | exact h_.elim | (obtain ⟨rfl, -⟩ := h_; omega) | omega)
          have f13 : V9 r59 = some (2, .inr (3, [.int (iI 0), va_rf (if pa = -1000 then none else some (f pa)), .int (iI 0), .int (iI 0), .int (iI 0), .int (iI w1), .int (iI v1), .int (iI 8), .int (iI 0)])) := by rw [eV9]; exact up_s
          have hk : FR (fun T k => T = t ∨ T = 2) w V9 := by rw [eV9]; exact FR.putF hk nwr59
          refine lv_iload_n hx hb dX2_addBox_75 rfl (lv_at hl 3 rfl) ?_
          refine lv_iload_n hx hb dX2_addBox_76 rfl (lv_at hl 4 rfl) ?_
          refine lv_iload hx hb dX2_addBox_77 (lv_at hl 5 rfl) ?_
          refine j_calli (va_runV (As := [.ref r59, .int (iI dx), .int (iI dy), .int (iI dz)]) (rest := []) ⟨hx, hb, hml, hown, hts⟩ (m_X2_add_X5 l V9 _ a _ _ _ _ pa 0 0 0 0 w1 v1 r59 dx dy dz (hP) (p12) (by omega) (by omega) (f13) (by omega) (by omega) (by omega) (by omega) (by assumption)) (cw_X2_add hts q1276 (Nat.le_of_ble_eq_true rfl) (Nat.le_of_ble_eq_true rfl)) (j_preV hV hH f11 rfl) rfl rfl hl.1 rfl (lv_room (Nat.le_of_ble_eq_true rfl)) dX2_addBox_79 ⟨Nat.le_of_ble_eq_true rfl, Nat.le_of_ble_eq_true rfl⟩) hH (fun z16 U14 H locs hp hH => ?_)
          obtain ⟨hzz16, hS2_79, hs15⟩ := hp
          have hk : FR (fun T k => T = t ∨ T = 2) w U14 := FR.tr hk hs15 (by intro T k h_; first | exact h_.elim | (obtain ⟨rfl, rfl⟩ := h_; simp; done) | omega)
          subst hzz16
          exact hret U14 hH dX2_addBox_82 (Nat.le_of_ble_eq_true rfl) (Nat.le_of_ble_eq_true rfl) (⟨by first | rfl | omega, ⟨_, _, hS2_79⟩, hk⟩)
