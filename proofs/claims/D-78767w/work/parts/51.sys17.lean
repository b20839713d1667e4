/-! THE SYSTEM's METHODS: the stage is written (what is asked for is right) -/
set_option maxRecDepth 100000
theorem sg4_at {P : Int → Int} {k : Int} (h : 0 ≤ k ∧ k < 4) : sg4 P k = P (7 + k) := if_pos h
theorem sg4_set {P : Int → Int} {k v : Int} (h : 0 ≤ k ∧ k < 4) : ∀ j : Int, upz (sg4 P) k v j = sg4 (setP P k v) j := fun j => by
  by_cases hj : j = k
  · subst hj
    rw [upz_s, sg4_at h, setP, upz_s]
  · rw [upz_n hj]
    unfold sg4 setP
    rw [upz_n (by omega)]
theorem sg4_ex {P P' : Int → Int} (h0 : P' 7 = P 7) (h1 : P' 8 = P 8) (h2 : P' 9 = P 9) (h3 : P' 10 = P 10) : ∀ j : Int, sg4 P j = sg4 P' j := fun j => by
  unfold sg4
  by_cases hj : 0 ≤ j ∧ j < 4
  · rw [if_pos hj, if_pos hj]
    rcases (show j = 0 ∨ j = 1 ∨ j = 2 ∨ j = 3 by omega) with q | q | q | q <;> subst q
    · exact h0.symm
    · exact h1.symm
    · exact h2.symm
    · exact h3.symm
  · rw [if_neg hj, if_neg hj]
theorem ScO.off {w u : Wl} {P : Int → Int} {se : Int → Nat} {r : Nat} {c : Nat × va_E} (h : ScO w P se) (hd : ∀ s : Int, 0 ≤ s → s < P 3 → se s ≠ r) (hu : u = up w r c) : ScO u P se := fun s p q => by rw [hu, up_n (hd s p q)]; exact h s p q
theorem scnP_u {P : Int → Int} {x y z b : Int} (h0 : 0 ≤ P 3) (h3 : b ≠ 3) (h : b < 174) : scnP P x y z b = P b := by
  unfold scnP
  rw [upz_n h3, upz_n (by omega), upz_n (by omega), upz_n (by omega)]
theorem scnP_3 {P : Int → Int} {x y z : Int} : scnP P x y z 3 = P 3 + 1 := upz_s
theorem ScO.add {w : Wl} {P : Int → Int} {se : Int → Nat} {r : Nat} {a b c : Int} (h : ScO w P se) (h3 : 0 ≤ P 3) (hr : w r = some (1, .inr (5, [.int (iI a), .int (iI b), .int (iI c)]))) : ScO w (scnP P a b c) (upz se (P 3) r) := fun s p q => by
  have q2 : s < P 3 + 1 := by simpa [scnP, upz] using q
  by_cases hs : s = P 3
  · subst hs
    rw [upz_s, hr]
    have e0 : sc (scnP P a b c) (P 3) 0 = a := by unfold sc scnP; rw [upz_n (by omega), upz_n (by omega), upz_n (by omega), show 174 + 3 * P 3 + 0 = 174 + 3 * P 3 by omega, upz_s]
    have e1 : sc (scnP P a b c) (P 3) 1 = b := by unfold sc scnP; rw [upz_n (by omega), upz_n (by omega), upz_s]
    have e2 : sc (scnP P a b c) (P 3) 2 = c := by unfold sc scnP; rw [upz_n (by omega), upz_s]
    rw [e0, e1, e2]
  · have e : ∀ k : Int, 0 ≤ k → k < 3 → sc (scnP P a b c) s k = sc P s k := fun k k0 k1 => by unfold sc scnP; rw [upz_n (by omega), upz_n (by omega), upz_n (by omega), upz_n (by omega)]
    rw [upz_n hs, e 0 (by omega) (by omega), e 1 (by omega) (by omega), e 2 (by omega) (by omega)]
    exact h s p (by omega)
/-- one node's cell is written -/
theorem TRE.upd {w u : Wl} {t : Nat} {P P' : Int → Int} {f : Int → Nat} {sh sh' : Int → Int} {n : Int} {c : va_E} (h : TRE w t P f sh) (hP : P 2 ≤ 20) (h2 : P' 2 = P 2) (n0 : 0 ≤ n) (n1 : n < P 2) (hu : u = up w (f n) (t, c)) (hB : 0 < nd P' n 4 → c = ndB P' f sh' n) (hG : ¬ 0 < nd P' n 4 → c = ndG P' f n)
    (hn : ∀ m k : Int, 0 ≤ m → m < P 2 → m ≠ n → 0 ≤ k → k < 7 → nd P' m k = nd P m k) (hs : ∀ m : Int, 0 ≤ m → m < P 2 → m ≠ n → sh' m = sh m) : TRE u t P' f sh' := fun m p q => by
  rw [h2] at q
  by_cases hm : m = n
  · subst hm
    rw [hu, up_s]
    exact ⟨fun r => by rw [hB r], fun r => by rw [hG r]⟩
  · have hne : f m ≠ f n := fun e => hm (h.num hP p q n0 n1 e)
    rw [hu, up_n hne]
    have hp : paO P' f m = paO P f m := by unfold paO; rw [hn m 0 p q hm (by omega) (by omega)]
    have hb : ndB P' f sh' m = ndB P f sh m := by unfold ndB; rw [hp, hn m 1 p q hm (by omega) (by omega), hn m 2 p q hm (by omega) (by omega), hn m 3 p q hm (by omega) (by omega), hn m 4 p q hm (by omega) (by omega), hn m 5 p q hm (by omega) (by omega), hn m 6 p q hm (by omega) (by omega), hs m p q hm]
    have hg : ndG P' f m = ndG P f m := by unfold ndG; rw [hp, hn m 1 p q hm (by omega) (by omega), hn m 2 p q hm (by omega) (by omega), hn m 3 p q hm (by omega) (by omega)]
    rw [hb, hg, hn m 4 p q hm (by omega) (by omega)]
    exact h m p q
set_option maxHeartbeats 4000000 in
theorem m_X7_init_w {E : jE} (l : Launch) (w : Wl) (a : Nat) (t : Nat) (v0 : Value) (v1 : Value) (v2 : Value) (i1 : Int) (i2 : Int) (i3 : Int) (h1 : w a = some (t, .inr (5, [v0, v1, v2]))) : Met l yX7_init (ws_ yX7_init cX7_init 4 none) (rmL 2 0 0) (va_Pc [.ref a, .int (iI i1), .int (iI i2), .int (iI i3)] (jP E w)) (jQv E (fun _ : Unit => up w a (t, .inr (5, [.int (iI i1), .int (iI i2), .int (iI i3)]))) (fun _ => True)) 0 0 (jA E) := by
  refine j_metV (by decide) (Nat.le_of_ble_eq_true rfl) ?_
  intro p e s m args below meth c Q hx hb hml hown hnm hts hV hH hret ls hl
  have hl : lv_has ls 4 [(0, .ref a), (1, .int (iI i1)), (2, .int (iI i2)), (3, .int (iI i3))] := hl
  refine lv_aload_n hx hb dX7_init_0 rfl (lv_at hl 0 rfl) ?_
  refine j_oinit hx hb hts hown hml q1327 q158 q159 hl.1 dX7_init_1 (Nat.le_of_ble_eq_true rfl) (Nat.le_of_ble_eq_true rfl) ?_
  refine lv_aload_n hx hb dX7_init_4 rfl (lv_at hl 0 rfl) ?_
  refine lv_iload_n hx hb dX7_init_5 rfl (lv_at hl 1 rfl) ?_
  refine j_putF hx hb hts hown hV hH h1 rfl in_X7 tyX7 tyX7_ok nmX7 0 (Nat.le_of_ble_eq_true rfl) q1328 (fun _ h => h) rfl hnm rfl rfl rfl (Nat.le_of_ble_eq_true rfl) dX7_init_6 (fun H locs hH => ?_)
  have hH : jH E s.heap (up w a (t, .inr (5, [.int (iI i1), v1, v2]))) H locs := hH
  have hf1 : (up w a (t, .inr (5, [.int (iI i1), v1, v2]))) a = some (t, .inr (5, [.int (iI i1), v1, v2])) := up_s
  refine lv_aload_n hx hb dX7_init_9 rfl (lv_at hl 0 rfl) ?_
  refine lv_iload_n hx hb dX7_init_10 rfl (lv_at hl 2 rfl) ?_
  refine j_putF hx hb hts hown hV hH hf1 rfl in_X7 tyX7 tyX7_ok nmX7 1 (Nat.le_of_ble_eq_true rfl) q1331 (fun _ h => h) rfl hnm rfl rfl rfl (Nat.le_of_ble_eq_true rfl) dX7_init_11 (fun H locs hH => ?_)
  have hH : jH E s.heap (up w a (t, .inr (5, [.int (iI i1), .int (iI i2), v2]))) H locs := up2 hH
  have hf2 : (up w a (t, .inr (5, [.int (iI i1), .int (iI i2), v2]))) a = some (t, .inr (5, [.int (iI i1), .int (iI i2), v2])) := up_s
  refine lv_aload_n hx hb dX7_init_14 rfl (lv_at hl 0 rfl) ?_
  refine lv_iload_n hx hb dX7_init_15 rfl (lv_at hl 3 rfl) ?_
  refine j_putF hx hb hts hown hV hH hf2 rfl in_X7 tyX7 tyX7_ok nmX7 2 (Nat.le_of_ble_eq_true rfl) q1334 (fun _ h => h) rfl hnm rfl rfl rfl (Nat.le_of_ble_eq_true rfl) dX7_init_16 (fun H locs hH => ?_)
  have hH : jH E s.heap (up w a (t, .inr (5, [.int (iI i1), .int (iI i2), .int (iI i3)]))) H locs := up2 hH
  have hf3 : (up w a (t, .inr (5, [.int (iI i1), .int (iI i2), .int (iI i3)]))) a = some (t, .inr (5, [.int (iI i1), .int (iI i2), .int (iI i3)])) := up_s
  exact hret () hH dX7_init_19 (Nat.le_of_ble_eq_true rfl) (Nat.le_of_ble_eq_true rfl) trivial
set_option maxHeartbeats 4000000 in
theorem m_X8_init_w {E : jE} (l : Launch) (w : Wl) (a : Nat) (t : Nat) (v0 : Value) (v1 : Value) (v2 : Value) (i1 : Int) (i2 : Int) (i3 : Int) (h1 : w a = some (t, .inr (6, [v0, v1, v2]))) : Met l yX8_init (ws_ yX8_init cX8_init 4 none) (rmL 2 0 0) (va_Pc [.ref a, .int (iI i1), .int (iI i2), .int (iI i3)] (jP E w)) (jQv E (fun _ : Unit => up w a (t, .inr (6, [.int (iI i1), .int (iI i2), .int (iI i3)]))) (fun _ => True)) 0 0 (jA E) := by
  refine j_metV (by decide) (Nat.le_of_ble_eq_true rfl) ?_
  intro p e s m args below meth c Q hx hb hml hown hnm hts hV hH hret ls hl
  have hl : lv_has ls 4 [(0, .ref a), (1, .int (iI i1)), (2, .int (iI i2)), (3, .int (iI i3))] := hl
  refine lv_aload_n hx hb dX8_init_0 rfl (lv_at hl 0 rfl) ?_
  refine j_oinit hx hb hts hown hml q1363 q158 q159 hl.1 dX8_init_1 (Nat.le_of_ble_eq_true rfl) (Nat.le_of_ble_eq_true rfl) ?_
  refine lv_aload_n hx hb dX8_init_4 rfl (lv_at hl 0 rfl) ?_
  refine lv_iload_n hx hb dX8_init_5 rfl (lv_at hl 1 rfl) ?_
  refine j_putF hx hb hts hown hV hH h1 rfl in_X8 tyX8 tyX8_ok nmX8 0 (Nat.le_of_ble_eq_true rfl) q1364 (fun _ h => h) rfl hnm rfl rfl rfl (Nat.le_of_ble_eq_true rfl) dX8_init_6 (fun H locs hH => ?_)
  have hH : jH E s.heap (up w a (t, .inr (6, [.int (iI i1), v1, v2]))) H locs := hH
  have hf1 : (up w a (t, .inr (6, [.int (iI i1), v1, v2]))) a = some (t, .inr (6, [.int (iI i1), v1, v2])) := up_s
  refine lv_aload_n hx hb dX8_init_9 rfl (lv_at hl 0 rfl) ?_
  refine lv_iload_n hx hb dX8_init_10 rfl (lv_at hl 2 rfl) ?_
  refine j_putF hx hb hts hown hV hH hf1 rfl in_X8 tyX8 tyX8_ok nmX8 1 (Nat.le_of_ble_eq_true rfl) q1366 (fun _ h => h) rfl hnm rfl rfl rfl (Nat.le_of_ble_eq_true rfl) dX8_init_11 (fun H locs hH => ?_)
  have hH : jH E s.heap (up w a (t, .inr (6, [.int (iI i1), .int (iI i2), v2]))) H locs := up2 hH
  have hf2 : (up w a (t, .inr (6, [.int (iI i1), .int (iI i2), v2]))) a = some (t, .inr (6, [.int (iI i1), .int (iI i2), v2])) := up_s
  refine lv_aload_n hx hb dX8_init_14 rfl (lv_at hl 0 rfl) ?_
  refine lv_iload_n hx hb dX8_init_15 rfl (lv_at hl 3 rfl) ?_
  refine j_putF hx hb hts hown hV hH hf2 rfl in_X8 tyX8 tyX8_ok nmX8 2 (Nat.le_of_ble_eq_true rfl) q1368 (fun _ h => h) rfl hnm rfl rfl rfl (Nat.le_of_ble_eq_true rfl) dX8_init_16 (fun H locs hH => ?_)
  have hH : jH E s.heap (up w a (t, .inr (6, [.int (iI i1), .int (iI i2), .int (iI i3)]))) H locs := up2 hH
  have hf3 : (up w a (t, .inr (6, [.int (iI i1), .int (iI i2), .int (iI i3)]))) a = some (t, .inr (6, [.int (iI i1), .int (iI i2), .int (iI i3)])) := up_s
  exact hret () hH dX8_init_19 (Nat.le_of_ble_eq_true rfl) (Nat.le_of_ble_eq_true rfl) trivial
set_option maxHeartbeats 4000000 in
theorem m_X2_towards2 {E : jE} (l : Launch) (w : Wl) (a : Nat) (t : Nat) (v0 : Value) (v1 : Value) (v2 : Value) (v3 : Value) (v5 : Value) (v6 : Value) (v7 : Value) (v8 : Value) (stt : Nat) (g : Int → Int) (x : Int) (y : Int) (h1 : w a = some (t, .inr (1, [v0, v1, v2, v3, .ref stt, v5, v6, v7, v8]))) (h2 : w stt = some (t, arI E 4 g)) (h3 : -1000 ≤ x ∧ x ≤ 1000) (h4 : -1000 ≤ y ∧ y ≤ 1000) (h5 : 0 ≤ g 1 ∧ g 1 ≤ 1000) : Met l yX2_towards (ws_ yX2_towards cX2_towards 4 (some .int)) (rmL 2 0 0) (va_Pc [.ref a, .int (iI x), .int (iI y)] (jP E w)) (jQi E (fun _ : Unit => w) (fun z _ => z = twO x y (g 1))) 0 0 (jA E) := by
  refine j_metI (by decide) (Nat.le_of_ble_eq_true rfl) ?_
  intro p e s m args below meth c Q hx hb hml hown hnm hts hV hH hret ls hl
  have hl : lv_has ls 4 [(0, .ref a), (1, .int (iI x)), (2, .int (iI y))] := hl
  have h0 := hH.1.2
  refine lv_aload_n hx hb dX2_towards_0 rfl (lv_at hl 0 rfl) ?_
  refine j_get hx hb hts hown hV hH h1 rfl in_X2 4 (Nat.le_of_ble_eq_true rfl) q230 (fun _ h => h) rfl dX2_towards_1 ?_
  refine j_iconst hx hb dX2_towards_4 ?_
  refine j_iald hx hb hV hH h2 (by omega) (by omega) dX2_towards_5 ?_
  refine j_istore_n (lv' := fun x1 => [(3, .int (iI x1)), (0, .ref a), (1, .int (iI x)), (2, .int (iI y))]) hx hb dX2_towards_6 rfl hl (by decide) (fun _ => rfl) (fun x1 ex1 ls hl => ?_)
  refine lv_iload_n hx hb dX2_towards_7 rfl (lv_at hl 2 rfl) ?_
  refine lv_iload_n hx hb dX2_towards_8 rfl (lv_at hl 3 rfl) ?_
  refine j_icmp_ge (tgt := 22) hx hb dX2_towards_9 (by decide) (by omega) (by omega) (fun c9 => ?_) (fun c9 => ?_)
  · refine lv_iload_n hx hb dX2_towards_22 rfl (lv_at hl 3 rfl) ?_
    refine lv_iload_n hx hb dX2_towards_23 rfl (lv_at hl 2 rfl) ?_
    refine lv_iload_n hx hb dX2_towards_24 rfl (lv_at hl 0 rfl) ?_
    refine j_isub hx hb dX2_towards_25 ?_
    refine j_callip (va_runS (As := [.int (iI y), .int (iI (x - x1))]) (rest := []) ⟨hx, hb, hml, hown, hts⟩ (m_J12_max l _ y (x - x1) (by omega) (by omega)) (cw_J12_max hts q1528 (Nat.le_of_ble_eq_true rfl) (Nat.le_of_ble_eq_true rfl)) (j_preS hV hH) rfl rfl hl.1 rfl (lv_room (Nat.le_of_ble_eq_true rfl)) dX2_towards_26 ⟨Nat.le_of_ble_eq_true rfl, Nat.le_of_ble_eq_true rfl⟩) hH (fun H locs hH => ?_)
    exact hret () hH dX2_towards_29 (Nat.le_of_ble_eq_true rfl) (Nat.le_of_ble_eq_true rfl) (by unfold twO; omega)
  · refine lv_iload_n hx hb dX2_towards_12 rfl (lv_at hl 3 rfl) ?_
    refine lv_iload_n hx hb dX2_towards_13 rfl (lv_at hl 2 rfl) ?_
    refine lv_iload_n hx hb dX2_towards_14 rfl (lv_at hl 0 rfl) ?_
    refine j_iadd hx hb dX2_towards_15 ?_
    refine j_callip (va_runS (As := [.int (iI y), .int (iI (x + x1))]) (rest := []) ⟨hx, hb, hml, hown, hts⟩ (m_J12_min l _ y (x + x1) (by omega) (by omega)) (cw_J12_min hts q1527 (Nat.le_of_ble_eq_true rfl) (Nat.le_of_ble_eq_true rfl)) (j_preS hV hH) rfl rfl hl.1 rfl (lv_room (Nat.le_of_ble_eq_true rfl)) dX2_towards_16 ⟨Nat.le_of_ble_eq_true rfl, Nat.le_of_ble_eq_true rfl⟩) hH (fun H locs hH => ?_)
    refine lv_goto (tgt := 29) hx hb dX2_towards_19 (by decide) ?_
    exact hret () hH dX2_towards_29 (Nat.le_of_ble_eq_true rfl) (Nat.le_of_ble_eq_true rfl) (by unfold twO; omega)
theorem cw_X2_set {R : Room} {s : State} {args : Array Value} {own : String} {index lev mc ms : Nat} (hts : ∀ w ∈ lw_all, w.before args s = true) (hl : Cond.methodLink own index yX2_set ∈ lw_all) (hR1 : (rmL lev mc ms).frames + 1 ≤ R.frames) (hR2 : 8 + (4 + 11) + (rmL lev mc ms).locals ≤ R.locals) : CallW R s args own RX2 index yX2_set cX2_set 4 (some .int) (ws_ yX2_set cX2_set 4 (some .int)) (rmL lev mc ms) mc ms 2 :=
  cwV 2 hts (lw_V hl q1379 q1380 q109 q1381) rfl rfl rfl (by decide +kernel) ⟨hR1, hR2⟩
set_option maxHeartbeats 4000000 in
theorem m_X2_set {E : jE} (l : Launch) (w : Wl) (t : Nat) (a : Nat) (T : Int) (P : Int → Int) (f : Int → Nat) (sh : Int → Int) (k1 : Int) (v1 : Int) (h1 : PWF T P) (h2 : StA E w t a P f sh) (h3 : T ≤ 900000000) (h4 : 3 ≤ t) (h5 : 0 ≤ k1 ∧ k1 < 4) (h6 : nSet k1 v1 = 0) (h7 : -2147483648 ≤ v1 ∧ v1 ≤ 2147483647) : Met l yX2_set (ws_ yX2_set cX2_set 4 (some .int)) (rmL 4 0 0) (va_Pc [.ref a, .int (iI k1), .int (iI v1)] (jP E w)) (jQi E (fun u : Wl => u) (fun z u => z = P (7 + k1) ∧ (StA E u t a (setP P k1 v1) f sh) ∧ FR (fun T k => T = t ∨ T = 2) w u)) 0 0 (jA E) := by
  refine j_metI (by decide) (Nat.le_of_ble_eq_true rfl) ?_
  intro p e s m args below meth c Q hx hb hml hown hnm hts hV hH hret ls hl
  have hl : lv_has ls 4 [(0, .ref a), (1, .int (iI k1)), (2, .int (iI v1))] := hl
  have h0 := hH.1.2
  have hR0 := hH.1
  have hk : FR (fun T k => T = t ∨ T = 2) w w := FR.rf
  have hP := h1
  have hS := h2
  have hS0 := h2
  obtain ⟨nl, sl, stt, ar, tlo, mo, mo2, ch, se, ha, hnl, hAD, hT, hsl, hLQ, hSc, hst, hti⟩ := hS0
  have hA := hP.A
  have hB := hP.B
  have hC := hP.C
  have hT0 := h3
  have f1 : w a = some (t, .inr (1, [.int (iI (P 0)), .int (iI (P 1)), .ref nl, .ref sl, .ref stt, va_rf tlo, .int (iI (P 4)), .int (iI (P 5)), .int (iI (P 6))])) := ha
  have f2 : w nl = some (t, .inr (10, [.int (iI mo), .ref ar, .int (iI (P 2))])) := hnl
  have f3 : w sl = some (t, .inr (12, [.int (iI mo2), .int (iI (P 3)), va_rf (hdO (P 3) ch 0), va_rf (prO ch (P 3))])) := hsl
  have f4 : w stt = some (t, arI E 4 (sg4 P)) := hst
  have p5 : AD E w t ar (P 2) f := hAD
  have p6 : TRE w t P f sh := hT
  have p7 : LQ w t (P 3) ch se := hLQ
  have p8 : ScO w P se := hSc
  have p9 : titO w P tlo := hti
  refine lv_iload_n hx hb dX2_set_0 rfl (lv_at hl 1 rfl) ?_
  refine lv_iload_n hx hb dX2_set_1 rfl (lv_at hl 2 rfl) ?_
  refine j_callip (va_runS (As := [.int (iI k1), .int (iI v1)]) (rest := []) ⟨hx, hb, hml, hown, hts⟩ (m_X2_isSetting l _ k1 v1 (by omega) (by omega)) (cw_X2_isSetting hts q1382 (Nat.le_of_ble_eq_true rfl) (Nat.le_of_ble_eq_true rfl)) (j_preS hV hH) rfl rfl hl.1 rfl (lv_room (Nat.le_of_ble_eq_true rfl)) dX2_set_2 ⟨Nat.le_of_ble_eq_true rfl, Nat.le_of_ble_eq_true rfl⟩) hH (fun H locs hH => ?_)
  refine va_ldcS hx hb hown (hV.2.2.2.2.2.1 _ (List.mem_of_getElem? (i := 35) rfl)) dX2_set_5 ?_
  refine j_callvp (va_runSN (As := [.int (iI (bI (nSet k1 v1 = 0))), .ref (E.2.2.2 (1 + 29))]) (rest := []) ⟨hx, hb, hml, hown, hts⟩ (m_X1_requireArgument l _ (nSet k1 v1 = 0) (E.2.2.2 (1 + 29)) (by assumption)) ⟨va_cnB 2 hts (lw_meth q1238) rfl rfl rfl (hV.2.1 _ q1270 rfl) (hts _ q108) (by decide +kernel) ⟨(Nat.le_of_ble_eq_true rfl), (Nat.le_of_ble_eq_true rfl)⟩, hts _ q1237, trivial⟩ (j_preS hV hH) rfl rfl hl.1 rfl (lv_room (Nat.le_of_ble_eq_true rfl)) dX2_set_7 ⟨Nat.le_of_ble_eq_true rfl, Nat.le_of_ble_eq_true rfl⟩) hH (fun H locs hH => ?_)
  refine lv_aload_n hx hb dX2_set_10 rfl (lv_at hl 0 rfl) ?_
  refine j_get hx hb hts hown hV hH f1 rfl in_X2 4 (Nat.le_of_ble_eq_true rfl) q230 (fun _ h => h) rfl dX2_set_11 ?_
  refine lv_iload_n hx hb dX2_set_14 rfl (lv_at hl 1 rfl) ?_
  refine j_iald hx hb hV hH f4 (by omega) (by omega) dX2_set_15 ?_
  refine j_top (b := P (7 + k1)) (sg4_at (by omega)) ?_
  refine j_istore_n (lv' := fun x10 => [(3, .int (iI x10)), (0, .ref a), (1, .int (iI k1)), (2, .int (iI v1))]) hx hb dX2_set_16 rfl hl (by decide) (fun _ => rfl) (fun x10 ex10 ls hl => ?_)
  refine lv_aload_n hx hb dX2_set_17 rfl (lv_at hl 1 rfl) ?_
  refine j_get hx hb hts hown hV hH f1 rfl in_X2 4 (Nat.le_of_ble_eq_true rfl) q230 (fun _ h => h) rfl dX2_set_18 ?_
  refine lv_iload_n hx hb dX2_set_21 rfl (lv_at hl 2 rfl) ?_
  refine lv_iload_n hx hb dX2_set_22 rfl (lv_at hl 3 rfl) ?_
  refine j_iast hx hb hV hH f4 (by omega) (by omega) dX2_set_23 (fun H locs hH => ?_)
  obtain ⟨V11, eV11⟩ : ∃ V_ : Wl, V_ = up w stt (t, arI E 4 (upz (sg4 P) k1 v1)) := ⟨_, rfl⟩
  have hH := jH_eq hH eV11
  have hs12 : FR (fun T k => T = t ∧ k = 0) w V11 := by rw [eV11]; exact FR.one f4 rfl rfl
  have f13 : V11 a = some (t, .inr (1, [.int (iI (P 0)), .int (iI (P 1)), .ref nl, .ref sl, .ref stt, va_rf tlo, .int (iI (P 4)), .int (iI (P 5)), .int (iI (P 6))])) := hs12.at f1 (k := 11) rfl (by first | exact not_false | (intro q_; simp at q_; done) | omega)
  have f14 : V11 nl = some (t, .inr (10, [.int (iI mo), .ref ar, .int (iI (P 2))])) := hs12.at f2 (k := 20) rfl (by first | exact not_false | (intro q_; simp at q_; done) | omega)
  have f15 : V11 sl = some (t, .inr (12, [.int (iI mo2), .int (iI (P 3)), va_rf (hdO (P 3) ch 0), va_rf (prO ch (P 3))])) := hs12.at f3 (k := 22) rfl (by first | exact not_false | (intro q_; simp at q_; done) | omega)
  have p16 : AD E V11 t ar (P 2) f := AD.kp p5 hs12 (by intro T k h_; first | exact h_.elim | (obtain ⟨-, rfl⟩ := h_; simp; done) | omega)
  have p17 : TRE V11 t P f sh := TRE.kp p6 hs12 (by intro T k h_; first | exact h_.elim | (obtain ⟨-, rfl⟩ := h_; simp; done) | omega)
  have p18 : LQ V11 t (P 3) ch se := LQ.kp p7 hs12 (by intro T k h_; first | exact h_.elim | (obtain ⟨-, rfl⟩ := h_; simp; done) | omega)
  have p19 : ScO V11 P se := ScO.kp p8 hs12 (by intro T k h_; first | exact h_.elim | (obtain ⟨-, rfl⟩ := h_; simp; done) | omega)
  have p20 : titO V11 P tlo := titO.kp p9 hs12 (by intro T k h_; first | exact h_.elim | (obtain ⟨-, rfl⟩ := h_; simp; done) | omega)
  have f21 : V11 stt = some (t, arI E 4 (upz (sg4 P) k1 v1)) := by rw [eV11]; exact up_s
  have hk : FR (fun T k => T = t ∨ T = 2) w V11 := FR.tr hk hs12 (by intro T k h_; first | exact h_.elim | (obtain ⟨rfl, rfl⟩ := h_; simp; done) | omega)
  refine lv_iload_n hx hb dX2_set_24 rfl (lv_at hl 0 rfl) ?_
  exact hret V11 hH dX2_set_25 (Nat.le_of_ble_eq_true rfl) (Nat.le_of_ble_eq_true rfl) (⟨by omega, StA.mk f13 f14 p16 (TRE.ag p17 (upz_n (by omega)) (fun n k h1_ h2_ h3_ h4_ => upz_n (by omega))) f15 p18 (ScO.ag p19 (upz_n (by omega)) (fun n k h1_ h2_ h3_ h4_ => upz_n (by omega))) f21 (titO.ag p20 (upz_n (by omega)) (upz_n (by omega)) (upz_n (by omega))) (upz_n (by omega)).symm (upz_n (by omega)).symm (upz_n (by omega)).symm (upz_n (by omega)).symm (upz_n (by omega)).symm (upz_n (by omega)).symm (upz_n (by omega)).symm (sg4_set (by omega)), hk⟩)
theorem cw_X2_clearTitle {R : Room} {s : State} {args : Array Value} {own : String} {index lev mc ms : Nat} (hts : ∀ w ∈ lw_all, w.before args s = true) (hl : Cond.methodLink own index yX2_clearTitle ∈ lw_all) (hR1 : (rmL lev mc ms).frames + 1 ≤ R.frames) (hR2 : 8 + (2 + 11) + (rmL lev mc ms).locals ≤ R.locals) : CallW R s args own RX2 index yX2_clearTitle cX2_clearTitle 2 (some .int) (ws_ yX2_clearTitle cX2_clearTitle 2 (some .int)) (rmL lev mc ms) mc ms 0 :=
  cwV 0 hts (lw_V hl q935 q936 q109 q937) rfl rfl rfl (by decide +kernel) ⟨hR1, hR2⟩
set_option maxHeartbeats 4000000 in
theorem m_X2_clearTitle {E : jE} (l : Launch) (w : Wl) (t : Nat) (a : Nat) (T : Int) (P : Int → Int) (f : Int → Nat) (sh : Int → Int) (h1 : PWF T P) (h2 : StA E w t a P f sh) (h3 : T ≤ 900000000) (h4 : 3 ≤ t) : Met l yX2_clearTitle (ws_ yX2_clearTitle cX2_clearTitle 2 (some .int)) (rmL 2 0 0) (va_Pc [.ref a] (jP E w)) (jQi E (fun u : Wl => u) (fun z u => z = P 13 ∧ (StA E u t a (ttlP P 0 0 0) f sh) ∧ FR (fun T k => T = t ∨ T = 2) w u)) 0 0 (jA E) := by
  refine j_metI (by decide) (Nat.le_of_ble_eq_true rfl) ?_
  intro p e s m args below meth c Q hx hb hml hown hnm hts hV hH hret ls hl
  have hl : lv_has ls 2 [(0, .ref a)] := hl
  have h0 := hH.1.2
  have hR0 := hH.1
  have hk : FR (fun T k => T = t ∨ T = 2) w w := FR.rf
  have hP := h1
  have hS := h2
  have hS0 := h2
  obtain ⟨nl, sl, stt, ar, tlo, mo, mo2, ch, se, ha, hnl, hAD, hT, hsl, hLQ, hSc, hst, hti⟩ := hS0
  have hA := hP.A
  have hB := hP.B
  have hC := hP.C
  have hT0 := h3
  have f1 : w a = some (t, .inr (1, [.int (iI (P 0)), .int (iI (P 1)), .ref nl, .ref sl, .ref stt, va_rf tlo, .int (iI (P 4)), .int (iI (P 5)), .int (iI (P 6))])) := ha
  have f2 : w nl = some (t, .inr (10, [.int (iI mo), .ref ar, .int (iI (P 2))])) := hnl
  have f3 : w sl = some (t, .inr (12, [.int (iI mo2), .int (iI (P 3)), va_rf (hdO (P 3) ch 0), va_rf (prO ch (P 3))])) := hsl
  have f4 : w stt = some (t, arI E 4 (sg4 P)) := hst
  have p5 : AD E w t ar (P 2) f := hAD
  have p6 : TRE w t P f sh := hT
  have p7 : LQ w t (P 3) ch se := hLQ
  have p8 : ScO w P se := hSc
  have p9 : titO w P tlo := hti
  refine lv_aload_n hx hb dX2_clearTitle_0 rfl (lv_at hl 0 rfl) ?_
  refine j_callip (va_runV (As := []) (rest := []) ⟨hx, hb, hml, hown, hts⟩ (m_X2_titleLength l _ t a _ _ _ _ (hP) (⟨nl, sl, stt, ar, tlo, mo, mo2, _, _, f1, f2, p5, p6, f3, p7, p8, f4, p9⟩) (by omega)) (cw_X2_titleLength hts q938 (Nat.le_of_ble_eq_true rfl) (Nat.le_of_ble_eq_true rfl)) (j_preV hV hH f1 rfl) rfl rfl hl.1 rfl (lv_room (Nat.le_of_ble_eq_true rfl)) dX2_clearTitle_1 ⟨Nat.le_of_ble_eq_true rfl, Nat.le_of_ble_eq_true rfl⟩) hH (fun H locs hH => ?_)
  refine j_istore_n (lv' := fun x10 => [(1, .int (iI x10)), (0, .ref a)]) hx hb dX2_clearTitle_4 rfl hl (by decide) (fun _ => rfl) (fun x10 ex10 ls hl => ?_)
  refine lv_aload_n hx hb dX2_clearTitle_5 rfl (lv_at hl 1 rfl) ?_
  refine lv_null hx hb dX2_clearTitle_6 ?_
  refine j_put hx hb hts hown hV hH f1 rfl in_X2 tyX2 tyX2_ok nmX2 5 (Nat.le_of_ble_eq_true rfl) q234 (fun _ h => h) rfl rfl rfl (Nat.le_of_ble_eq_true rfl) dX2_clearTitle_7 (fun H locs hH => ?_)
  obtain ⟨V11, eV11⟩ : ∃ V_ : Wl, V_ = up w a (t, .inr (1, [.int (iI (P 0)), .int (iI (P 1)), .ref nl, .ref sl, .ref stt, .null, .int (iI (P 4)), .int (iI (P 5)), .int (iI (P 6))])) := ⟨_, rfl⟩
  have hH := jH_eq hH eV11
  have hs12 : FR (fun T k => T = t ∧ k = 11) w V11 := by rw [eV11]; exact FR.one f1 rfl rfl
  have f13 : V11 nl = some (t, .inr (10, [.int (iI mo), .ref ar, .int (iI (P 2))])) := hs12.at f2 (k := 20) rfl (by first | exact not_false | (intro q_; simp at q_; done) | omega)
  have f14 : V11 sl = some (t, .inr (12, [.int (iI mo2), .int (iI (P 3)), va_rf (hdO (P 3) ch 0), va_rf (prO ch (P 3))])) := hs12.at f3 (k := 22) rfl (by first | exact not_false | (intro q_; simp at q_; done) | omega)
  have f15 : V11 stt = some (t, arI E 4 (sg4 P)) := hs12.at f4 (k := 0) rfl (by first | exact not_false | (intro q_; simp at q_; done) | omega)
  have p16 : AD E V11 t ar (P 2) f := AD.kp p5 hs12 (by intro T k h_; first | exact h_.elim | (obtain ⟨-, rfl⟩ := h_; simp; done) | omega)
  have p17 : TRE V11 t P f sh := TRE.kp p6 hs12 (by intro T k h_; first | exact h_.elim | (obtain ⟨-, rfl⟩ := h_; simp; done) | omega)
  have p18 : LQ V11 t (P 3) ch se := LQ.kp p7 hs12 (by intro T k h_; first | exact h_.elim | (obtain ⟨-, rfl⟩ := h_; simp; done) | omega)
  have p19 : ScO V11 P se := ScO.kp p8 hs12 (by intro T k h_; first | exact h_.elim | (obtain ⟨-, rfl⟩ := h_; simp; done) | omega)
  have p20 : titO V11 (ttlP P 0 0 0) none := Or.inl ⟨rfl, rfl⟩
  have f21 : V11 a = some (t, .inr (1, [.int (iI (P 0)), .int (iI (P 1)), .ref nl, .ref sl, .ref stt, .null, .int (iI (P 4)), .int (iI (P 5)), .int (iI (P 6))])) := by rw [eV11]; exact up_s
  have hk : FR (fun T k => T = t ∨ T = 2) w V11 := FR.tr hk hs12 (by intro T k h_; first | exact h_.elim | (obtain ⟨rfl, rfl⟩ := h_; simp; done) | omega)
  refine lv_iload_n hx hb dX2_clearTitle_10 rfl (lv_at hl 0 rfl) ?_
  exact hret V11 hH dX2_clearTitle_11 (Nat.le_of_ble_eq_true rfl) (Nat.le_of_ble_eq_true rfl) (⟨by omega, StA.mk f21 f13 p16 (TRE.ag p17 (by simp [ttlP, upz]) (fun n k h1_ h2_ h3_ h4_ => by simp only [nd, ttlP, upz]; rw [if_neg (by omega), if_neg (by omega), if_neg (by omega)])) f14 p18 (ScO.ag p19 (by simp [ttlP, upz]) (fun n k h1_ h2_ h3_ h4_ => by simp only [sc, ttlP, upz]; rw [if_neg (by omega), if_neg (by omega), if_neg (by omega)])) f15 p20 (by simp [ttlP, upz]) (by simp [ttlP, upz]) (by simp [ttlP, upz]) (by simp [ttlP, upz]) (by simp [ttlP, upz]) (by simp [ttlP, upz]) (by simp [ttlP, upz]) (sg4_ex (by simp [ttlP, upz]) (by simp [ttlP, upz]) (by simp [ttlP, upz]) (by simp [ttlP, upz])), hk⟩)
theorem cw_X2_setTitle {R : Room} {s : State} {args : Array Value} {own : String} {index lev mc ms : Nat} (hts : ∀ w ∈ lw_all, w.before args s = true) (hl : Cond.methodLink own index yX2_setTitle ∈ lw_all) (hR1 : (rmL lev mc ms).frames + 1 ≤ R.frames) (hR2 : 8 + (6 + 11) + (rmL lev mc ms).locals ≤ R.locals) : CallW R s args own RX2 index yX2_setTitle cX2_setTitle 6 (some .int) (ws_ yX2_setTitle cX2_setTitle 6 (some .int)) (rmL lev mc ms) mc ms 3 :=
  cwV 3 hts (lw_V hl q1353 q1354 q109 q1355) rfl rfl rfl (by decide +kernel) ⟨hR1, hR2⟩
set_option maxHeartbeats 4000000 in
theorem m_X2_setTitle {E : jE} (l : Launch) (w : Wl) (t : Nat) (a : Nat) (T : Int) (P : Int → Int) (f : Int → Nat) (sh : Int → Int) (x1 : Int) (y1 : Int) (n1 : Int) (h1 : PWF T P) (h2 : StA E w t a P f sh) (h3 : T ≤ 900000000) (h4 : 3 ≤ t) (h5 : (0 ≤ x1 ∧ x1 ≤ P 0 - 1) ∧ (0 ≤ y1 ∧ y1 ≤ P 1 - 1) ∧ 1 ≤ n1 ∧ n1 ≤ 40) : Met l yX2_setTitle (ws_ yX2_setTitle cX2_setTitle 6 (some .int)) (rmL 3 1 3) (va_Pc [.ref a, .int (iI x1), .int (iI y1), .int (iI n1)] (jP E w)) (jQi E (fun u : Wl => u) (fun z u => z = P 13 ∧ (StA E u t a (ttlP P x1 y1 n1) f sh) ∧ FR (fun T k => T = t ∨ T = 2) w u)) 1 3 (jA E) := by
  refine j_metI (by decide) (Nat.le_of_ble_eq_true rfl) ?_
  intro p e s m args below meth c Q hx hb hml hown hnm hts hV hH hret ls hl
  have hl : lv_has ls 6 [(0, .ref a), (1, .int (iI x1)), (2, .int (iI y1)), (3, .int (iI n1))] := hl
  have h0 := hH.1.2
  have hR0 := hH.1
  have hk : FR (fun T k => T = t ∨ T = 2) w w := FR.rf
  have hP := h1
  have hS := h2
  have hS0 := h2
  obtain ⟨nl, sl, stt, ar, tlo, mo, mo2, ch, se, ha, hnl, hAD, hT, hsl, hLQ, hSc, hst, hti⟩ := hS0
  have hA := hP.A
  have hB := hP.B
  have hC := hP.C
  have hT0 := h3
  have f1 : w a = some (t, .inr (1, [.int (iI (P 0)), .int (iI (P 1)), .ref nl, .ref sl, .ref stt, va_rf tlo, .int (iI (P 4)), .int (iI (P 5)), .int (iI (P 6))])) := ha
  have f2 : w nl = some (t, .inr (10, [.int (iI mo), .ref ar, .int (iI (P 2))])) := hnl
  have f3 : w sl = some (t, .inr (12, [.int (iI mo2), .int (iI (P 3)), va_rf (hdO (P 3) ch 0), va_rf (prO ch (P 3))])) := hsl
  have f4 : w stt = some (t, arI E 4 (sg4 P)) := hst
  have p5 : AD E w t ar (P 2) f := hAD
  have p6 : TRE w t P f sh := hT
  have p7 : LQ w t (P 3) ch se := hLQ
  have p8 : ScO w P se := hSc
  have p9 : titO w P tlo := hti
  refine lv_iload_n hx hb dX2_setTitle_0 rfl (lv_at hl 1 rfl) ?_
  refine j_i2l hx hb dX2_setTitle_1 (by omega) ?_
  refine j_lconst (z := 0) hx hb dX2_setTitle_2 (by decide +kernel) ?_
  refine lv_aload_n hx hb dX2_setTitle_3 rfl (lv_at hl 0 rfl) ?_
  refine j_get hx hb hts hown hV hH f1 rfl in_X2 0 (Nat.le_of_ble_eq_true rfl) q218 (fun _ h => h) rfl dX2_setTitle_4 ?_
  refine j_iconst hx hb dX2_setTitle_7 ?_
  refine j_isub hx hb dX2_setTitle_8 ?_
  refine j_i2l hx hb dX2_setTitle_9 (by omega) ?_
  refine j_callip (va_runSN (As := [.long (lL x1), .long (lL 0), .long (lL ((P 0) - 1))]) (rest := []) ⟨hx, hb, hml, hown, hts⟩ (m_X1_inRange l _ x1 0 ((P 0) - 1) (by omega) (by omega) (by omega)) ⟨va_cnB 3 hts (lw_meth q1033) rfl rfl rfl (hV.2.1 _ q1031 rfl) (hts _ q108) (by decide +kernel) ⟨(Nat.le_of_ble_eq_true rfl), (Nat.le_of_ble_eq_true rfl)⟩, hts _ q1032, trivial⟩ (j_preS hV hH) rfl rfl hl.1 rfl (lv_room (Nat.le_of_ble_eq_true rfl)) dX2_setTitle_10 ⟨Nat.le_of_ble_eq_true rfl, Nat.le_of_ble_eq_true rfl⟩) hH (fun H locs hH => ?_)
  refine j_ifeq_b (tgt := 36) hx hb dX2_setTitle_13 (by decide) (fun c13 => ?_) (fun c13 => ?_)
  · exact absurd (by omega) c13
  · refine lv_iload_n hx hb dX2_setTitle_16 rfl (lv_at hl 2 rfl) ?_
    refine j_i2l hx hb dX2_setTitle_17 (by omega) ?_
    refine j_lconst (z := 0) hx hb dX2_setTitle_18 (by decide +kernel) ?_
    refine lv_aload_n hx hb dX2_setTitle_19 rfl (lv_at hl 0 rfl) ?_
    refine j_get hx hb hts hown hV hH f1 rfl in_X2 1 (Nat.le_of_ble_eq_true rfl) q221 (fun _ h => h) rfl dX2_setTitle_20 ?_
    refine j_iconst hx hb dX2_setTitle_23 ?_
    refine j_isub hx hb dX2_setTitle_24 ?_
    refine j_i2l hx hb dX2_setTitle_25 (by omega) ?_
    refine j_callip (va_runSN (As := [.long (lL y1), .long (lL 0), .long (lL ((P 1) - 1))]) (rest := []) ⟨hx, hb, hml, hown, hts⟩ (m_X1_inRange l _ y1 0 ((P 1) - 1) (by omega) (by omega) (by omega)) ⟨va_cnB 3 hts (lw_meth q1033) rfl rfl rfl (hV.2.1 _ q1031 rfl) (hts _ q108) (by decide +kernel) ⟨(Nat.le_of_ble_eq_true rfl), (Nat.le_of_ble_eq_true rfl)⟩, hts _ q1032, trivial⟩ (j_preS hV hH) rfl rfl hl.1 rfl (lv_room (Nat.le_of_ble_eq_true rfl)) dX2_setTitle_26 ⟨Nat.le_of_ble_eq_true rfl, Nat.le_of_ble_eq_true rfl⟩) hH (fun H locs hH => ?_)
    refine j_ifeq_b (tgt := 36) hx hb dX2_setTitle_29 (by decide) (fun c29 => ?_) (fun c29 => ?_)
    · exact absurd (by omega) c29
    · refine j_iconst hx hb dX2_setTitle_32 ?_
      refine lv_goto (tgt := 37) hx hb dX2_setTitle_33 (by decide) ?_
      refine j_istore (lv' := fun x10 => [(4, .int (iI x10)), (0, .ref a), (1, .int (iI x1)), (2, .int (iI y1)), (3, .int (iI n1))]) hx hb dX2_setTitle_37 hl (by decide) (fun _ => rfl) (fun x10 ex10 ls hl => ?_)
      refine lv_iload hx hb dX2_setTitle_39 (lv_at hl 0 rfl) ?_
      refine j_if_eq (tgt := 60) hx hb dX2_setTitle_41 (by decide) (by omega) (fun c41 => ?_) (fun c41 => ?_)
      · exact absurd c41 (by omega)
      · refine lv_iload_n hx hb dX2_setTitle_44 rfl (lv_at hl 4 rfl) ?_
        refine j_i2l hx hb dX2_setTitle_45 (by omega) ?_
        refine j_lconst (z := 1) hx hb dX2_setTitle_46 (by decide +kernel) ?_
        refine j_ldc2 (z := 40) hx hb hts hown q1356 dX2_setTitle_47 (by decide +kernel) ?_
        refine j_callip (va_runSN (As := [.long (lL n1), .long (lL 1), .long (lL 40)]) (rest := []) ⟨hx, hb, hml, hown, hts⟩ (m_X1_inRange l _ n1 1 40 (by omega) (by omega) (by omega)) ⟨va_cnB 3 hts (lw_meth q1033) rfl rfl rfl (hV.2.1 _ q1031 rfl) (hts _ q108) (by decide +kernel) ⟨(Nat.le_of_ble_eq_true rfl), (Nat.le_of_ble_eq_true rfl)⟩, hts _ q1032, trivial⟩ (j_preS hV hH) rfl rfl hl.1 rfl (lv_room (Nat.le_of_ble_eq_true rfl)) dX2_setTitle_50 ⟨Nat.le_of_ble_eq_true rfl, Nat.le_of_ble_eq_true rfl⟩) hH (fun H locs hH => ?_)
        refine j_ifeq_b (tgt := 60) hx hb dX2_setTitle_53 (by decide) (fun c53 => ?_) (fun c53 => ?_)
        · exact absurd (by omega) c53
        · refine j_iconst hx hb dX2_setTitle_56 ?_
          refine lv_goto (tgt := 61) hx hb dX2_setTitle_57 (by decide) ?_
          refine va_ldcS hx hb hown (hV.2.2.2.2.2.1 _ (List.mem_of_getElem? (i := 34) rfl)) dX2_setTitle_61 ?_
          refine j_callvp (va_runSN (As := [.int (iI (bI True)), .ref (E.2.2.2 (1 + 10))]) (rest := []) ⟨hx, hb, hml, hown, hts⟩ (m_X1_requireArgument l _ True (E.2.2.2 (1 + 10)) (trivial)) ⟨va_cnB 2 hts (lw_meth q1238) rfl rfl rfl (hV.2.1 _ q1270 rfl) (hts _ q108) (by decide +kernel) ⟨(Nat.le_of_ble_eq_true rfl), (Nat.le_of_ble_eq_true rfl)⟩, hts _ q1237, trivial⟩ (j_preS hV hH) rfl rfl hl.1 (by simp only [bI_T, bI_F]; rfl) (lv_room (Nat.le_of_ble_eq_true rfl)) dX2_setTitle_63 ⟨Nat.le_of_ble_eq_true rfl, Nat.le_of_ble_eq_true rfl⟩) hH (fun H locs hH => ?_)
          refine lv_aload_n hx hb dX2_setTitle_66 rfl (lv_at hl 1 rfl) ?_
          refine j_callip (va_runV (As := []) (rest := []) ⟨hx, hb, hml, hown, hts⟩ (m_X2_titleLength l _ t a _ _ _ _ (hP) (⟨nl, sl, stt, ar, tlo, mo, mo2, _, _, f1, f2, p5, p6, f3, p7, p8, f4, p9⟩) (by omega)) (cw_X2_titleLength hts q938 (Nat.le_of_ble_eq_true rfl) (Nat.le_of_ble_eq_true rfl)) (j_preV hV hH f1 rfl) rfl rfl hl.1 rfl (lv_room (Nat.le_of_ble_eq_true rfl)) dX2_setTitle_67 ⟨Nat.le_of_ble_eq_true rfl, Nat.le_of_ble_eq_true rfl⟩) hH (fun H locs hH => ?_)
          refine j_istore (lv' := fun x11 => [(5, .int (iI x11)), (4, .int (iI x10)), (0, .ref a), (1, .int (iI x1)), (2, .int (iI y1)), (3, .int (iI n1))]) hx hb dX2_setTitle_70 hl (by decide) (fun _ => rfl) (fun x11 ex11 ls hl => ?_)
          refine lv_aload_n hx hb dX2_setTitle_72 rfl (lv_at hl 2 rfl) ?_
          refine j_new (ci := 6) hx hb hts hown hV hH rfl in_X8 tyX8 tyX8_ok q1358 q1359 q145 [.int (iI 0), .int (iI 0), .int (iI 0)] (fun j hj => by rcases j with _ | _ | _ | j <;> first | rfl | omega) (Nat.le_of_ble_eq_true rfl) (Nat.le_of_ble_eq_true rfl) dX2_setTitle_73 (fun r73 H er73 zr73 nr73 hH => ?_)
          have hH := hH 1
          obtain ⟨V12, eV12⟩ : ∃ V_ : Wl, V_ = up w r73 (1, .inr (6, [.int (iI 0), .int (iI 0), .int (iI 0)])) := ⟨_, rfl⟩
          have hH := jH_eq hH eV12
          have nwr73 : w r73 = none := hk.non_ nr73
          have hs13 : FR (fun _ _ => False) w V12 := by rw [eV12]; exact FR.new1 nr73
          have f14 : V12 a = some (t, .inr (1, [.int (iI (P 0)), .int (iI (P 1)), .ref nl, .ref sl, .ref stt, va_rf tlo, .int (iI (P 4)), .int (iI (P 5)), .int (iI (P 6))])) := hs13.at f1 (k := 11) rfl (by first | exact not_false | (intro q_; simp at q_; done) | omega)
          have f15 : V12 nl = some (t, .inr (10, [.int (iI mo), .ref ar, .int (iI (P 2))])) := hs13.at f2 (k := 20) rfl (by first | exact not_false | (intro q_; simp at q_; done) | omega)
          have f16 : V12 sl = some (t, .inr (12, [.int (iI mo2), .int (iI (P 3)), va_rf (hdO (P 3) ch 0), va_rf (prO ch (P 3))])) := hs13.at f3 (k := 22) rfl (by first | exact not_false | (intro q_; simp at q_; done) | omega)
          have f17 : V12 stt = some (t, arI E 4 (sg4 P)) := hs13.at f4 (k := 0) rfl (by first | exact not_false | (intro q_; simp at q_; done) | omega)
          have p18 : AD E V12 t ar (P 2) f := AD.kp p5 hs13 (by intro T k h_; first | exact h_.elim | (obtain ⟨-, rfl⟩ := h_; simp; done) | omega)
          have p19 : TRE V12 t P f sh := TRE.kp p6 hs13 (by intro T k h_; first | exact h_.elim | (obtain ⟨-, rfl⟩ := h_; simp; done) | omega)
          have p20 : LQ V12 t (P 3) ch se := LQ.kp p7 hs13 (by intro T k h_; first | exact h_.elim | (obtain ⟨-, rfl⟩ := h_; simp; done) | omega)
          have p21 : ScO V12 P se := ScO.kp p8 hs13 (by intro T k h_; first | exact h_.elim | (obtain ⟨-, rfl⟩ := h_; simp; done) | omega)
          have p22 : titO V12 P tlo := titO.kp p9 hs13 (by intro T k h_; first | exact h_.elim | (obtain ⟨-, rfl⟩ := h_; simp; done) | omega)
          have f23 : V12 r73 = some (1, .inr (6, [.int (iI 0), .int (iI 0), .int (iI 0)])) := by rw [eV12]; exact up_s
          have hk : FR (fun T k => T = t ∨ T = 2) w V12 := FR.tr hk hs13 (by intro T k h_; exact h_.elim)
          refine lv_dup hx hb dX2_setTitle_76 rfl ?_
          refine lv_iload_n hx hb dX2_setTitle_77 rfl (lv_at hl 3 rfl) ?_
          refine lv_iload_n hx hb dX2_setTitle_78 rfl (lv_at hl 4 rfl) ?_
          refine lv_iload_n hx hb dX2_setTitle_79 rfl (lv_at hl 5 rfl) ?_
          refine j_callvp (va_runI (As := [.int (iI x1), .int (iI y1), .int (iI n1)]) (rest := [.ref r73, .ref a]) ⟨hx, hb, hml, hown, hts⟩ (m_X8_init_w l _ _ _ _ _ _ x1 y1 n1 (f23)) (cw_X8_init hts q1360 (Nat.le_of_ble_eq_true rfl) (Nat.le_of_ble_eq_true rfl)) (j_preS hV hH) rfl rfl hl.1 rfl (lv_room (Nat.le_of_ble_eq_true rfl)) dX2_setTitle_80 ⟨Nat.le_of_ble_eq_true rfl, Nat.le_of_ble_eq_true rfl⟩) hH (fun H locs hH => ?_)
          obtain ⟨V24, eV24⟩ : ∃ V_ : Wl, V_ = up V12 r73 (1, .inr (6, [.int (iI x1), .int (iI y1), .int (iI n1)])) := ⟨_, rfl⟩
          have hH := jH_eq hH eV24
          have hs25 : FR (fun T k => T = 1 ∧ k = 16) V12 V24 := by rw [eV24]; exact FR.one f23 rfl rfl
          have f26 : V24 a = some (t, .inr (1, [.int (iI (P 0)), .int (iI (P 1)), .ref nl, .ref sl, .ref stt, va_rf tlo, .int (iI (P 4)), .int (iI (P 5)), .int (iI (P 6))])) := hs25.at f14 (k := 11) rfl (by first | exact not_false | (intro q_; simp at q_; done) | omega)
          have f27 : V24 nl = some (t, .inr (10, [.int (iI mo), .ref ar, .int (iI (P 2))])) := hs25.at f15 (k := 20) rfl (by first | exact not_false | (intro q_; simp at q_; done) | omega)
          have f28 : V24 sl = some (t, .inr (12, [.int (iI mo2), .int (iI (P 3)), va_rf (hdO (P 3) ch 0), va_rf (prO ch (P 3))])) := hs25.at f16 (k := 22) rfl (by first | exact not_false | (intro q_; simp at q_; done) | omega)
          have f29 : V24 stt = some (t, arI E 4 (sg4 P)) := hs25.at f17 (k := 0) rfl (by first | exact not_false | (intro q_; simp at q_; done) | omega)
          have p30 : AD E V24 t ar (P 2) f := AD.kp p18 hs25 (by intro T k h_; first | exact h_.elim | (obtain ⟨-, rfl⟩ := h_; simp; done) | omega)
          have p31 : TRE V24 t P f sh := TRE.kp p19 hs25 (by intro T k h_; first | exact h_.elim | (obtain ⟨-, rfl⟩ := h_; simp; done) | omega)
          have p32 : LQ V24 t (P 3) ch se := LQ.kp p20 hs25 (by intro T k h_; first | exact h_.elim | (obtain ⟨-, rfl⟩ := h_; simp; done) | omega)
          have p33 : ScO V24 P se := ScO.kp p21 hs25 (by intro T k h_; first | exact h_.elim | (obtain ⟨-, rfl⟩ := h_; simp; done) | omega)
          have f34 : V24 r73 = some (1, .inr (6, [.int (iI x1), .int (iI y1), .int (iI n1)])) := by rw [eV24]; exact up_s
          have hk : FR (fun T k => T = t ∨ T = 2) w V24 := by rw [eV24]; exact FR.putF hk nwr73
          refine j_put hx hb hts hown hV hH f26 rfl in_X2 tyX2 tyX2_ok nmX2 5 (Nat.le_of_ble_eq_true rfl) q234 (fun _ h => h) rfl rfl rfl (Nat.le_of_ble_eq_true rfl) dX2_setTitle_83 (fun H locs hH => ?_)
          obtain ⟨V35, eV35⟩ : ∃ V_ : Wl, V_ = up V24 a (t, .inr (1, [.int (iI (P 0)), .int (iI (P 1)), .ref nl, .ref sl, .ref stt, .ref r73, .int (iI (P 4)), .int (iI (P 5)), .int (iI (P 6))])) := ⟨_, rfl⟩
          have hH := jH_eq hH eV35
          have hs36 : FR (fun T k => T = t ∧ k = 11) V24 V35 := by rw [eV35]; exact FR.one f26 rfl rfl
          have f37 : V35 nl = some (t, .inr (10, [.int (iI mo), .ref ar, .int (iI (P 2))])) := hs36.at f27 (k := 20) rfl (by first | exact not_false | (intro q_; simp at q_; done) | omega)
          have f38 : V35 sl = some (t, .inr (12, [.int (iI mo2), .int (iI (P 3)), va_rf (hdO (P 3) ch 0), va_rf (prO ch (P 3))])) := hs36.at f28 (k := 22) rfl (by first | exact not_false | (intro q_; simp at q_; done) | omega)
          have f39 : V35 stt = some (t, arI E 4 (sg4 P)) := hs36.at f29 (k := 0) rfl (by first | exact not_false | (intro q_; simp at q_; done) | omega)
          have f40 : V35 r73 = some (1, .inr (6, [.int (iI x1), .int (iI y1), .int (iI n1)])) := hs36.at f34 (k := 16) rfl (by first | exact not_false | (intro q_; simp at q_; done) | omega)
          have p41 : AD E V35 t ar (P 2) f := AD.kp p30 hs36 (by intro T k h_; first | exact h_.elim | (obtain ⟨-, rfl⟩ := h_; simp; done) | omega)
          have p42 : TRE V35 t P f sh := TRE.kp p31 hs36 (by intro T k h_; first | exact h_.elim | (obtain ⟨-, rfl⟩ := h_; simp; done) | omega)
          have p43 : LQ V35 t (P 3) ch se := LQ.kp p32 hs36 (by intro T k h_; first | exact h_.elim | (obtain ⟨-, rfl⟩ := h_; simp; done) | omega)
          have p44 : ScO V35 P se := ScO.kp p33 hs36 (by intro T k h_; first | exact h_.elim | (obtain ⟨-, rfl⟩ := h_; simp; done) | omega)
          have f45 : V35 a = some (t, .inr (1, [.int (iI (P 0)), .int (iI (P 1)), .ref nl, .ref sl, .ref stt, .ref r73, .int (iI (P 4)), .int (iI (P 5)), .int (iI (P 6))])) := by rw [eV35]; exact up_s
          have hk : FR (fun T k => T = t ∨ T = 2) w V35 := FR.tr hk hs36 (by intro T k h_; first | exact h_.elim | (obtain ⟨rfl, rfl⟩ := h_; simp; done) | omega)
          have p46 : titO V35 (ttlP P x1 y1 n1) (some r73) := Or.inr ⟨by show 0 < n1; omega, r73, rfl, f40⟩
          refine lv_iload hx hb dX2_setTitle_86 (lv_at hl 0 rfl) ?_
          exact hret V35 hH dX2_setTitle_88 (Nat.le_of_ble_eq_true rfl) (Nat.le_of_ble_eq_true rfl) (⟨by omega, StA.mk f45 f37 p41 (TRE.ag p42 (by simp [ttlP, upz]) (fun n k h1_ h2_ h3_ h4_ => by simp only [nd, ttlP, upz]; rw [if_neg (by omega), if_neg (by omega), if_neg (by omega)])) f38 p43 (ScO.ag p44 (by simp [ttlP, upz]) (fun n k h1_ h2_ h3_ h4_ => by simp only [sc, ttlP, upz]; rw [if_neg (by omega), if_neg (by omega), if_neg (by omega)])) f39 p46 (by simp [ttlP, upz]) (by simp [ttlP, upz]) (by simp [ttlP, upz]) (by simp [ttlP, upz]) (by simp [ttlP, upz]) (by simp [ttlP, upz]) (by simp [ttlP, upz]) (sg4_ex (by simp [ttlP, upz]) (by simp [ttlP, upz]) (by simp [ttlP, upz]) (by simp [ttlP, upz])), hk⟩)
theorem cw_X2_addScene {R : Room} {s : State} {args : Array Value} {own : String} {index lev mc ms : Nat} (hts : ∀ w ∈ lw_all, w.before args s = true) (hl : Cond.methodLink own index yX2_addScene ∈ lw_all) (hR1 : (rmL lev mc ms).frames + 1 ≤ R.frames) (hR2 : 8 + (4 + 11) + (rmL lev mc ms).locals ≤ R.locals) : CallW R s args own RX2 index yX2_addScene cX2_addScene 4 (some .int) (ws_ yX2_addScene cX2_addScene 4 (some .int)) (rmL lev mc ms) mc ms 3 :=
  cwV 3 hts (lw_V hl q1308 q1309 q109 q1310) rfl rfl rfl (by decide +kernel) ⟨hR1, hR2⟩
set_option maxHeartbeats 4000000 in
theorem m_X2_addScene {E : jE} (l : Launch) (w : Wl) (t : Nat) (a : Nat) (T : Int) (P : Int → Int) (f : Int → Nat) (sh : Int → Int) (a1 : Int) (b1 : Int) (n1 : Int) (h1 : PWF T P) (h2 : StA E w t a P f sh) (h3 : T ≤ 900000000) (h4 : 3 ≤ t) (h5 : (-20 ≤ a1 ∧ a1 ≤ 0) ∧ (0 ≤ b1 ∧ b1 ≤ 20) ∧ 1 ≤ n1 ∧ n1 ≤ 50) (h6 : P 3 < 8) : Met l yX2_addScene (ws_ yX2_addScene cX2_addScene 4 (some .int)) (rmL 6 2 6) (va_Pc [.ref a, .int (iI a1), .int (iI b1), .int (iI n1)] (jP E w)) (jQi E (fun u : Wl => u) (fun z u => z = P 3 ∧ (StA E u t a (scnP P a1 b1 n1) f sh) ∧ FR (fun T k => T = t ∨ T = 2) w u)) 2 6 (jA E) := by
  refine j_metI (by decide) (Nat.le_of_ble_eq_true rfl) ?_
  intro p e s m args below meth c Q hx hb hml hown hnm hts hV hH hret ls hl
  have hl : lv_has ls 4 [(0, .ref a), (1, .int (iI a1)), (2, .int (iI b1)), (3, .int (iI n1))] := hl
  have h0 := hH.1.2
  have hR0 := hH.1
  have hk : FR (fun T k => T = t ∨ T = 2) w w := FR.rf
  have hP := h1
  have hS := h2
  have hS0 := h2
  obtain ⟨nl, sl, stt, ar, tlo, mo, mo2, ch, se, ha, hnl, hAD, hT, hsl, hLQ, hSc, hst, hti⟩ := hS0
  have hA := hP.A
  have hB := hP.B
  have hC := hP.C
  have hT0 := h3
  have f1 : w a = some (t, .inr (1, [.int (iI (P 0)), .int (iI (P 1)), .ref nl, .ref sl, .ref stt, va_rf tlo, .int (iI (P 4)), .int (iI (P 5)), .int (iI (P 6))])) := ha
  have f2 : w nl = some (t, .inr (10, [.int (iI mo), .ref ar, .int (iI (P 2))])) := hnl
  have f3 : w sl = some (t, .inr (12, [.int (iI mo2), .int (iI (P 3)), va_rf (hdO (P 3) ch 0), va_rf (prO ch (P 3))])) := hsl
  have f4 : w stt = some (t, arI E 4 (sg4 P)) := hst
  have p5 : AD E w t ar (P 2) f := hAD
  have p6 : TRE w t P f sh := hT
  have p7 : LQ w t (P 3) ch se := hLQ
  have p8 : ScO w P se := hSc
  have p9 : titO w P tlo := hti
  refine lv_iload_n hx hb dX2_addScene_0 rfl (lv_at hl 1 rfl) ?_
  refine lv_iload_n hx hb dX2_addScene_1 rfl (lv_at hl 2 rfl) ?_
  refine j_callip (va_runSN (As := [.int (iI a1), .int (iI b1)]) (rest := []) ⟨hx, hb, hml, hown, hts⟩ (m_X1_isBudget l _ a1 b1 (by omega) (by omega)) ⟨va_cnB 2 hts (lw_meth q1313) rfl rfl rfl (hV.2.1 _ q1311 rfl) (hts _ q108) (by decide +kernel) ⟨(Nat.le_of_ble_eq_true rfl), (Nat.le_of_ble_eq_true rfl)⟩, hts _ q1312, trivial⟩ (j_preS hV hH) rfl rfl hl.1 rfl (lv_room (Nat.le_of_ble_eq_true rfl)) dX2_addScene_2 ⟨Nat.le_of_ble_eq_true rfl, Nat.le_of_ble_eq_true rfl⟩) hH (fun H locs hH => ?_)
  refine j_ifeq_b (tgt := 24) hx hb dX2_addScene_5 (by decide) (fun c5 => ?_) (fun c5 => ?_)
  · exact absurd (by omega) c5
  · refine lv_iload_n hx hb dX2_addScene_8 rfl (lv_at hl 3 rfl) ?_
    refine j_i2l hx hb dX2_addScene_9 (by omega) ?_
    refine j_lconst (z := 1) hx hb dX2_addScene_10 (by decide +kernel) ?_
    refine j_ldc2 (z := 50) hx hb hts hown q1315 dX2_addScene_11 (by decide +kernel) ?_
    refine j_callip (va_runSN (As := [.long (lL n1), .long (lL 1), .long (lL 50)]) (rest := []) ⟨hx, hb, hml, hown, hts⟩ (m_X1_inRange l _ n1 1 50 (by omega) (by omega) (by omega)) ⟨va_cnB 3 hts (lw_meth q1033) rfl rfl rfl (hV.2.1 _ q1031 rfl) (hts _ q108) (by decide +kernel) ⟨(Nat.le_of_ble_eq_true rfl), (Nat.le_of_ble_eq_true rfl)⟩, hts _ q1032, trivial⟩ (j_preS hV hH) rfl rfl hl.1 rfl (lv_room (Nat.le_of_ble_eq_true rfl)) dX2_addScene_14 ⟨Nat.le_of_ble_eq_true rfl, Nat.le_of_ble_eq_true rfl⟩) hH (fun H locs hH => ?_)
    refine j_ifeq_b (tgt := 24) hx hb dX2_addScene_17 (by decide) (fun c17 => ?_) (fun c17 => ?_)
    · exact absurd (by omega) c17
    · refine j_iconst hx hb dX2_addScene_20 ?_
      refine lv_goto (tgt := 25) hx hb dX2_addScene_21 (by decide) ?_
      refine va_ldcS hx hb hown (hV.2.2.2.2.2.1 _ (List.mem_of_getElem? (i := 32) rfl)) dX2_addScene_25 ?_
      refine j_callvp (va_runSN (As := [.int (iI (bI True)), .ref (E.2.2.2 (1 + 9))]) (rest := []) ⟨hx, hb, hml, hown, hts⟩ (m_X1_requireArgument l _ True (E.2.2.2 (1 + 9)) (trivial)) ⟨va_cnB 2 hts (lw_meth q1238) rfl rfl rfl (hV.2.1 _ q1270 rfl) (hts _ q108) (by decide +kernel) ⟨(Nat.le_of_ble_eq_true rfl), (Nat.le_of_ble_eq_true rfl)⟩, hts _ q1237, trivial⟩ (j_preS hV hH) rfl rfl hl.1 (by simp only [bI_T, bI_F]; rfl) (lv_room (Nat.le_of_ble_eq_true rfl)) dX2_addScene_27 ⟨Nat.le_of_ble_eq_true rfl, Nat.le_of_ble_eq_true rfl⟩) hH (fun H locs hH => ?_)
      refine lv_aload_n hx hb dX2_addScene_30 rfl (lv_at hl 0 rfl) ?_
      refine j_get hx hb hts hown hV hH f1 rfl in_X2 3 (Nat.le_of_ble_eq_true rfl) q227 (fun _ h => h) rfl dX2_addScene_31 ?_
      refine j_callip (va_runV (As := []) (rest := []) ⟨hx, hb, hml, hown, hts⟩ (m_J4_size l _ sl t mo2 (P 3) (hdO (P 3) ch 0) (prO ch (P 3)) (f3)) (cw_J4_size hts q1317 (Nat.le_of_ble_eq_true rfl) (Nat.le_of_ble_eq_true rfl)) (j_preV hV hH f3 rfl) rfl rfl hl.1 rfl (lv_room (Nat.le_of_ble_eq_true rfl)) dX2_addScene_34 ⟨Nat.le_of_ble_eq_true rfl, Nat.le_of_ble_eq_true rfl⟩) hH (fun H locs hH => ?_)
      refine j_bipush hx hb dX2_addScene_37 (by decide) ?_
      refine j_icmp_ge (tgt := 46) hx hb dX2_addScene_39 (by decide) (by omega) (by omega) (fun c39 => ?_) (fun c39 => ?_)
      · exact absurd c39 (by omega)
      · refine j_iconst hx hb dX2_addScene_42 ?_
        refine lv_goto (tgt := 47) hx hb dX2_addScene_43 (by decide) ?_
        refine va_ldcS hx hb hown (hV.2.2.2.2.2.1 _ (List.mem_of_getElem? (i := 33) rfl)) dX2_addScene_47 ?_
        refine j_callvp (va_runSN (As := [.int (iI (bI True)), .ref (E.2.2.2 (1 + 28))]) (rest := []) ⟨hx, hb, hml, hown, hts⟩ (m_X1_requireState l _ True (E.2.2.2 (1 + 28)) (trivial)) ⟨va_cnB 2 hts (lw_meth q1293) rfl rfl rfl (hV.2.1 _ q1291 rfl) (hts _ q108) (by decide +kernel) ⟨(Nat.le_of_ble_eq_true rfl), (Nat.le_of_ble_eq_true rfl)⟩, hts _ q1292, trivial⟩ (j_preS hV hH) rfl rfl hl.1 (by simp only [bI_T, bI_F]; rfl) (lv_room (Nat.le_of_ble_eq_true rfl)) dX2_addScene_49 ⟨Nat.le_of_ble_eq_true rfl, Nat.le_of_ble_eq_true rfl⟩) hH (fun H locs hH => ?_)
        refine lv_aload_n hx hb dX2_addScene_52 rfl (lv_at hl 0 rfl) ?_
        refine j_get hx hb hts hown hV hH f1 rfl in_X2 3 (Nat.le_of_ble_eq_true rfl) q227 (fun _ h => h) rfl dX2_addScene_53 ?_
        refine j_new (ci := 5) hx hb hts hown hV hH rfl in_X7 tyX7 tyX7_ok q1322 q1323 q144 [.int (iI 0), .int (iI 0), .int (iI 0)] (fun j hj => by rcases j with _ | _ | _ | j <;> first | rfl | omega) (Nat.le_of_ble_eq_true rfl) (Nat.le_of_ble_eq_true rfl) dX2_addScene_56 (fun r56 H er56 zr56 nr56 hH => ?_)
        have hH := hH 1
        obtain ⟨V10, eV10⟩ : ∃ V_ : Wl, V_ = up w r56 (1, .inr (5, [.int (iI 0), .int (iI 0), .int (iI 0)])) := ⟨_, rfl⟩
        have hH := jH_eq hH eV10
        have nwr56 : w r56 = none := hk.non_ nr56
        have hs11 : FR (fun _ _ => False) w V10 := by rw [eV10]; exact FR.new1 nr56
        have f12 : V10 a = some (t, .inr (1, [.int (iI (P 0)), .int (iI (P 1)), .ref nl, .ref sl, .ref stt, va_rf tlo, .int (iI (P 4)), .int (iI (P 5)), .int (iI (P 6))])) := hs11.at f1 (k := 11) rfl (by first | exact not_false | (intro q_; simp at q_; done) | omega)
        have f13 : V10 nl = some (t, .inr (10, [.int (iI mo), .ref ar, .int (iI (P 2))])) := hs11.at f2 (k := 20) rfl (by first | exact not_false | (intro q_; simp at q_; done) | omega)
        have f14 : V10 sl = some (t, .inr (12, [.int (iI mo2), .int (iI (P 3)), va_rf (hdO (P 3) ch 0), va_rf (prO ch (P 3))])) := hs11.at f3 (k := 22) rfl (by first | exact not_false | (intro q_; simp at q_; done) | omega)
        have f15 : V10 stt = some (t, arI E 4 (sg4 P)) := hs11.at f4 (k := 0) rfl (by first | exact not_false | (intro q_; simp at q_; done) | omega)
        have p16 : AD E V10 t ar (P 2) f := AD.kp p5 hs11 (by intro T k h_; first | exact h_.elim | (obtain ⟨-, rfl⟩ := h_; simp; done) | omega)
        have p17 : TRE V10 t P f sh := TRE.kp p6 hs11 (by intro T k h_; first | exact h_.elim | (obtain ⟨-, rfl⟩ := h_; simp; done) | omega)
        have p18 : LQ V10 t (P 3) ch se := LQ.kp p7 hs11 (by intro T k h_; first | exact h_.elim | (obtain ⟨-, rfl⟩ := h_; simp; done) | omega)
        have p19 : ScO V10 P se := ScO.kp p8 hs11 (by intro T k h_; first | exact h_.elim | (obtain ⟨-, rfl⟩ := h_; simp; done) | omega)
        have p20 : titO V10 P tlo := titO.kp p9 hs11 (by intro T k h_; first | exact h_.elim | (obtain ⟨-, rfl⟩ := h_; simp; done) | omega)
        have f21 : V10 r56 = some (1, .inr (5, [.int (iI 0), .int (iI 0), .int (iI 0)])) := by rw [eV10]; exact up_s
        have hk : FR (fun T k => T = t ∨ T = 2) w V10 := FR.tr hk hs11 (by intro T k h_; exact h_.elim)
        refine lv_dup hx hb dX2_addScene_59 rfl ?_
        refine lv_iload_n hx hb dX2_addScene_60 rfl (lv_at hl 1 rfl) ?_
        refine lv_iload_n hx hb dX2_addScene_61 rfl (lv_at hl 2 rfl) ?_
        refine lv_iload_n hx hb dX2_addScene_62 rfl (lv_at hl 3 rfl) ?_
        refine j_callvp (va_runI (As := [.int (iI a1), .int (iI b1), .int (iI n1)]) (rest := [.ref r56, .ref sl]) ⟨hx, hb, hml, hown, hts⟩ (m_X7_init_w l _ _ _ _ _ _ a1 b1 n1 (f21)) (cw_X7_init hts q1324 (Nat.le_of_ble_eq_true rfl) (Nat.le_of_ble_eq_true rfl)) (j_preS hV hH) rfl rfl hl.1 rfl (lv_room (Nat.le_of_ble_eq_true rfl)) dX2_addScene_63 ⟨Nat.le_of_ble_eq_true rfl, Nat.le_of_ble_eq_true rfl⟩) hH (fun H locs hH => ?_)
        obtain ⟨V22, eV22⟩ : ∃ V_ : Wl, V_ = up V10 r56 (1, .inr (5, [.int (iI a1), .int (iI b1), .int (iI n1)])) := ⟨_, rfl⟩
        have hH := jH_eq hH eV22
        have hs23 : FR (fun T k => T = 1 ∧ k = 15) V10 V22 := by rw [eV22]; exact FR.one f21 rfl rfl
        have f24 : V22 a = some (t, .inr (1, [.int (iI (P 0)), .int (iI (P 1)), .ref nl, .ref sl, .ref stt, va_rf tlo, .int (iI (P 4)), .int (iI (P 5)), .int (iI (P 6))])) := hs23.at f12 (k := 11) rfl (by first | exact not_false | (intro q_; simp at q_; done) | omega)
        have f25 : V22 nl = some (t, .inr (10, [.int (iI mo), .ref ar, .int (iI (P 2))])) := hs23.at f13 (k := 20) rfl (by first | exact not_false | (intro q_; simp at q_; done) | omega)
        have f26 : V22 sl = some (t, .inr (12, [.int (iI mo2), .int (iI (P 3)), va_rf (hdO (P 3) ch 0), va_rf (prO ch (P 3))])) := hs23.at f14 (k := 22) rfl (by first | exact not_false | (intro q_; simp at q_; done) | omega)
        have f27 : V22 stt = some (t, arI E 4 (sg4 P)) := hs23.at f15 (k := 0) rfl (by first | exact not_false | (intro q_; simp at q_; done) | omega)
        have p28 : AD E V22 t ar (P 2) f := AD.kp p16 hs23 (by intro T k h_; first | exact h_.elim | (obtain ⟨-, rfl⟩ := h_; simp; done) | omega)
        have p29 : TRE V22 t P f sh := TRE.kp p17 hs23 (by intro T k h_; first | exact h_.elim | (obtain ⟨-, rfl⟩ := h_; simp; done) | omega)
        have p30 : LQ V22 t (P 3) ch se := LQ.kp p18 hs23 (by intro T k h_; first | exact h_.elim | (obtain ⟨-, rfl⟩ := h_; simp; done) | omega)
        have p31 : ScO V22 P se := ScO.off p19 (fun s p q => ne_fr (hSc s p q) nr56) eV22
        have p32 : titO V22 P tlo := titO.kp p20 hs23 (by intro T k h_; first | exact h_.elim | (obtain ⟨-, rfl⟩ := h_; simp; done) | omega)
        have f33 : V22 r56 = some (1, .inr (5, [.int (iI a1), .int (iI b1), .int (iI n1)])) := by rw [eV22]; exact up_s
        have hk : FR (fun T k => T = t ∨ T = 2) w V22 := by rw [eV22]; exact FR.putF hk nwr56
        have p34 : OB V22 r56 := OB.of f33 (by omega)
        refine j_callv (va_runV (As := [.ref r56]) (rest := []) ⟨hx, hb, hml, hown, hts⟩ (m_J4_addLast l V22 sl t mo2 (P 3) _ _ r56 (f26) (p30) (p34) (by omega)) (cw_J4_addLast hts q1344 (Nat.le_of_ble_eq_true rfl) (Nat.le_of_ble_eq_true rfl)) (j_preV hV hH f26 rfl) rfl rfl hl.1 rfl (lv_room (Nat.le_of_ble_eq_true rfl)) dX2_addScene_66 ⟨Nat.le_of_ble_eq_true rfl, Nat.le_of_ble_eq_true rfl⟩) hH (fun U35 H locs hp hH => ?_)
        obtain ⟨ch237, f38, p39, hs36⟩ := hp
        have f40 : U35 a = some (t, .inr (1, [.int (iI (P 0)), .int (iI (P 1)), .ref nl, .ref sl, .ref stt, va_rf tlo, .int (iI (P 4)), .int (iI (P 5)), .int (iI (P 6))])) := hs36.at f24 (k := 11) rfl (by first | exact not_false | (intro q_; simp at q_; done) | omega)
        have f41 : U35 nl = some (t, .inr (10, [.int (iI mo), .ref ar, .int (iI (P 2))])) := hs36.at f25 (k := 20) rfl (by first | exact not_false | (intro q_; simp at q_; done) | omega)
        have f42 : U35 stt = some (t, arI E 4 (sg4 P)) := hs36.at f27 (k := 0) rfl (by first | exact not_false | (intro q_; simp at q_; done) | omega)
        have f43 : U35 r56 = some (1, .inr (5, [.int (iI a1), .int (iI b1), .int (iI n1)])) := hs36.at f33 (k := 15) rfl (by first | exact not_false | (intro q_; simp at q_; done) | omega)
        have p44 : AD E U35 t ar (P 2) f := AD.kp p28 hs36 (by intro T k h_; first | exact h_.elim | (obtain ⟨-, rfl⟩ := h_; simp; done) | omega)
        have p45 : TRE U35 t P f sh := TRE.kp p29 hs36 (by intro T k h_; first | exact h_.elim | (obtain ⟨-, rfl⟩ := h_; simp; done) | omega)
        have p46 : ScO U35 P se := ScO.kp p31 hs36 (by intro T k h_; first | exact h_.elim | (obtain ⟨-, rfl⟩ := h_; simp; done) | omega)
        have p47 : titO U35 P tlo := titO.kp p32 hs36 (by intro T k h_; first | exact h_.elim | (obtain ⟨-, rfl⟩ := h_; simp; done) | omega)
        have p48 : OB U35 r56 := OB.kp p34 hs36
        have hk : FR (fun T k => T = t ∨ T = 2) w U35 := FR.tr hk hs36 (by intro T k h_; first | exact h_.elim | (obtain ⟨rfl, rfl⟩ := h_; simp; done) | omega)
        refine lv_aload_n hx hb dX2_addScene_69 rfl (lv_at hl 0 rfl) ?_
        refine j_get hx hb hts hown hV hH f40 rfl in_X2 3 (Nat.le_of_ble_eq_true rfl) q227 (fun _ h => h) rfl dX2_addScene_70 ?_
        refine j_callip (va_runV (As := []) (rest := []) ⟨hx, hb, hml, hown, hts⟩ (m_J4_size l _ sl t (mo2 + 1) ((P 3) + 1) (hdO ((P 3) + 1) ch237 0) (prO ch237 ((P 3) + 1)) (f38)) (cw_J4_size hts q1317 (Nat.le_of_ble_eq_true rfl) (Nat.le_of_ble_eq_true rfl)) (j_preV hV hH f38 rfl) rfl rfl hl.1 rfl (lv_room (Nat.le_of_ble_eq_true rfl)) dX2_addScene_73 ⟨Nat.le_of_ble_eq_true rfl, Nat.le_of_ble_eq_true rfl⟩) hH (fun H locs hH => ?_)
        refine j_iconst hx hb dX2_addScene_76 ?_
        refine j_isub hx hb dX2_addScene_77 ?_
        exact hret U35 hH dX2_addScene_78 (Nat.le_of_ble_eq_true rfl) (Nat.le_of_ble_eq_true rfl) (⟨by omega, StA.mk f40 f41 p44 (TRE.ag p45 (scnP_u (by omega) (by omega) (by omega)) (fun n k h1_ h2_ h3_ h4_ => (scnP_u (by omega) (by omega) (by omega)))) f38 p39 (ScO.add p46 (by omega) f43) f42 (titO.ag p47 (scnP_u (by omega) (by omega) (by omega)) (scnP_u (by omega) (by omega) (by omega)) (scnP_u (by omega) (by omega) (by omega))) (scnP_u (by omega) (by omega) (by omega)).symm (scnP_u (by omega) (by omega) (by omega)).symm (scnP_u (by omega) (by omega) (by omega)).symm scnP_3.symm (scnP_u (by omega) (by omega) (by omega)).symm (scnP_u (by omega) (by omega) (by omega)).symm (scnP_u (by omega) (by omega) (by omega)).symm (sg4_ex (scnP_u (by omega) (by omega) (by omega)) (scnP_u (by omega) (by omega) (by omega)) (scnP_u (by omega) (by omega) (by omega)) (scnP_u (by omega) (by omega) (by omega))), hk⟩)
