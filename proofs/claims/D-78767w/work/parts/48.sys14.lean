/-! THE SYSTEM's METHODS: ArrayList's iterator -/
set_option maxRecDepth 100000
theorem cw_J16_init {R : Room} {s : State} {args : Array Value} {own : String} {index lev mc ms : Nat} (hts : ∀ w ∈ lw_all, w.before args s = true) (hl : Cond.methodLink own index yJ16_init ∈ lw_all) (hR1 : (rmL lev mc ms).frames + 1 ≤ R.frames) (hR2 : 8 + (2 + 11) + (rmL lev mc ms).locals ≤ R.locals) : CallB R s args own index yJ16_init cJ16_init 2 none (ws_ yJ16_init cJ16_init 2 none) (rmL lev mc ms) mc ms 1 ∧ yJ16_init.name = "<init>" ∧ (Cond.instanceMethod yJ16_init).before args s = true :=
  cwI 1 hts (lw_meth q323) rfl rfl rfl (hts _ q128) (hts _ hl) (hts _ q322) rfl (by decide +kernel) ⟨hR1, hR2⟩
set_option maxHeartbeats 4000000 in
theorem m_J16_init {E : jE} (l : Launch) (w : Wl) (o1 : Nat) (ti : Nat) (v0 : Value) (v1 : Value) (v2 : Value) (v3 : Value) (ar : Nat) (t : Nat) (mo : Int) (n1 : Int) (a : Nat) (h1 : w o1 = some (ti, .inr (11, [v0, v1, v2, v3]))) (h2 : w a = some (t, .inr (10, [.int (iI mo), .ref ar, .int (iI n1)]))) : Met l yJ16_init (ws_ yJ16_init cJ16_init 2 none) (rmL 1 0 0) (va_Pc [.ref o1, .ref a] (jP E w)) (jQv E (fun u : Wl => u) (fun u => u o1 = some (ti, .inr (11, [v0, .int (iI (-1)), .int (iI mo), .ref a])) ∧ FR (fun T k => T = ti ∧ k = 21) w u)) 0 0 (jA E) := by
  refine j_metV (by decide) (Nat.le_of_ble_eq_true rfl) ?_
  intro p e s m args below meth c Q hx hb hml hown hnm hts hV hH hret ls hl
  have hl : lv_has ls 2 [(0, .ref o1), (1, .ref a)] := hl
  have h0 := hH.1.2
  have hR0 := hH.1
  have hk : FR (fun T k => T = ti ∧ k = 21) w w := FR.rf
  refine lv_aload_n hx hb dJ16_init_0 rfl (lv_at hl 0 rfl) ?_
  refine lv_aload_n hx hb dJ16_init_1 rfl (lv_at hl 1 rfl) ?_
  refine j_putF hx hb hts hown hV hH h1 rfl in_J16 tyJ16 tyJ16_ok nmJ16 3 (Nat.le_of_ble_eq_true rfl) q328 (fun _ h => h) rfl hnm rfl rfl rfl (Nat.le_of_ble_eq_true rfl) dJ16_init_2 (fun H locs hH => ?_)
  obtain ⟨V1, eV1⟩ : ∃ V_ : Wl, V_ = up w o1 (ti, .inr (11, [v0, v1, v2, .ref a])) := ⟨_, rfl⟩
  have hH := jH_eq hH eV1
  have hs2 : FR (fun T k => T = ti ∧ k = 21) w V1 := by rw [eV1]; exact FR.one h1 rfl rfl
  have f3 : V1 a = some (t, .inr (10, [.int (iI mo), .ref ar, .int (iI n1)])) := hs2.at h2 (k := 20) rfl (by first | exact not_false | (intro q_; simp at q_; done) | omega)
  have f4 : V1 o1 = some (ti, .inr (11, [v0, v1, v2, .ref a])) := by rw [eV1]; exact up_s
  have hk : FR (fun T k => T = ti ∧ k = 21) w V1 := FR.tr hk hs2 (by intro T k h_; first | exact h_.elim | (obtain ⟨rfl, rfl⟩ := h_; simp; done) | omega)
  refine lv_aload_n hx hb dJ16_init_5 rfl (lv_at hl 0 rfl) ?_
  refine j_oinit hx hb hts hown hml q324 q158 q159 hl.1 dJ16_init_6 (Nat.le_of_ble_eq_true rfl) (Nat.le_of_ble_eq_true rfl) ?_
  refine lv_aload_n hx hb dJ16_init_9 rfl (lv_at hl 0 rfl) ?_
  refine j_iconst hx hb dJ16_init_10 ?_
  refine j_put hx hb hts hown hV hH f4 rfl in_J16 tyJ16 tyJ16_ok nmJ16 1 (Nat.le_of_ble_eq_true rfl) q326 (fun _ h => h) rfl rfl rfl (Nat.le_of_ble_eq_true rfl) dJ16_init_11 (fun H locs hH => ?_)
  obtain ⟨V5, eV5⟩ : ∃ V_ : Wl, V_ = up V1 o1 (ti, .inr (11, [v0, .int (iI (-1)), v2, .ref a])) := ⟨_, rfl⟩
  have hH := jH_eq hH eV5
  have hs6 : FR (fun T k => T = ti ∧ k = 21) V1 V5 := by rw [eV5]; exact FR.one f4 rfl rfl
  have f7 : V5 a = some (t, .inr (10, [.int (iI mo), .ref ar, .int (iI n1)])) := hs6.at f3 (k := 20) rfl (by first | exact not_false | (intro q_; simp at q_; done) | omega)
  have f8 : V5 o1 = some (ti, .inr (11, [v0, .int (iI (-1)), v2, .ref a])) := by rw [eV5]; exact up_s
  have hk : FR (fun T k => T = ti ∧ k = 21) w V5 := FR.tr hk hs6 (by intro T k h_; first | exact h_.elim | (obtain ⟨rfl, rfl⟩ := h_; simp; done) | omega)
  refine lv_aload_n hx hb dJ16_init_14 rfl (lv_at hl 0 rfl) ?_
  refine lv_aload_n hx hb dJ16_init_15 rfl (lv_at hl 0 rfl) ?_
  refine j_get hx hb hts hown hV hH f8 rfl in_J16 3 (Nat.le_of_ble_eq_true rfl) q328 (fun _ h => h) rfl dJ16_init_16 ?_
  refine j_get hx hb hts hown hV hH f7 rfl in_J2 0 (Nat.le_of_ble_eq_true rfl) q185 (u_same (hts _ q186)) rfl dJ16_init_19 ?_
  refine j_put hx hb hts hown hV hH f8 rfl in_J16 tyJ16 tyJ16_ok nmJ16 2 (Nat.le_of_ble_eq_true rfl) q327 (fun _ h => h) rfl rfl rfl (Nat.le_of_ble_eq_true rfl) dJ16_init_22 (fun H locs hH => ?_)
  obtain ⟨V9, eV9⟩ : ∃ V_ : Wl, V_ = up V5 o1 (ti, .inr (11, [v0, .int (iI (-1)), .int (iI mo), .ref a])) := ⟨_, rfl⟩
  have hH := jH_eq hH eV9
  have hs10 : FR (fun T k => T = ti ∧ k = 21) V5 V9 := by rw [eV9]; exact FR.one f8 rfl rfl
  have f11 : V9 a = some (t, .inr (10, [.int (iI mo), .ref ar, .int (iI n1)])) := hs10.at f7 (k := 20) rfl (by first | exact not_false | (intro q_; simp at q_; done) | omega)
  have f12 : V9 o1 = some (ti, .inr (11, [v0, .int (iI (-1)), .int (iI mo), .ref a])) := by rw [eV9]; exact up_s
  have hk : FR (fun T k => T = ti ∧ k = 21) w V9 := FR.tr hk hs10 (by intro T k h_; first | exact h_.elim | (obtain ⟨rfl, rfl⟩ := h_; simp; done) | omega)
  exact hret V9 hH dJ16_init_25 (Nat.le_of_ble_eq_true rfl) (Nat.le_of_ble_eq_true rfl) (⟨by assumption, hk⟩)
theorem cw_J2_iterator {R : Room} {s : State} {args : Array Value} {own : String} {index lev mc ms : Nat} (hts : ∀ w ∈ lw_all, w.before args s = true) (hl : Cond.methodLink own index yJ2_iterator ∈ lw_all) (hR1 : (rmL lev mc ms).frames + 1 ≤ R.frames) (hR2 : 8 + (1 + 11) + (rmL lev mc ms).locals ≤ R.locals) : CallW R s args own RJ2 index yJ2_iterator cJ2_iterator 1 (some (.object "java/util/Iterator")) (ws_ yJ2_iterator cJ2_iterator 1 (some (.object "java/util/Iterator"))) (rmL lev mc ms) mc ms 0 :=
  cwV 0 hts (lw_V hl q316 q317 q112 q318) rfl rfl rfl (by decide +kernel) ⟨hR1, hR2⟩
set_option maxHeartbeats 4000000 in
theorem m_J2_iterator {E : jE} (l : Launch) (w : Wl) (a : Nat) (ar : Nat) (t : Nat) (mo : Int) (n1 : Int) (h1 : w a = some (t, .inr (10, [.int (iI mo), .ref ar, .int (iI n1)]))) : Met l yJ2_iterator (ws_ yJ2_iterator cJ2_iterator 1 (some (.object "java/util/Iterator"))) (rmL 2 1 4) (va_Pc [.ref a] (jP E w)) (jQq E (fun u : Wl => u) (fun z u => ∃ (it : Nat), z = some it ∧ u it = some (2, .inr (11, [.int (iI 0), .int (iI (-1)), .int (iI mo), .ref a])) ∧ (w it = none) ∧ FR (fun T k => T = 2 ∧ k = 21) w u)) 1 4 (jA E) := by
  refine j_metQ (by decide) (Nat.le_of_ble_eq_true rfl) (Or.inl ⟨_, rfl⟩) ?_
  intro p e s m args below meth c Q hx hb hml hown hnm hts hV hH hret ls hl
  have hl : lv_has ls 1 [(0, .ref a)] := hl
  have h0 := hH.1.2
  have hR0 := hH.1
  have hk : FR (fun T k => T = 2 ∧ k = 21) w w := FR.rf
  refine j_new (ci := 11) hx hb hts hown hV hH rfl in_J16 tyJ16 tyJ16_ok q319 q320 q128 [.int (iI 0), .int (iI 0), .int (iI 0), .null] (fun j hj => by rcases j with _ | _ | _ | _ | j <;> first | rfl | omega) (Nat.le_of_ble_eq_true rfl) (Nat.le_of_ble_eq_true rfl) dJ2_iterator_0 (fun r0 H er0 zr0 nr0 hH => ?_)
  have hH := hH 2
  obtain ⟨V1, eV1⟩ : ∃ V_ : Wl, V_ = up w r0 (2, .inr (11, [.int (iI 0), .int (iI 0), .int (iI 0), .null])) := ⟨_, rfl⟩
  have hH := jH_eq hH eV1
  have nwr0 : w r0 = none := hk.non_ nr0
  have hs2 : FR (fun _ _ => False) w V1 := by rw [eV1]; exact FR.new1 nr0
  have f3 : V1 a = some (t, .inr (10, [.int (iI mo), .ref ar, .int (iI n1)])) := hs2.at h1 (k := 20) rfl (by first | exact not_false | (intro q_; simp at q_; done) | omega)
  have f4 : V1 r0 = some (2, .inr (11, [.int (iI 0), .int (iI 0), .int (iI 0), .null])) := by rw [eV1]; exact up_s
  have hk : FR (fun T k => T = 2 ∧ k = 21) w V1 := FR.tr hk hs2 (by intro T k h_; exact h_.elim)
  refine lv_dup hx hb dJ2_iterator_3 rfl ?_
  refine lv_aload_n hx hb dJ2_iterator_4 rfl (lv_at hl 0 rfl) ?_
  refine j_callv (va_runI (As := [.ref a]) (rest := [.ref r0]) ⟨hx, hb, hml, hown, hts⟩ (m_J16_init l V1 r0 2 (.int (iI 0)) (.int (iI 0)) (.int (iI 0)) .null ar t mo n1 a (f4) (f3)) (cw_J16_init hts q321 (Nat.le_of_ble_eq_true rfl) (Nat.le_of_ble_eq_true rfl)) (j_preS hV hH) rfl rfl hl.1 rfl (lv_room (Nat.le_of_ble_eq_true rfl)) dJ2_iterator_5 ⟨Nat.le_of_ble_eq_true rfl, Nat.le_of_ble_eq_true rfl⟩) hH (fun U5 H locs hp hH => ?_)
  obtain ⟨f7, hs6⟩ := hp
  have f8 : U5 a = some (t, .inr (10, [.int (iI mo), .ref ar, .int (iI n1)])) := hs6.at f3 (k := 20) rfl (by first | exact not_false | (intro q_; simp at q_; done) | omega)
  have hk : FR (fun T k => T = 2 ∧ k = 21) w U5 := FR.tr hk hs6 (by intro T k h_; first | exact h_.elim | (obtain ⟨rfl, rfl⟩ := h_; simp; done) | omega)
  exact hret (some r0) U5 hH dJ2_iterator_8 (Nat.le_of_ble_eq_true rfl) (Nat.le_of_ble_eq_true rfl) (⟨r0, by first | rfl | omega, by assumption, nwr0, hk⟩)
set_option maxHeartbeats 4000000 in
theorem m_J16_hasNext {E : jE} (l : Launch) (w : Wl) (o1 : Nat) (ti : Nat) (cu : Int) (lr : Int) (a : Nat) (ar : Nat) (t : Nat) (mo : Int) (n1 : Int) (h1 : w o1 = some (ti, .inr (11, [.int (iI cu), .int (iI lr), .int (iI mo), .ref a]))) (h2 : w a = some (t, .inr (10, [.int (iI mo), .ref ar, .int (iI n1)]))) (h3 : -2147483648 ≤ cu ∧ cu ≤ 2147483647) (h4 : -2147483648 ≤ n1 ∧ n1 ≤ 2147483647) : Met l yJ16_hasNext (ws_ yJ16_hasNext cJ16_hasNext 1 (some .boolean)) (rmL 1 0 0) (va_Pc [.ref o1] (jP E w)) (jQi E (fun _ : Unit => w) (fun z _ => z = bI (cu ≠ n1))) 0 0 (jA E) := by
  refine j_metZ (by decide) (Nat.le_of_ble_eq_true rfl) ?_
  intro p e s m args below meth c Q hx hb hml hown hnm hts hV hH hret ls hl
  have hl : lv_has ls 1 [(0, .ref o1)] := hl
  refine lv_aload_n hx hb dJ16_hasNext_0 rfl (lv_at hl 0 rfl) ?_
  refine j_get hx hb hts hown hV hH h1 rfl in_J16 0 (Nat.le_of_ble_eq_true rfl) q325 (fun _ h => h) rfl dJ16_hasNext_1 ?_
  refine lv_aload_n hx hb dJ16_hasNext_4 rfl (lv_at hl 0 rfl) ?_
  refine j_get hx hb hts hown hV hH h1 rfl in_J16 3 (Nat.le_of_ble_eq_true rfl) q328 (fun _ h => h) rfl dJ16_hasNext_5 ?_
  refine j_getN hx hb hts hown hV hH h2 rfl in_J2 2 (Nat.le_of_ble_eq_true rfl) (hV.2.1 _ q182 rfl) (fun _ h => h) rfl dJ16_hasNext_8 ?_
  refine j_icmp_eq (tgt := 18) hx hb dJ16_hasNext_11 (by decide) (by omega) (by omega) (fun c11 => ?_) (fun c11 => ?_)
  · refine j_iconst hx hb dJ16_hasNext_18 ?_
    exact hret () hH dJ16_hasNext_19 (Nat.le_of_ble_eq_true rfl) (Nat.le_of_ble_eq_true rfl) (by decide) (by first | exact (bI_t (by omega)).symm | exact (bI_f (by omega)).symm)
  · refine j_iconst hx hb dJ16_hasNext_14 ?_
    refine lv_goto (tgt := 19) hx hb dJ16_hasNext_15 (by decide) ?_
    exact hret () hH dJ16_hasNext_19 (Nat.le_of_ble_eq_true rfl) (Nat.le_of_ble_eq_true rfl) (by decide) (by first | exact (bI_t (by omega)).symm | exact (bI_f (by omega)).symm)
theorem cw_J16_checkForComodification {R : Room} {s : State} {args : Array Value} {own : String} {index lev mc ms : Nat} (hts : ∀ w ∈ lw_all, w.before args s = true) (hl : Cond.methodLink own index yJ16_checkForComodification ∈ lw_all) (hR1 : (rmL lev mc ms).frames + 1 ≤ R.frames) (hR2 : 8 + (1 + 11) + (rmL lev mc ms).locals ≤ R.locals) : CallW R s args own RJ16 index yJ16_checkForComodification cJ16_checkForComodification 1 none (ws_ yJ16_checkForComodification cJ16_checkForComodification 1 none) (rmL lev mc ms) mc ms 0 :=
  cwV 0 hts (lw_V hl q358 q359 q128 q360) rfl rfl rfl (by decide +kernel) ⟨hR1, hR2⟩
set_option maxHeartbeats 4000000 in
theorem m_J16_checkForComodification {E : jE} (l : Launch) (w : Wl) (o1 : Nat) (ti : Nat) (cu : Int) (lr : Int) (a : Nat) (ar : Nat) (t : Nat) (mo : Int) (n1 : Int) (h1 : w o1 = some (ti, .inr (11, [.int (iI cu), .int (iI lr), .int (iI mo), .ref a]))) (h2 : w a = some (t, .inr (10, [.int (iI mo), .ref ar, .int (iI n1)]))) : Met l yJ16_checkForComodification (ws_ yJ16_checkForComodification cJ16_checkForComodification 1 none) (rmL 1 0 0) (va_Pc [.ref o1] (jP E w)) (jQv E (fun _ : Unit => w) (fun _ => True)) 0 0 (jA E) := by
  refine j_metV (by decide) (Nat.le_of_ble_eq_true rfl) ?_
  intro p e s m args below meth c Q hx hb hml hown hnm hts hV hH hret ls hl
  have hl : lv_has ls 1 [(0, .ref o1)] := hl
  refine lv_aload_n hx hb dJ16_checkForComodification_0 rfl (lv_at hl 0 rfl) ?_
  refine j_get hx hb hts hown hV hH h1 rfl in_J16 3 (Nat.le_of_ble_eq_true rfl) q328 (fun _ h => h) rfl dJ16_checkForComodification_1 ?_
  refine j_get hx hb hts hown hV hH h2 rfl in_J2 0 (Nat.le_of_ble_eq_true rfl) q185 (u_same (hts _ q186)) rfl dJ16_checkForComodification_4 ?_
  refine lv_aload_n hx hb dJ16_checkForComodification_7 rfl (lv_at hl 0 rfl) ?_
  refine j_get hx hb hts hown hV hH h1 rfl in_J16 2 (Nat.le_of_ble_eq_true rfl) q327 (fun _ h => h) rfl dJ16_checkForComodification_8 ?_
  refine lv_icmp_eq (tgt := 22) hx hb dJ16_checkForComodification_11 (by decide) (fun c11 => ?_) (fun c11 => ?_)
  · exact hret () hH dJ16_checkForComodification_22 (Nat.le_of_ble_eq_true rfl) (Nat.le_of_ble_eq_true rfl) trivial
  · exact absurd rfl c11
set_option maxHeartbeats 4000000 in
theorem m_J16_next {E : jE} (l : Launch) (w : Wl) (o1 : Nat) (ti : Nat) (cu : Int) (lr : Int) (a : Nat) (ar : Nat) (t : Nat) (mo : Int) (n1 : Int) (G : Int → Nat) (h1 : w o1 = some (ti, .inr (11, [.int (iI cu), .int (iI lr), .int (iI mo), .ref a]))) (h2 : w a = some (t, .inr (10, [.int (iI mo), .ref ar, .int (iI n1)]))) (h3 : AD E w t ar n1 G) (h4 : 0 ≤ cu ∧ cu < n1) : Met l yJ16_next (ws_ yJ16_next cJ16_next 3 (some (.object "java/lang/Object"))) (rmL 2 0 0) (va_Pc [.ref o1] (jP E w)) (jQq E (fun u : Wl => u) (fun z u => z = some (G cu) ∧ u o1 = some (ti, .inr (11, [.int (iI (cu + 1)), .int (iI cu), .int (iI mo), .ref a])) ∧ FR (fun T k => T = ti ∧ k = 21) w u)) 0 0 (jA E) := by
  refine j_metQ (by decide) (Nat.le_of_ble_eq_true rfl) (Or.inl ⟨_, rfl⟩) ?_
  intro p e s m args below meth c Q hx hb hml hown hnm hts hV hH hret ls hl
  have hl : lv_has ls 3 [(0, .ref o1)] := hl
  have h0 := hH.1.2
  have hR0 := hH.1
  have hk : FR (fun T k => T = ti ∧ k = 21) w w := FR.rf
  have hn40 := h3.2.1
  obtain ⟨cap, g, hgar, hgn, hg0, hg60, hgo, hgg⟩ := h3.real (by omega)
  have f1 : w ar = some (t, arQ E cap g) := hgar
  refine lv_aload_n hx hb dJ16_next_0 rfl (lv_at hl 0 rfl) ?_
  refine j_callvp (va_runV (As := []) (rest := []) ⟨hx, hb, hml, hown, hts⟩ (m_J16_checkForComodification l _ o1 ti cu lr a ar t mo n1 (h1) (h2)) (cw_J16_checkForComodification hts q357 (Nat.le_of_ble_eq_true rfl) (Nat.le_of_ble_eq_true rfl)) (j_preV hV hH h1 rfl) rfl rfl hl.1 rfl (lv_room (Nat.le_of_ble_eq_true rfl)) dJ16_next_1 ⟨Nat.le_of_ble_eq_true rfl, Nat.le_of_ble_eq_true rfl⟩) hH (fun H locs hH => ?_)
  refine lv_aload_n hx hb dJ16_next_4 rfl (lv_at hl 0 rfl) ?_
  refine j_get hx hb hts hown hV hH h1 rfl in_J16 0 (Nat.le_of_ble_eq_true rfl) q325 (fun _ h => h) rfl dJ16_next_5 ?_
  refine j_istore_n (lv' := fun x2 => [(1, .int (iI x2)), (0, .ref o1)]) hx hb dJ16_next_8 rfl hl (by decide) (fun _ => rfl) (fun x2 ex2 ls hl => ?_)
  refine lv_iload_n hx hb dJ16_next_9 rfl (lv_at hl 0 rfl) ?_
  refine lv_aload_n hx hb dJ16_next_10 rfl (lv_at hl 1 rfl) ?_
  refine j_get hx hb hts hown hV hH h1 rfl in_J16 3 (Nat.le_of_ble_eq_true rfl) q328 (fun _ h => h) rfl dJ16_next_11 ?_
  refine j_getN hx hb hts hown hV hH h2 rfl in_J2 2 (Nat.le_of_ble_eq_true rfl) (hV.2.1 _ q182 rfl) (fun _ h => h) rfl dJ16_next_14 ?_
  refine j_icmp_lt (tgt := 28) hx hb dJ16_next_17 (by decide) (by omega) (by omega) (fun c17 => ?_) (fun c17 => ?_)
  · refine lv_aload_n hx hb dJ16_next_28 rfl (lv_at hl 1 rfl) ?_
    refine j_get hx hb hts hown hV hH h1 rfl in_J16 3 (Nat.le_of_ble_eq_true rfl) q328 (fun _ h => h) rfl dJ16_next_29 ?_
    refine j_get hx hb hts hown hV hH h2 rfl in_J2 1 (Nat.le_of_ble_eq_true rfl) q181 (fun _ h => h) rfl dJ16_next_32 ?_
    refine lv_astore_n (lv' := [(2, .ref ar), (1, .int (iI x2)), (0, .ref o1)]) hx hb dJ16_next_35 rfl hl (by decide) rfl (fun ls hl => ?_)
    refine lv_iload_n hx hb dJ16_next_36 rfl (lv_at hl 1 rfl) ?_
    refine lv_aload_n hx hb dJ16_next_37 rfl (lv_at hl 0 rfl) ?_
    refine j_alen (t0 := 3) hx hb hV hH f1 rfl dJ16_next_38 ?_
    refine j_top (b := ((cap : Nat) : Int)) rfl ?_
    refine j_icmp_lt (tgt := 50) hx hb dJ16_next_39 (by decide) (by omega) (by omega) (fun c39 => ?_) (fun c39 => ?_)
    · refine lv_aload_n hx hb dJ16_next_50 rfl (lv_at hl 2 rfl) ?_
      refine lv_iload_n hx hb dJ16_next_51 rfl (lv_at hl 1 rfl) ?_
      refine j_iconst hx hb dJ16_next_52 ?_
      refine j_iadd hx hb dJ16_next_53 ?_
      refine j_put hx hb hts hown hV hH h1 rfl in_J16 tyJ16 tyJ16_ok nmJ16 0 (Nat.le_of_ble_eq_true rfl) q325 (fun _ h => h) rfl rfl rfl (Nat.le_of_ble_eq_true rfl) dJ16_next_54 (fun H locs hH => ?_)
      obtain ⟨V3, eV3⟩ : ∃ V_ : Wl, V_ = up w o1 (ti, .inr (11, [.int (iI (x2 + 1)), .int (iI lr), .int (iI mo), .ref a])) := ⟨_, rfl⟩
      have hH := jH_eq hH eV3
      have hs4 : FR (fun T k => T = ti ∧ k = 21) w V3 := by rw [eV3]; exact FR.one h1 rfl rfl
      have f5 : V3 a = some (t, .inr (10, [.int (iI mo), .ref ar, .int (iI n1)])) := hs4.at h2 (k := 20) rfl (by first | exact not_false | (intro q_; simp at q_; done) | omega)
      have f6 : V3 ar = some (t, arQ E cap g) := hs4.at f1 (k := 4) rfl (by first | exact not_false | (intro q_; simp at q_; done) | omega)
      have p7 : AD E V3 t ar n1 G := AD.kp h3 hs4 (by intro T k h_; first | exact h_.elim | (obtain ⟨-, rfl⟩ := h_; simp; done) | omega)
      have f8 : V3 o1 = some (ti, .inr (11, [.int (iI (x2 + 1)), .int (iI lr), .int (iI mo), .ref a])) := by rw [eV3]; exact up_s
      have hk : FR (fun T k => T = ti ∧ k = 21) w V3 := FR.tr hk hs4 (by intro T k h_; first | exact h_.elim | (obtain ⟨rfl, rfl⟩ := h_; simp; done) | omega)
      refine lv_aload_n hx hb dJ16_next_57 rfl (lv_at hl 0 rfl) ?_
      refine lv_aload_n hx hb dJ16_next_58 rfl (lv_at hl 2 rfl) ?_
      refine lv_iload_n hx hb dJ16_next_59 rfl (lv_at hl 1 rfl) ?_
      refine lv_dup_x1 hx hb dJ16_next_60 rfl rfl ?_
      refine j_put hx hb hts hown hV hH f8 rfl in_J16 tyJ16 tyJ16_ok nmJ16 1 (Nat.le_of_ble_eq_true rfl) q326 (fun _ h => h) rfl rfl rfl (Nat.le_of_ble_eq_true rfl) dJ16_next_61 (fun H locs hH => ?_)
      obtain ⟨V9, eV9⟩ : ∃ V_ : Wl, V_ = up V3 o1 (ti, .inr (11, [.int (iI (x2 + 1)), .int (iI x2), .int (iI mo), .ref a])) := ⟨_, rfl⟩
      have hH := jH_eq hH eV9
      have hs10 : FR (fun T k => T = ti ∧ k = 21) V3 V9 := by rw [eV9]; exact FR.one f8 rfl rfl
      have f11 : V9 a = some (t, .inr (10, [.int (iI mo), .ref ar, .int (iI n1)])) := hs10.at f5 (k := 20) rfl (by first | exact not_false | (intro q_; simp at q_; done) | omega)
      have f12 : V9 ar = some (t, arQ E cap g) := hs10.at f6 (k := 4) rfl (by first | exact not_false | (intro q_; simp at q_; done) | omega)
      have p13 : AD E V9 t ar n1 G := AD.kp p7 hs10 (by intro T k h_; first | exact h_.elim | (obtain ⟨-, rfl⟩ := h_; simp; done) | omega)
      have f14 : V9 o1 = some (ti, .inr (11, [.int (iI (x2 + 1)), .int (iI x2), .int (iI mo), .ref a])) := by rw [eV9]; exact up_s
      have hk : FR (fun T k => T = ti ∧ k = 21) w V9 := FR.tr hk hs10 (by intro T k h_; first | exact h_.elim | (obtain ⟨rfl, rfl⟩ := h_; simp; done) | omega)
      refine j_aald hx hb hV hH f12 (by omega) (by omega) dJ16_next_64 ?_
      rw [show g x2 = some (G cu) from by rw [ex2]; exact hgg cu (by omega) (by omega)]
      exact hret (some (G cu)) V9 hH dJ16_next_65 (Nat.le_of_ble_eq_true rfl) (Nat.le_of_ble_eq_true rfl) (⟨by first | rfl | omega, by subst ex2; assumption, hk⟩)
    · exact absurd c39 (by omega)
  · exact absurd c17 (by omega)
