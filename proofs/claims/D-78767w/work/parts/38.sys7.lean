/-! THE SYSTEM's METHODS: nodes are made -/
set_option maxRecDepth 100000
theorem cw_X4_init {R : Room} {s : State} {args : Array Value} {own : String} {index lev mc ms : Nat} (hts : ∀ w ∈ lw_all, w.before args s = true) (hl : Cond.methodLink own index yX4_init ∈ lw_all) (hR1 : (rmL lev mc ms).frames + 1 ≤ R.frames) (hR2 : 8 + (2 + 11) + (rmL lev mc ms).locals ≤ R.locals) : CallB R s args own index yX4_init cX4_init 2 none (ws_ yX4_init cX4_init 2 none) (rmL lev mc ms) mc ms 1 ∧ yX4_init.name = "<init>" ∧ (Cond.instanceMethod yX4_init).before args s = true :=
  cwI 1 hts (lw_meth q394) rfl rfl rfl (hts _ q131) (hts _ hl) (hts _ q393) rfl (by decide +kernel) ⟨hR1, hR2⟩
set_option maxHeartbeats 4000000 in
theorem m_X4_init_X5 {E : jE} (l : Launch) (w : Wl) (a : Nat) (t : Nat) (v0 : Value) (v1 : Value) (v2 : Value) (v3 : Value) (v4 : Value) (v5 : Value) (v6 : Value) (v7 : Value) (v8 : Value) (pg : Option Nat) (h1 : w a = some (t, .inr (3, [v0, v1, v2, v3, v4, v5, v6, v7, v8]))) : Met l yX4_init (ws_ yX4_init cX4_init 2 none) (rmL 2 0 0) (va_Pc [.ref a, va_rf pg] (jP E w)) (jQv E (fun _ : Unit => up w a (t, .inr (3, [v0, va_rf pg, v2, v3, v4, v5, v6, v7, v8]))) (fun _ => True)) 0 0 (jA E) := by
  refine j_metV (by decide) (by cases pg <;> exact Nat.le_of_ble_eq_true rfl) ?_
  intro p e s m args below meth c Q hx hb hml hown hnm hts hV hH hret ls hl
  have hl : lv_has ls 2 [(0, .ref a), (1, va_rf pg)] := by cases pg <;> exact hl
  refine lv_aload_n hx hb dX4_init_0 rfl (lv_at hl 0 rfl) ?_
  refine j_oinit hx hb hts hown hml q395 q158 q159 hl.1 dX4_init_1 (Nat.le_of_ble_eq_true rfl) (Nat.le_of_ble_eq_true rfl) ?_
  refine lv_aload_n hx hb dX4_init_4 rfl (lv_at hl 0 rfl) ?_
  refine j_aload_n hx hb dX4_init_5 rfl (lv_at hl 1 rfl) ?_
  refine j_putF hx hb hts hown hV hH h1 rfl in_X5 tyX5 tyX5_ok nmX5 1 (Nat.le_of_ble_eq_true rfl) q413 (fun _ h => h) rfl hnm rfl (by cases pg <;> rfl) (by cases pg <;> rfl) (Nat.le_of_ble_eq_true rfl) dX4_init_6 (fun H locs hH => ?_)
  have hH : jH E s.heap (up w a (t, .inr (3, [v0, va_rf pg, v2, v3, v4, v5, v6, v7, v8]))) H locs := hH
  have hf1 : (up w a (t, .inr (3, [v0, va_rf pg, v2, v3, v4, v5, v6, v7, v8]))) a = some (t, .inr (3, [v0, va_rf pg, v2, v3, v4, v5, v6, v7, v8])) := up_s
  exact hret () hH dX4_init_9 (Nat.le_of_ble_eq_true rfl) (Nat.le_of_ble_eq_true rfl) trivial
set_option maxHeartbeats 4000000 in
theorem m_X4_place_X5 {E : jE} (l : Launch) (w : Wl) (a : Nat) (t : Nat) (v0 : Value) (v1 : Value) (v2 : Value) (v3 : Value) (v4 : Value) (v5 : Value) (v6 : Value) (v7 : Value) (v8 : Value) (dx : Int) (dy : Int) (dz : Int) (h1 : w a = some (t, .inr (3, [v0, v1, v2, v3, v4, v5, v6, v7, v8]))) : Met l yX4_place (ws_ yX4_place cX4_place 4 none) (rmL 2 0 0) (va_Pc [.ref a, .int (iI dx), .int (iI dy), .int (iI dz)] (jP E w)) (jQv E (fun _ : Unit => up w a (t, .inr (3, [v0, v1, .int (iI dx), .int (iI dy), .int (iI dz), v5, v6, v7, v8]))) (fun _ => True)) 0 0 (jA E) := by
  refine j_metV (by decide) (Nat.le_of_ble_eq_true rfl) ?_
  intro p e s m args below meth c Q hx hb hml hown hnm hts hV hH hret ls hl
  have hl : lv_has ls 4 [(0, .ref a), (1, .int (iI dx)), (2, .int (iI dy)), (3, .int (iI dz))] := hl
  refine lv_aload_n hx hb dX4_place_0 rfl (lv_at hl 0 rfl) ?_
  refine lv_iload_n hx hb dX4_place_1 rfl (lv_at hl 1 rfl) ?_
  refine j_put hx hb hts hown hV hH h1 rfl in_X5 tyX5 tyX5_ok nmX5 2 (Nat.le_of_ble_eq_true rfl) q416 (fun _ h => h) rfl rfl rfl (Nat.le_of_ble_eq_true rfl) dX4_place_2 (fun H locs hH => ?_)
  have hH : jH E s.heap (up w a (t, .inr (3, [v0, v1, .int (iI dx), v3, v4, v5, v6, v7, v8]))) H locs := hH
  have hf1 : (up w a (t, .inr (3, [v0, v1, .int (iI dx), v3, v4, v5, v6, v7, v8]))) a = some (t, .inr (3, [v0, v1, .int (iI dx), v3, v4, v5, v6, v7, v8])) := up_s
  refine lv_aload_n hx hb dX4_place_5 rfl (lv_at hl 0 rfl) ?_
  refine lv_iload_n hx hb dX4_place_6 rfl (lv_at hl 2 rfl) ?_
  refine j_put hx hb hts hown hV hH hf1 rfl in_X5 tyX5 tyX5_ok nmX5 3 (Nat.le_of_ble_eq_true rfl) q418 (fun _ h => h) rfl rfl rfl (Nat.le_of_ble_eq_true rfl) dX4_place_7 (fun H locs hH => ?_)
  have hH : jH E s.heap (up w a (t, .inr (3, [v0, v1, .int (iI dx), .int (iI dy), v4, v5, v6, v7, v8]))) H locs := up2 hH
  have hf2 : (up w a (t, .inr (3, [v0, v1, .int (iI dx), .int (iI dy), v4, v5, v6, v7, v8]))) a = some (t, .inr (3, [v0, v1, .int (iI dx), .int (iI dy), v4, v5, v6, v7, v8])) := up_s
  refine lv_aload_n hx hb dX4_place_10 rfl (lv_at hl 0 rfl) ?_
  refine lv_iload_n hx hb dX4_place_11 rfl (lv_at hl 3 rfl) ?_
  refine j_put hx hb hts hown hV hH hf2 rfl in_X5 tyX5 tyX5_ok nmX5 4 (Nat.le_of_ble_eq_true rfl) q420 (fun _ h => h) rfl rfl rfl (Nat.le_of_ble_eq_true rfl) dX4_place_12 (fun H locs hH => ?_)
  have hH : jH E s.heap (up w a (t, .inr (3, [v0, v1, .int (iI dx), .int (iI dy), .int (iI dz), v5, v6, v7, v8]))) H locs := up2 hH
  have hf3 : (up w a (t, .inr (3, [v0, v1, .int (iI dx), .int (iI dy), .int (iI dz), v5, v6, v7, v8]))) a = some (t, .inr (3, [v0, v1, .int (iI dx), .int (iI dy), .int (iI dz), v5, v6, v7, v8])) := up_s
  exact hret () hH dX4_place_15 (Nat.le_of_ble_eq_true rfl) (Nat.le_of_ble_eq_true rfl) trivial
set_option maxHeartbeats 4000000 in
theorem m_X4_init_X6 {E : jE} (l : Launch) (w : Wl) (a : Nat) (t : Nat) (v0 : Value) (v1 : Value) (v2 : Value) (v3 : Value) (v4 : Value) (pg : Option Nat) (h1 : w a = some (t, .inr (4, [v0, v1, v2, v3, v4]))) : Met l yX4_init (ws_ yX4_init cX4_init 2 none) (rmL 2 0 0) (va_Pc [.ref a, va_rf pg] (jP E w)) (jQv E (fun _ : Unit => up w a (t, .inr (4, [v0, va_rf pg, v2, v3, v4]))) (fun _ => True)) 0 0 (jA E) := by
  refine j_metV (by decide) (by cases pg <;> exact Nat.le_of_ble_eq_true rfl) ?_
  intro p e s m args below meth c Q hx hb hml hown hnm hts hV hH hret ls hl
  have hl : lv_has ls 2 [(0, .ref a), (1, va_rf pg)] := by cases pg <;> exact hl
  refine lv_aload_n hx hb dX4_init_0 rfl (lv_at hl 0 rfl) ?_
  refine j_oinit hx hb hts hown hml q395 q158 q159 hl.1 dX4_init_1 (Nat.le_of_ble_eq_true rfl) (Nat.le_of_ble_eq_true rfl) ?_
  refine lv_aload_n hx hb dX4_init_4 rfl (lv_at hl 0 rfl) ?_
  refine j_aload_n hx hb dX4_init_5 rfl (lv_at hl 1 rfl) ?_
  refine j_putF hx hb hts hown hV hH h1 rfl in_X6 tyX6 tyX6_ok nmX6 1 (Nat.le_of_ble_eq_true rfl) q413 (fun _ h => h) rfl hnm rfl (by cases pg <;> rfl) (by cases pg <;> rfl) (Nat.le_of_ble_eq_true rfl) dX4_init_6 (fun H locs hH => ?_)
  have hH : jH E s.heap (up w a (t, .inr (4, [v0, va_rf pg, v2, v3, v4]))) H locs := hH
  have hf1 : (up w a (t, .inr (4, [v0, va_rf pg, v2, v3, v4]))) a = some (t, .inr (4, [v0, va_rf pg, v2, v3, v4])) := up_s
  exact hret () hH dX4_init_9 (Nat.le_of_ble_eq_true rfl) (Nat.le_of_ble_eq_true rfl) trivial
set_option maxHeartbeats 4000000 in
theorem m_X4_place_X6 {E : jE} (l : Launch) (w : Wl) (a : Nat) (t : Nat) (v0 : Value) (v1 : Value) (v2 : Value) (v3 : Value) (v4 : Value) (dx : Int) (dy : Int) (dz : Int) (h1 : w a = some (t, .inr (4, [v0, v1, v2, v3, v4]))) : Met l yX4_place (ws_ yX4_place cX4_place 4 none) (rmL 2 0 0) (va_Pc [.ref a, .int (iI dx), .int (iI dy), .int (iI dz)] (jP E w)) (jQv E (fun _ : Unit => up w a (t, .inr (4, [v0, v1, .int (iI dx), .int (iI dy), .int (iI dz)]))) (fun _ => True)) 0 0 (jA E) := by
  refine j_metV (by decide) (Nat.le_of_ble_eq_true rfl) ?_
  intro p e s m args below meth c Q hx hb hml hown hnm hts hV hH hret ls hl
  have hl : lv_has ls 4 [(0, .ref a), (1, .int (iI dx)), (2, .int (iI dy)), (3, .int (iI dz))] := hl
  refine lv_aload_n hx hb dX4_place_0 rfl (lv_at hl 0 rfl) ?_
  refine lv_iload_n hx hb dX4_place_1 rfl (lv_at hl 1 rfl) ?_
  refine j_put hx hb hts hown hV hH h1 rfl in_X6 tyX6 tyX6_ok nmX6 2 (Nat.le_of_ble_eq_true rfl) q416 (fun _ h => h) rfl rfl rfl (Nat.le_of_ble_eq_true rfl) dX4_place_2 (fun H locs hH => ?_)
  have hH : jH E s.heap (up w a (t, .inr (4, [v0, v1, .int (iI dx), v3, v4]))) H locs := hH
  have hf1 : (up w a (t, .inr (4, [v0, v1, .int (iI dx), v3, v4]))) a = some (t, .inr (4, [v0, v1, .int (iI dx), v3, v4])) := up_s
  refine lv_aload_n hx hb dX4_place_5 rfl (lv_at hl 0 rfl) ?_
  refine lv_iload_n hx hb dX4_place_6 rfl (lv_at hl 2 rfl) ?_
  refine j_put hx hb hts hown hV hH hf1 rfl in_X6 tyX6 tyX6_ok nmX6 3 (Nat.le_of_ble_eq_true rfl) q418 (fun _ h => h) rfl rfl rfl (Nat.le_of_ble_eq_true rfl) dX4_place_7 (fun H locs hH => ?_)
  have hH : jH E s.heap (up w a (t, .inr (4, [v0, v1, .int (iI dx), .int (iI dy), v4]))) H locs := up2 hH
  have hf2 : (up w a (t, .inr (4, [v0, v1, .int (iI dx), .int (iI dy), v4]))) a = some (t, .inr (4, [v0, v1, .int (iI dx), .int (iI dy), v4])) := up_s
  refine lv_aload_n hx hb dX4_place_10 rfl (lv_at hl 0 rfl) ?_
  refine lv_iload_n hx hb dX4_place_11 rfl (lv_at hl 3 rfl) ?_
  refine j_put hx hb hts hown hV hH hf2 rfl in_X6 tyX6 tyX6_ok nmX6 4 (Nat.le_of_ble_eq_true rfl) q420 (fun _ h => h) rfl rfl rfl (Nat.le_of_ble_eq_true rfl) dX4_place_12 (fun H locs hH => ?_)
  have hH : jH E s.heap (up w a (t, .inr (4, [v0, v1, .int (iI dx), .int (iI dy), .int (iI dz)]))) H locs := up2 hH
  have hf3 : (up w a (t, .inr (4, [v0, v1, .int (iI dx), .int (iI dy), .int (iI dz)]))) a = some (t, .inr (4, [v0, v1, .int (iI dx), .int (iI dy), .int (iI dz)])) := up_s
  exact hret () hH dX4_place_15 (Nat.le_of_ble_eq_true rfl) (Nat.le_of_ble_eq_true rfl) trivial
theorem cw_X6_init {R : Room} {s : State} {args : Array Value} {own : String} {index lev mc ms : Nat} (hts : ∀ w ∈ lw_all, w.before args s = true) (hl : Cond.methodLink own index yX6_init ∈ lw_all) (hR1 : (rmL lev mc ms).frames + 1 ≤ R.frames) (hR2 : 8 + (2 + 11) + (rmL lev mc ms).locals ≤ R.locals) : CallB R s args own index yX6_init cX6_init 2 none (ws_ yX6_init cX6_init 2 none) (rmL lev mc ms) mc ms 1 ∧ yX6_init.name = "<init>" ∧ (Cond.instanceMethod yX6_init).before args s = true :=
  cwI 1 hts (lw_meth q465) rfl rfl rfl (hts _ q133) (hts _ hl) (hts _ q464) rfl (by decide +kernel) ⟨hR1, hR2⟩
set_option maxHeartbeats 4000000 in
theorem m_X6_init {E : jE} (l : Launch) (w : Wl) (a : Nat) (t : Nat) (v0 : Value) (v1 : Value) (v2 : Value) (v3 : Value) (v4 : Value) (pg : Option Nat) (h1 : w a = some (t, .inr (4, [v0, v1, v2, v3, v4]))) : Met l yX6_init (ws_ yX6_init cX6_init 2 none) (rmL 3 0 0) (va_Pc [.ref a, va_rf pg] (jP E w)) (jQv E (fun _ : Unit => up w a (t, .inr (4, [v0, va_rf pg, v2, v3, v4]))) (fun _ => True)) 0 0 (jA E) := by
  refine j_metV (by decide) (by cases pg <;> exact Nat.le_of_ble_eq_true rfl) ?_
  intro p e s m args below meth c Q hx hb hml hown hnm hts hV hH hret ls hl
  have hl : lv_has ls 2 [(0, .ref a), (1, va_rf pg)] := by cases pg <;> exact hl
  refine lv_aload_n hx hb dX6_init_0 rfl (lv_at hl 0 rfl) ?_
  refine j_aload_n hx hb dX6_init_1 rfl (lv_at hl 1 rfl) ?_
  refine j_callvp (va_runI (As := [va_rf pg]) (rest := []) ⟨hx, hb, hml, hown, hts⟩ (m_X4_init_X6 l _ _ _ _ _ _ _ _ pg (h1)) (cw_X4_init hts q466 (Nat.le_of_ble_eq_true rfl) (Nat.le_of_ble_eq_true rfl)) (j_preS hV hH) rfl rfl hl.1 rfl (lv_room (Nat.le_of_ble_eq_true rfl)) dX6_init_2 ⟨Nat.le_of_ble_eq_true rfl, Nat.le_of_ble_eq_true rfl⟩) hH (fun H locs hH => ?_)
  have hH : jH E s.heap (up w a (t, .inr (4, [v0, va_rf pg, v2, v3, v4]))) H locs := hH
  have hf1 : (up w a (t, .inr (4, [v0, va_rf pg, v2, v3, v4]))) a = some (t, .inr (4, [v0, va_rf pg, v2, v3, v4])) := up_s
  exact hret () hH dX6_init_5 (Nat.le_of_ble_eq_true rfl) (Nat.le_of_ble_eq_true rfl) trivial
theorem cw_X5_init {R : Room} {s : State} {args : Array Value} {own : String} {index lev mc ms : Nat} (hts : ∀ w ∈ lw_all, w.before args s = true) (hl : Cond.methodLink own index yX5_init ∈ lw_all) (hR1 : (rmL lev mc ms).frames + 1 ≤ R.frames) (hR2 : 8 + (4 + 11) + (rmL lev mc ms).locals ≤ R.locals) : CallB R s args own index yX5_init cX5_init 4 none (ws_ yX5_init cX5_init 4 none) (rmL lev mc ms) mc ms 3 ∧ yX5_init.name = "<init>" ∧ (Cond.instanceMethod yX5_init).before args s = true :=
  cwI 3 hts (lw_meth q391) rfl rfl rfl (hts _ q132) (hts _ hl) (hts _ q390) rfl (by decide +kernel) ⟨hR1, hR2⟩
set_option maxHeartbeats 4000000 in
theorem m_X5_init {E : jE} (l : Launch) (w : Wl) (a : Nat) (t : Nat) (v0 : Value) (v1 : Value) (v2 : Value) (v3 : Value) (v4 : Value) (v5 : Value) (v6 : Value) (v7 : Value) (v8 : Value) (pg : Option Nat) (w1 : Int) (h1_ : Int) (h1 : w a = some (t, .inr (3, [v0, v1, v2, v3, v4, v5, v6, v7, v8]))) : Met l yX5_init (ws_ yX5_init cX5_init 4 none) (rmL 3 0 0) (va_Pc [.ref a, va_rf pg, .int (iI w1), .int (iI h1_)] (jP E w)) (jQv E (fun _ : Unit => up w a (t, .inr (3, [v0, va_rf pg, v2, v3, v4, .int (iI w1), .int (iI h1_), .int (iI 8), v8]))) (fun _ => True)) 0 0 (jA E) := by
  refine j_metV (by decide) (by cases pg <;> exact Nat.le_of_ble_eq_true rfl) ?_
  intro p e s m args below meth c Q hx hb hml hown hnm hts hV hH hret ls hl
  have hl : lv_has ls 4 [(0, .ref a), (1, va_rf pg), (2, .int (iI w1)), (3, .int (iI h1_))] := by cases pg <;> exact hl
  refine lv_aload_n hx hb dX5_init_0 rfl (lv_at hl 0 rfl) ?_
  refine j_aload_n hx hb dX5_init_1 rfl (lv_at hl 1 rfl) ?_
  refine j_callvp (va_runI (As := [va_rf pg]) (rest := []) ⟨hx, hb, hml, hown, hts⟩ (m_X4_init_X5 l _ _ _ _ _ _ _ _ _ _ _ _ pg (h1)) (cw_X4_init hts q392 (Nat.le_of_ble_eq_true rfl) (Nat.le_of_ble_eq_true rfl)) (j_preS hV hH) rfl rfl hl.1 rfl (lv_room (Nat.le_of_ble_eq_true rfl)) dX5_init_2 ⟨Nat.le_of_ble_eq_true rfl, Nat.le_of_ble_eq_true rfl⟩) hH (fun H locs hH => ?_)
  have hH : jH E s.heap (up w a (t, .inr (3, [v0, va_rf pg, v2, v3, v4, v5, v6, v7, v8]))) H locs := hH
  have hf1 : (up w a (t, .inr (3, [v0, va_rf pg, v2, v3, v4, v5, v6, v7, v8]))) a = some (t, .inr (3, [v0, va_rf pg, v2, v3, v4, v5, v6, v7, v8])) := up_s
  refine lv_aload_n hx hb dX5_init_5 rfl (lv_at hl 0 rfl) ?_
  refine j_bipush hx hb dX5_init_6 (by decide) ?_
  refine j_put hx hb hts hown hV hH hf1 rfl in_X5 tyX5 tyX5_ok nmX5 7 (Nat.le_of_ble_eq_true rfl) q400 (fun _ h => h) rfl rfl rfl (Nat.le_of_ble_eq_true rfl) dX5_init_8 (fun H locs hH => ?_)
  have hH : jH E s.heap (up w a (t, .inr (3, [v0, va_rf pg, v2, v3, v4, v5, v6, .int (iI 8), v8]))) H locs := up2 hH
  have hf2 : (up w a (t, .inr (3, [v0, va_rf pg, v2, v3, v4, v5, v6, .int (iI 8), v8]))) a = some (t, .inr (3, [v0, va_rf pg, v2, v3, v4, v5, v6, .int (iI 8), v8])) := up_s
  refine lv_aload_n hx hb dX5_init_11 rfl (lv_at hl 0 rfl) ?_
  refine lv_iload_n hx hb dX5_init_12 rfl (lv_at hl 2 rfl) ?_
  refine j_putF hx hb hts hown hV hH hf2 rfl in_X5 tyX5 tyX5_ok nmX5 5 (Nat.le_of_ble_eq_true rfl) q396 (fun _ h => h) rfl hnm rfl rfl rfl (Nat.le_of_ble_eq_true rfl) dX5_init_13 (fun H locs hH => ?_)
  have hH : jH E s.heap (up w a (t, .inr (3, [v0, va_rf pg, v2, v3, v4, .int (iI w1), v6, .int (iI 8), v8]))) H locs := up2 hH
  have hf3 : (up w a (t, .inr (3, [v0, va_rf pg, v2, v3, v4, .int (iI w1), v6, .int (iI 8), v8]))) a = some (t, .inr (3, [v0, va_rf pg, v2, v3, v4, .int (iI w1), v6, .int (iI 8), v8])) := up_s
  refine lv_aload_n hx hb dX5_init_16 rfl (lv_at hl 0 rfl) ?_
  refine lv_iload_n hx hb dX5_init_17 rfl (lv_at hl 3 rfl) ?_
  refine j_putF hx hb hts hown hV hH hf3 rfl in_X5 tyX5 tyX5_ok nmX5 6 (Nat.le_of_ble_eq_true rfl) q398 (fun _ h => h) rfl hnm rfl rfl rfl (Nat.le_of_ble_eq_true rfl) dX5_init_18 (fun H locs hH => ?_)
  have hH : jH E s.heap (up w a (t, .inr (3, [v0, va_rf pg, v2, v3, v4, .int (iI w1), .int (iI h1_), .int (iI 8), v8]))) H locs := up2 hH
  have hf4 : (up w a (t, .inr (3, [v0, va_rf pg, v2, v3, v4, .int (iI w1), .int (iI h1_), .int (iI 8), v8]))) a = some (t, .inr (3, [v0, va_rf pg, v2, v3, v4, .int (iI w1), .int (iI h1_), .int (iI 8), v8])) := up_s
  exact hret () hH dX5_init_21 (Nat.le_of_ble_eq_true rfl) (Nat.le_of_ble_eq_true rfl) trivial
