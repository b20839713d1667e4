/-! THE SYSTEM's METHODS: constructors -/
set_option maxRecDepth 100000
theorem up_up {w : Wl} {a : Nat} {c1 c2 : Nat × va_E} : up (up w a c1) a c2 = up w a c2 := by
  funext q
  unfold up
  by_cases h : q = a
  · rw [if_pos h, if_pos h]
  · rw [if_neg h, if_neg h, if_neg h]
theorem up2 {E : jE} {H0 H : Heap} {w : Wl} {locs : List Loc} {a : Nat} {c1 c2 : Nat × va_E} (h : jH E H0 (up (up w a c1) a c2) H locs) : jH E H0 (up w a c2) H locs := by rw [up_up] at h; exact h
theorem cw_X7_init {R : Room} {s : State} {args : Array Value} {own : String} {index lev mc ms : Nat} (hts : ∀ w ∈ lw_all, w.before args s = true) (hl : Cond.methodLink own index yX7_init ∈ lw_all) (hR1 : (rmL lev mc ms).frames + 1 ≤ R.frames) (hR2 : 8 + (4 + 11) + (rmL lev mc ms).locals ≤ R.locals) : CallB R s args own index yX7_init cX7_init 4 none (ws_ yX7_init cX7_init 4 none) (rmL lev mc ms) mc ms 3 ∧ yX7_init.name = "<init>" ∧ (Cond.instanceMethod yX7_init).before args s = true :=
  cwI 3 hts (lw_meth q1326) rfl rfl rfl (hts _ q144) (hts _ hl) (hts _ q1325) rfl (by decide +kernel) ⟨hR1, hR2⟩
set_option maxHeartbeats 4000000 in
theorem m_X7_init {E : jE} (l : Launch) (w : Wl) (a : Nat) (t : Nat) (v0 : Value) (v1 : Value) (v2 : Value) (least : Int) (greatest : Int) (ticks : Int) (h1 : w a = some (t, .inr (5, [v0, v1, v2]))) : Met l yX7_init (ws_ yX7_init cX7_init 4 none) (rmL 2 0 0) (va_Pc [.ref a, .int (iI least), .int (iI greatest), .int (iI ticks)] (jP E w)) (jQv E (fun _ : Unit => up w a (t, .inr (5, [.int (iI least), .int (iI greatest), .int (iI ticks)]))) (fun _ => True)) 0 0 (jA E) := by
  refine j_metV (by decide) (Nat.le_of_ble_eq_true rfl) ?_
  intro p e s m args below meth c Q hx hb hml hown hnm hts hV hH hret ls hl
  have hl : lv_has ls 4 [(0, .ref a), (1, .int (iI least)), (2, .int (iI greatest)), (3, .int (iI ticks))] := hl
  refine lv_aload_n hx hb dX7_init_0 rfl (lv_at hl 0 rfl) ?_
  refine j_oinit hx hb hts hown hml q1327 q158 q159 hl.1 dX7_init_1 (Nat.le_of_ble_eq_true rfl) (Nat.le_of_ble_eq_true rfl) ?_
  refine lv_aload_n hx hb dX7_init_4 rfl (lv_at hl 0 rfl) ?_
  refine lv_iload_n hx hb dX7_init_5 rfl (lv_at hl 1 rfl) ?_
  refine j_putF hx hb hts hown hV hH h1 rfl in_X7 tyX7 tyX7_ok nmX7 0 (Nat.le_of_ble_eq_true rfl) q1328 (fun _ h => h) rfl hnm rfl rfl rfl (Nat.le_of_ble_eq_true rfl) dX7_init_6 (fun H locs hH => ?_)
  have hH : jH E s.heap (up w a (t, .inr (5, [.int (iI least), v1, v2]))) H locs := hH
  have hf1 : (up w a (t, .inr (5, [.int (iI least), v1, v2]))) a = some (t, .inr (5, [.int (iI least), v1, v2])) := up_s
  refine lv_aload_n hx hb dX7_init_9 rfl (lv_at hl 0 rfl) ?_
  refine lv_iload_n hx hb dX7_init_10 rfl (lv_at hl 2 rfl) ?_
  refine j_putF hx hb hts hown hV hH hf1 rfl in_X7 tyX7 tyX7_ok nmX7 1 (Nat.le_of_ble_eq_true rfl) q1331 (fun _ h => h) rfl hnm rfl rfl rfl (Nat.le_of_ble_eq_true rfl) dX7_init_11 (fun H locs hH => ?_)
  have hH : jH E s.heap (up w a (t, .inr (5, [.int (iI least), .int (iI greatest), v2]))) H locs := up2 hH
  have hf2 : (up w a (t, .inr (5, [.int (iI least), .int (iI greatest), v2]))) a = some (t, .inr (5, [.int (iI least), .int (iI greatest), v2])) := up_s
  refine lv_aload_n hx hb dX7_init_14 rfl (lv_at hl 0 rfl) ?_
  refine lv_iload_n hx hb dX7_init_15 rfl (lv_at hl 3 rfl) ?_
  refine j_putF hx hb hts hown hV hH hf2 rfl in_X7 tyX7 tyX7_ok nmX7 2 (Nat.le_of_ble_eq_true rfl) q1334 (fun _ h => h) rfl hnm rfl rfl rfl (Nat.le_of_ble_eq_true rfl) dX7_init_16 (fun H locs hH => ?_)
  have hH : jH E s.heap (up w a (t, .inr (5, [.int (iI least), .int (iI greatest), .int (iI ticks)]))) H locs := up2 hH
  have hf3 : (up w a (t, .inr (5, [.int (iI least), .int (iI greatest), .int (iI ticks)]))) a = some (t, .inr (5, [.int (iI least), .int (iI greatest), .int (iI ticks)])) := up_s
  exact hret () hH dX7_init_19 (Nat.le_of_ble_eq_true rfl) (Nat.le_of_ble_eq_true rfl) trivial
theorem cw_X8_init {R : Room} {s : State} {args : Array Value} {own : String} {index lev mc ms : Nat} (hts : ∀ w ∈ lw_all, w.before args s = true) (hl : Cond.methodLink own index yX8_init ∈ lw_all) (hR1 : (rmL lev mc ms).frames + 1 ≤ R.frames) (hR2 : 8 + (4 + 11) + (rmL lev mc ms).locals ≤ R.locals) : CallB R s args own index yX8_init cX8_init 4 none (ws_ yX8_init cX8_init 4 none) (rmL lev mc ms) mc ms 3 ∧ yX8_init.name = "<init>" ∧ (Cond.instanceMethod yX8_init).before args s = true :=
  cwI 3 hts (lw_meth q1362) rfl rfl rfl (hts _ q145) (hts _ hl) (hts _ q1361) rfl (by decide +kernel) ⟨hR1, hR2⟩
set_option maxHeartbeats 4000000 in
theorem m_X8_init {E : jE} (l : Launch) (w : Wl) (a : Nat) (t : Nat) (v0 : Value) (v1 : Value) (v2 : Value) (x1 : Int) (y1 : Int) (n1 : Int) (h1 : w a = some (t, .inr (6, [v0, v1, v2]))) : Met l yX8_init (ws_ yX8_init cX8_init 4 none) (rmL 2 0 0) (va_Pc [.ref a, .int (iI x1), .int (iI y1), .int (iI n1)] (jP E w)) (jQv E (fun _ : Unit => up w a (t, .inr (6, [.int (iI x1), .int (iI y1), .int (iI n1)]))) (fun _ => True)) 0 0 (jA E) := by
  refine j_metV (by decide) (Nat.le_of_ble_eq_true rfl) ?_
  intro p e s m args below meth c Q hx hb hml hown hnm hts hV hH hret ls hl
  have hl : lv_has ls 4 [(0, .ref a), (1, .int (iI x1)), (2, .int (iI y1)), (3, .int (iI n1))] := hl
  refine lv_aload_n hx hb dX8_init_0 rfl (lv_at hl 0 rfl) ?_
  refine j_oinit hx hb hts hown hml q1363 q158 q159 hl.1 dX8_init_1 (Nat.le_of_ble_eq_true rfl) (Nat.le_of_ble_eq_true rfl) ?_
  refine lv_aload_n hx hb dX8_init_4 rfl (lv_at hl 0 rfl) ?_
  refine lv_iload_n hx hb dX8_init_5 rfl (lv_at hl 1 rfl) ?_
  refine j_putF hx hb hts hown hV hH h1 rfl in_X8 tyX8 tyX8_ok nmX8 0 (Nat.le_of_ble_eq_true rfl) q1364 (fun _ h => h) rfl hnm rfl rfl rfl (Nat.le_of_ble_eq_true rfl) dX8_init_6 (fun H locs hH => ?_)
  have hH : jH E s.heap (up w a (t, .inr (6, [.int (iI x1), v1, v2]))) H locs := hH
  have hf1 : (up w a (t, .inr (6, [.int (iI x1), v1, v2]))) a = some (t, .inr (6, [.int (iI x1), v1, v2])) := up_s
  refine lv_aload_n hx hb dX8_init_9 rfl (lv_at hl 0 rfl) ?_
  refine lv_iload_n hx hb dX8_init_10 rfl (lv_at hl 2 rfl) ?_
  refine j_putF hx hb hts hown hV hH hf1 rfl in_X8 tyX8 tyX8_ok nmX8 1 (Nat.le_of_ble_eq_true rfl) q1366 (fun _ h => h) rfl hnm rfl rfl rfl (Nat.le_of_ble_eq_true rfl) dX8_init_11 (fun H locs hH => ?_)
  have hH : jH E s.heap (up w a (t, .inr (6, [.int (iI x1), .int (iI y1), v2]))) H locs := up2 hH
  have hf2 : (up w a (t, .inr (6, [.int (iI x1), .int (iI y1), v2]))) a = some (t, .inr (6, [.int (iI x1), .int (iI y1), v2])) := up_s
  refine lv_aload_n hx hb dX8_init_14 rfl (lv_at hl 0 rfl) ?_
  refine lv_iload_n hx hb dX8_init_15 rfl (lv_at hl 3 rfl) ?_
  refine j_putF hx hb hts hown hV hH hf2 rfl in_X8 tyX8 tyX8_ok nmX8 2 (Nat.le_of_ble_eq_true rfl) q1368 (fun _ h => h) rfl hnm rfl rfl rfl (Nat.le_of_ble_eq_true rfl) dX8_init_16 (fun H locs hH => ?_)
  have hH : jH E s.heap (up w a (t, .inr (6, [.int (iI x1), .int (iI y1), .int (iI n1)]))) H locs := up2 hH
  have hf3 : (up w a (t, .inr (6, [.int (iI x1), .int (iI y1), .int (iI n1)]))) a = some (t, .inr (6, [.int (iI x1), .int (iI y1), .int (iI n1)])) := up_s
  exact hret () hH dX8_init_19 (Nat.le_of_ble_eq_true rfl) (Nat.le_of_ble_eq_true rfl) trivial
