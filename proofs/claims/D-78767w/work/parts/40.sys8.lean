/-! THE SYSTEM's METHODS: a ranking, read -/
set_option maxRecDepth 100000
theorem cw_X10_size {R : Room} {s : State} {args : Array Value} {own : String} {index lev mc ms : Nat} (hts : ∀ w ∈ lw_all, w.before args s = true) (hl : Cond.methodLink own index yX10_size ∈ lw_all) (hR1 : (rmL lev mc ms).frames + 1 ≤ R.frames) (hR2 : 8 + (1 + 11) + (rmL lev mc ms).locals ≤ R.locals) : CallW R s args own RX10 index yX10_size cX10_size 1 (some .int) (ws_ yX10_size cX10_size 1 (some .int)) (rmL lev mc ms) mc ms 0 :=
  cwV 0 hts (lw_V hl q1810 q1811 q147 q1812) rfl rfl rfl (by decide +kernel) ⟨hR1, hR2⟩
set_option maxHeartbeats 4000000 in
theorem m_X10_size {E : jE} (l : Launch) (w : Wl) (a : Nat) (ra : Nat) (b : Nat) (t : Nat) (mo : Int) (n1 : Int) (h1 : w a = some (t, .inr (8, [.ref ra]))) (h2 : w ra = some (t, .inr (10, [.int (iI mo), .ref b, .int (iI n1)]))) : Met l yX10_size (ws_ yX10_size cX10_size 1 (some .int)) (rmL 2 0 0) (va_Pc [.ref a] (jP E w)) (jQi E (fun _ : Unit => w) (fun z _ => z = n1)) 0 0 (jA E) := by
  refine j_metI (by decide) (Nat.le_of_ble_eq_true rfl) ?_
  intro p e s m args below meth c Q hx hb hml hown hnm hts hV hH hret ls hl
  have hl : lv_has ls 1 [(0, .ref a)] := hl
  refine lv_aload_n hx hb dX10_size_0 rfl (lv_at hl 0 rfl) ?_
  refine j_get hx hb hts hown hV hH h1 rfl in_X10 0 (Nat.le_of_ble_eq_true rfl) q1556 (fun _ h => h) rfl dX10_size_1 ?_
  refine j_callip (va_runV (As := []) (rest := []) ⟨hx, hb, hml, hown, hts⟩ (m_J2_size l _ _ _ _ _ _ (h2)) (cw_J2_size hts q1583 (Nat.le_of_ble_eq_true rfl) (Nat.le_of_ble_eq_true rfl)) (j_preV hV hH h2 rfl) rfl rfl hl.1 rfl (lv_room (Nat.le_of_ble_eq_true rfl)) dX10_size_4 ⟨Nat.le_of_ble_eq_true rfl, Nat.le_of_ble_eq_true rfl⟩) hH (fun H locs hH => ?_)
  exact hret () hH dX10_size_7 (Nat.le_of_ble_eq_true rfl) (Nat.le_of_ble_eq_true rfl) (by first | rfl | omega)
theorem cw_X10_at {R : Room} {s : State} {args : Array Value} {own : String} {index lev mc ms : Nat} (hts : ∀ w ∈ lw_all, w.before args s = true) (hl : Cond.methodLink own index yX10_at ∈ lw_all) (hR1 : (rmL lev mc ms).frames + 1 ≤ R.frames) (hR2 : 8 + (2 + 11) + (rmL lev mc ms).locals ≤ R.locals) : CallW R s args own RX10 index yX10_at cX10_at 2 (some (.object "java/lang/Comparable")) (ws_ yX10_at cX10_at 2 (some (.object "java/lang/Comparable"))) (rmL lev mc ms) mc ms 1 :=
  cwV 1 hts (lw_V hl q1814 q1815 q147 q1816) rfl rfl rfl (by decide +kernel) ⟨hR1, hR2⟩
set_option maxHeartbeats 4000000 in
theorem m_X10_at {E : jE} (l : Launch) (w : Wl) (a : Nat) (ra : Nat) (b : Nat) (t : Nat) (mo : Int) (n1 : Int) (cap : Nat) (g : Int → Option Nat) (P : Int → Int) (f : Int → Nat) (sh : Int → Int) (n : Int) (k : Int) (h1 : w a = some (t, .inr (8, [.ref ra]))) (h2 : w ra = some (t, .inr (10, [.int (iI mo), .ref b, .int (iI n1)]))) (h3 : w b = some (t, arQ E cap g)) (h4 : 0 ≤ k ∧ k < n1) (h5 : n1 ≤ (cap : Int) ∧ n1 ≤ 1000000) (h6 : g k = some (f n)) (h7 : w (f n) = some (t, ndB P f sh n)) : Met l yX10_at (ws_ yX10_at cX10_at 2 (some (.object "java/lang/Comparable"))) (rmL 4 0 0) (va_Pc [.ref a, .int (iI k)] (jP E w)) (jQq E (fun _ : Unit => w) (fun z _ => z = some (f n))) 0 0 (jA E) := by
  refine j_metQ (by decide) (Nat.le_of_ble_eq_true rfl) (Or.inl ⟨_, rfl⟩) ?_
  intro p e s m args below meth c Q hx hb hml hown hnm hts hV hH hret ls hl
  have hl : lv_has ls 2 [(0, .ref a), (1, .int (iI k))] := hl
  refine lv_aload_n hx hb dX10_at_0 rfl (lv_at hl 0 rfl) ?_
  refine j_get hx hb hts hown hV hH h1 rfl in_X10 0 (Nat.le_of_ble_eq_true rfl) q1556 (fun _ h => h) rfl dX10_at_1 ?_
  refine lv_iload_n hx hb dX10_at_4 rfl (lv_at hl 1 rfl) ?_
  refine j_callqp (va_runV (As := [.int (iI k)]) (rest := []) ⟨hx, hb, hml, hown, hts⟩ (m_J2_get l _ _ _ _ _ _ _ _ k (h2) (h3) (by omega) (by omega)) (cw_J2_get hts q1584 (Nat.le_of_ble_eq_true rfl) (Nat.le_of_ble_eq_true rfl)) (j_preV hV hH h2 rfl) rfl rfl hl.1 rfl (lv_room (Nat.le_of_ble_eq_true rfl)) dX10_at_5 ⟨Nat.le_of_ble_eq_true rfl, Nat.le_of_ble_eq_true rfl⟩) hH (fun H locs hH => ?_)
  rw [h6]
  refine j_cast hx hb hts hown hV hH h7 rfl q1817 (hV.2.1 _ q1589 rfl) dX10_at_8 ?_
  exact hret (some (f n)) () hH dX10_at_11 (Nat.le_of_ble_eq_true rfl) (Nat.le_of_ble_eq_true rfl) (by first | rfl | omega)
