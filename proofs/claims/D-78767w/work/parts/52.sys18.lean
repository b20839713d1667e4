/-! THE SYSTEM's METHODS: nodes move, time goes on -/
set_option maxRecDepth 100000
theorem movP_nd {P : Int → Int} {n x y z : Int} (k : Int) : nd (movP P n x y z) n k = if k = 1 then x else if k = 2 then y else if k = 3 then z else nd P n k := by
  simp only [nd, movP, upz]
  repeat' split
  all_goals first | rfl | omega
theorem movP_o {P : Int → Int} {n m x y z k : Int} (h : m ≠ n) (h0 : 0 ≤ k) (h7 : k < 7) : nd (movP P n x y z) m k = nd P m k := by
  simp only [nd, movP, upz]
  rw [if_neg (by omega), if_neg (by omega), if_neg (by omega)]
theorem movP_pa {P : Int → Int} {f : Int → Nat} {n x y z : Int} : paO (movP P n x y z) f n = paO P f n := by
  unfold paO
  rw [movP_nd]
  rfl
theorem movP_B {P : Int → Int} {f : Int → Nat} {sh : Int → Int} {n x y z : Int} : ndB (movP P n x y z) f sh n = .inr (3, [.int (iI n), va_rf (paO P f n), .int (iI x), .int (iI y), .int (iI z), .int (iI (nd P n 4)), .int (iI (nd P n 5)), .int (iI (nd P n 6)), .int (iI (sh n))]) := by
  unfold ndB
  rw [movP_pa, movP_nd, movP_nd, movP_nd, movP_nd, movP_nd, movP_nd]
  rfl
theorem movP_G {P : Int → Int} {f : Int → Nat} {n x y z : Int} : ndG (movP P n x y z) f n = .inr (4, [.int (iI n), va_rf (paO P f n), .int (iI x), .int (iI y), .int (iI z)]) := by
  unfold ndG
  rw [movP_pa, movP_nd, movP_nd, movP_nd]
  rfl
theorem shdP_nd {P : Int → Int} {n x : Int} (k : Int) : nd (shdP P n x) n k = if k = 6 then x else nd P n k := by
  simp only [nd, shdP, upz]
  split <;> split
  all_goals first | rfl | omega
theorem shdP_o {P : Int → Int} {n m x k : Int} (h : m ≠ n) (h0 : 0 ≤ k) (h7 : k < 7) : nd (shdP P n x) m k = nd P m k := by
  simp only [nd, shdP, upz]
  rw [if_neg (by omega)]
theorem shdP_B {P : Int → Int} {f : Int → Nat} {sh : Int → Int} {n x : Int} : ndB (shdP P n x) f sh n = .inr (3, [.int (iI n), va_rf (paO P f n), .int (iI (nd P n 1)), .int (iI (nd P n 2)), .int (iI (nd P n 3)), .int (iI (nd P n 4)), .int (iI (nd P n 5)), .int (iI x), .int (iI (sh n))]) := by
  have hp : paO (shdP P n x) f n = paO P f n := by unfold paO; rw [shdP_nd]; rfl
  unfold ndB
  rw [hp, shdP_nd, shdP_nd, shdP_nd, shdP_nd, shdP_nd, shdP_nd]
  rfl
theorem movP_u {P : Int → Int} {n x y z b : Int} (h0 : 0 ≤ n) (h : b < 14) : movP P n x y z b = P b := by
  unfold movP
  rw [upz_n (by omega), upz_n (by omega), upz_n (by omega)]
theorem movP_v {P : Int → Int} {n x y z b : Int} (h0 : n < 20) (h : 174 ≤ b) : movP P n x y z b = P b := by
  unfold movP
  rw [upz_n (by omega), upz_n (by omega), upz_n (by omega)]
theorem shdP_u {P : Int → Int} {n x b : Int} (h0 : 0 ≤ n) (h : b < 14) : shdP P n x b = P b := by
  unfold shdP
  rw [upz_n (by omega)]
theorem shdP_v {P : Int → Int} {n x b : Int} (h0 : n < 20) (h : 174 ≤ b) : shdP P n x b = P b := by
  unfold shdP
  rw [upz_n (by omega)]
theorem cwu0_X4_place_X2_120_X5 {R : Room} {s : State} {args : Array Value} {k mc ms : Nat} (hts : ∀ w ∈ lw_all, w.before args s = true) (hR1 : k + 1 ≤ R.frames) (hR2 : 8 + (4 + 11) + 96 * k ≤ R.locals) : va_CU R s args "EyeStage$Stage" RX5 "EyeStage$Part" 120 ⟨"EyeStage$Part", "place", "(III)V"⟩ yX4_place cX4_place 4 none (ws_ yX4_place cX4_place 4 none) (rmL k mc ms) mc ms 3 :=
  va_cwU 3 hts (lw_U q1296 q450 q451 q449 q131 q453) rfl rfl rfl rfl (by decide +kernel) ⟨hR1, hR2⟩
theorem cwu0_X4_place_X2_120_X6 {R : Room} {s : State} {args : Array Value} {k mc ms : Nat} (hts : ∀ w ∈ lw_all, w.before args s = true) (hR1 : k + 1 ≤ R.frames) (hR2 : 8 + (4 + 11) + 96 * k ≤ R.locals) : va_CU R s args "EyeStage$Stage" RX6 "EyeStage$Part" 120 ⟨"EyeStage$Part", "place", "(III)V"⟩ yX4_place cX4_place 4 none (ws_ yX4_place cX4_place 4 none) (rmL k mc ms) mc ms 3 :=
  va_cwU 3 hts (lw_U q1296 q450 q452 q449 q131 q453) rfl rfl rfl rfl (by decide +kernel) ⟨hR1, hR2⟩
theorem cw_X2_move {R : Room} {s : State} {args : Array Value} {own : String} {index lev mc ms : Nat} (hts : ∀ w ∈ lw_all, w.before args s = true) (hl : Cond.methodLink own index yX2_move ∈ lw_all) (hR1 : (rmL lev mc ms).frames + 1 ≤ R.frames) (hR2 : 8 + (7 + 11) + (rmL lev mc ms).locals ≤ R.locals) : CallW R s args own RX2 index yX2_move cX2_move 7 (some .int) (ws_ yX2_move cX2_move 7 (some .int)) (rmL lev mc ms) mc ms 4 :=
  cwV 4 hts (lw_V hl q1303 q1304 q109 q1305) rfl rfl rfl (by decide +kernel) ⟨hR1, hR2⟩
set_option maxHeartbeats 4000000 in
theorem m_X2_move {E : jE} (l : Launch) (w : Wl) (t : Nat) (a : Nat) (T : Int) (P : Int → Int) (f : Int → Nat) (sh : Int → Int) (n1 : Int) (dx : Int) (dy : Int) (dz : Int) (h1 : PWF T P) (h2 : StA E w t a P f sh) (h3 : T ≤ 900000000) (h4 : 3 ≤ t) (h5 : 0 ≤ n1 ∧ n1 < P 2) (h6 : (-200 ≤ dx ∧ dx ≤ 200) ∧ (-200 ≤ dy ∧ dy ≤ 200) ∧ -200 ≤ dz ∧ dz ≤ 200) : Met l yX2_move (ws_ yX2_move cX2_move 7 (some .int)) (rmL 5 0 0) (va_Pc [.ref a, .int (iI n1), .int (iI dx), .int (iI dy), .int (iI dz)] (jP E w)) (jQi E (fun u : Wl => u) (fun z u => z = nd P n1 3 ∧ (StA E u t a (movP P n1 dx dy dz) f sh) ∧ FR (fun T k => T = t ∨ T = 2) w u)) 0 0 (jA E) := by
  refine j_metI (by decide) (Nat.le_of_ble_eq_true rfl) ?_
  intro p e s m args below meth c Q hx hb hml hown hnm hts hV hH hret ls hl
  have hl : lv_has ls 7 [(0, .ref a), (1, .int (iI n1)), (2, .int (iI dx)), (3, .int (iI dy)), (4, .int (iI dz))] := hl
  have h0 := hH.1.2
  have hR0 := hH.1
  have hk : FR (fun T k => T = t ∨ T = 2) w w := FR.rf
  have hP := h1
  have hS := h2
  have hS0 := h2
  obtain ⟨nl, sl, stt, ar, tlo, mo, mo2, ch, se, ha, hnl, hAD, hT, hsl, hLQ, hSc, hst, hti⟩ := hS0
  have hA := hP.A
  have hB := hP.B
  have hC := hP.C
  have hT0 := h3
  have f1 : w a = some (t, .inr (1, [.int (iI (P 0)), .int (iI (P 1)), .ref nl, .ref sl, .ref stt, va_rf tlo, .int (iI (P 4)), .int (iI (P 5)), .int (iI (P 6))])) := ha
  have f2 : w nl = some (t, .inr (10, [.int (iI mo), .ref ar, .int (iI (P 2))])) := hnl
  have f3 : w sl = some (t, .inr (12, [.int (iI mo2), .int (iI (P 3)), va_rf (hdO (P 3) ch 0), va_rf (prO ch (P 3))])) := hsl
  have f4 : w stt = some (t, arI E 4 (sg4 P)) := hst
  have p5 : AD E w t ar (P 2) f := hAD
  have p6 : TRE w t P f sh := hT
  have p7 : LQ w t (P 3) ch se := hLQ
  have p8 : ScO w P se := hSc
  have p9 : titO w P tlo := hti
  refine lv_aload_n hx hb dX2_move_0 rfl (lv_at hl 0 rfl) ?_
  refine lv_iload_n hx hb dX2_move_1 rfl (lv_at hl 1 rfl) ?_
  refine j_callqp (va_runV (As := [.int (iI n1)]) (rest := []) ⟨hx, hb, hml, hown, hts⟩ (m_X2_node l _ t a _ _ _ _ n1 (hP) (⟨nl, sl, stt, ar, tlo, mo, mo2, _, _, f1, f2, p5, p6, f3, p7, p8, f4, p9⟩) (by omega) (by omega)) (cw_X2_node hts q1259 (Nat.le_of_ble_eq_true rfl) (Nat.le_of_ble_eq_true rfl)) (j_preV hV hH f1 rfl) rfl rfl hl.1 rfl (lv_room (Nat.le_of_ble_eq_true rfl)) dX2_move_2 ⟨Nat.le_of_ble_eq_true rfl, Nat.le_of_ble_eq_true rfl⟩) hH (fun H locs hH => ?_)
  by_cases hbx : 0 < nd P n1 4
  · have f10 : w (f n1) = some (t, .inr (3, [.int (iI n1), va_rf (paO P f n1), .int (iI (nd P n1 1)), .int (iI (nd P n1 2)), .int (iI (nd P n1 3)), .int (iI (nd P n1 4)), .int (iI (nd P n1 5)), .int (iI (nd P n1 6)), .int (iI (sh n1))])) := (hT n1 (by omega) (by omega)).1 hbx
    refine lv_astore (lv' := [(5, .ref (f n1)), (0, .ref a), (1, .int (iI n1)), (2, .int (iI dx)), (3, .int (iI dy)), (4, .int (iI dz))]) hx hb dX2_move_5 hl (by decide) rfl (fun ls hl => ?_)
    refine lv_iload_n hx hb dX2_move_7 rfl (lv_at hl 3 rfl) ?_
    refine lv_iload_n hx hb dX2_move_8 rfl (lv_at hl 4 rfl) ?_
    refine lv_iload hx hb dX2_move_9 (lv_at hl 5 rfl) ?_
    refine j_callip (va_runSN (As := [.int (iI dx), .int (iI dy), .int (iI dz)]) (rest := []) ⟨hx, hb, hml, hown, hts⟩ (m_X1_isPlace l _ dx dy dz (by omega) (by omega) (by omega)) ⟨va_cnB 3 hts (lw_meth q1253) rfl rfl rfl (hV.2.1 _ q1251 rfl) (hts _ q108) (by decide +kernel) ⟨(Nat.le_of_ble_eq_true rfl), (Nat.le_of_ble_eq_true rfl)⟩, hts _ q1252, trivial⟩ (j_preS hV hH) rfl rfl hl.1 rfl (lv_room (Nat.le_of_ble_eq_true rfl)) dX2_move_11 ⟨Nat.le_of_ble_eq_true rfl, Nat.le_of_ble_eq_true rfl⟩) hH (fun H locs hH => ?_)
    refine va_ldcS hx hb hown (hV.2.2.2.2.2.1 _ (List.mem_of_getElem? (i := 31) rfl)) dX2_move_14 ?_
    refine j_callvp (va_runSN (As := [.int (iI (bI ((-200 ≤ dx ∧ dx ≤ 200) ∧ (-200 ≤ dy ∧ dy ≤ 200) ∧ -200 ≤ dz ∧ dz ≤ 200))), .ref (E.2.2.2 (1 + 16))]) (rest := []) ⟨hx, hb, hml, hown, hts⟩ (m_X1_requireArgument l _ ((-200 ≤ dx ∧ dx ≤ 200) ∧ (-200 ≤ dy ∧ dy ≤ 200) ∧ -200 ≤ dz ∧ dz ≤ 200) (E.2.2.2 (1 + 16)) (by omega)) ⟨va_cnB 2 hts (lw_meth q1238) rfl rfl rfl (hV.2.1 _ q1270 rfl) (hts _ q108) (by decide +kernel) ⟨(Nat.le_of_ble_eq_true rfl), (Nat.le_of_ble_eq_true rfl)⟩, hts _ q1237, trivial⟩ (j_preS hV hH) rfl rfl hl.1 rfl (lv_room (Nat.le_of_ble_eq_true rfl)) dX2_move_16 ⟨Nat.le_of_ble_eq_true rfl, Nat.le_of_ble_eq_true rfl⟩) hH (fun H locs hH => ?_)
    refine lv_aload hx hb dX2_move_19 (lv_at hl 0 rfl) ?_
    refine j_get hx hb hts hown hV hH f10 rfl in_X5 4 (Nat.le_of_ble_eq_true rfl) q421 (fun _ h => h) rfl dX2_move_21 ?_
    refine j_istore (lv' := fun x11 => [(6, .int (iI x11)), (5, .ref (f n1)), (0, .ref a), (1, .int (iI n1)), (2, .int (iI dx)), (3, .int (iI dy)), (4, .int (iI dz))]) hx hb dX2_move_24 hl (by decide) (fun _ => rfl) (fun x11 ex11 ls hl => ?_)
    refine lv_aload hx hb dX2_move_26 (lv_at hl 1 rfl) ?_
    refine lv_iload_n hx hb dX2_move_28 rfl (lv_at hl 4 rfl) ?_
    refine lv_iload_n hx hb dX2_move_29 rfl (lv_at hl 5 rfl) ?_
    refine lv_iload hx hb dX2_move_30 (lv_at hl 6 rfl) ?_
    refine j_callvp (va_runU (As := [.int (iI dx), .int (iI dy), .int (iI dz)]) (rest := []) ⟨hx, hb, hml, hown, hts⟩ (m_X4_place_X5 l _ _ _ _ _ _ _ _ _ _ _ _ dx dy dz (f10)) (cwu0_X4_place_X2_120_X5 hts (Nat.le_of_ble_eq_true rfl) (Nat.le_of_ble_eq_true rfl)) (j_preV hV hH f10 rfl) rfl rfl hl.1 rfl (lv_room (Nat.le_of_ble_eq_true rfl)) dX2_move_32 ⟨Nat.le_of_ble_eq_true rfl, Nat.le_of_ble_eq_true rfl⟩) hH (fun H locs hH => ?_)
    obtain ⟨V12, eV12⟩ : ∃ V_ : Wl, V_ = up w (f n1) (t, .inr (3, [.int (iI n1), va_rf (paO P f n1), .int (iI dx), .int (iI dy), .int (iI dz), .int (iI (nd P n1 4)), .int (iI (nd P n1 5)), .int (iI (nd P n1 6)), .int (iI (sh n1))])) := ⟨_, rfl⟩
    have hH := jH_eq hH eV12
    have hs13 : FR (fun T k => T = t ∧ k = 13) w V12 := by rw [eV12]; exact FR.one f10 rfl rfl
    have f14 : V12 a = some (t, .inr (1, [.int (iI (P 0)), .int (iI (P 1)), .ref nl, .ref sl, .ref stt, va_rf tlo, .int (iI (P 4)), .int (iI (P 5)), .int (iI (P 6))])) := hs13.at f1 (k := 11) rfl (by first | exact not_false | (intro q_; simp at q_; done) | omega)
    have f15 : V12 nl = some (t, .inr (10, [.int (iI mo), .ref ar, .int (iI (P 2))])) := hs13.at f2 (k := 20) rfl (by first | exact not_false | (intro q_; simp at q_; done) | omega)
    have f16 : V12 sl = some (t, .inr (12, [.int (iI mo2), .int (iI (P 3)), va_rf (hdO (P 3) ch 0), va_rf (prO ch (P 3))])) := hs13.at f3 (k := 22) rfl (by first | exact not_false | (intro q_; simp at q_; done) | omega)
    have f17 : V12 stt = some (t, arI E 4 (sg4 P)) := hs13.at f4 (k := 0) rfl (by first | exact not_false | (intro q_; simp at q_; done) | omega)
    have p18 : AD E V12 t ar (P 2) f := AD.kp p5 hs13 (by intro T k h_; first | exact h_.elim | (obtain ⟨-, rfl⟩ := h_; simp; done) | omega)
    have p19 : TRE V12 t (movP P n1 dx dy dz) f sh := TRE.upd p6 (by omega) (movP_u (by omega) (by omega)) (by omega) (by omega) eV12 (fun q_ => by first | exact movP_B.symm | (exfalso; rw [movP_nd] at q_; simp at q_; omega)) (fun q_ => by first | exact movP_G.symm | (exfalso; rw [movP_nd] at q_; simp at q_; omega)) (fun m k h1_ h2_ h3_ h4_ h5_ => movP_o h3_ h4_ h5_) (fun m _ _ _ => rfl)
    have p20 : LQ V12 t (P 3) ch se := LQ.kp p7 hs13 (by intro T k h_; first | exact h_.elim | (obtain ⟨-, rfl⟩ := h_; simp; done) | omega)
    have p21 : ScO V12 P se := ScO.kp p8 hs13 (by intro T k h_; first | exact h_.elim | (obtain ⟨-, rfl⟩ := h_; simp; done) | omega)
    have p22 : titO V12 P tlo := titO.kp p9 hs13 (by intro T k h_; first | exact h_.elim | (obtain ⟨-, rfl⟩ := h_; simp; done) | omega)
    have f23 : V12 (f n1) = some (t, .inr (3, [.int (iI n1), va_rf (paO P f n1), .int (iI dx), .int (iI dy), .int (iI dz), .int (iI (nd P n1 4)), .int (iI (nd P n1 5)), .int (iI (nd P n1 6)), .int (iI (sh n1))])) := by rw [eV12]; exact up_s
    have hk : FR (fun T k => T = t ∨ T = 2) w V12 := FR.tr hk hs13 (by intro T k h_; first | exact h_.elim | (obtain ⟨rfl, rfl⟩ := h_; simp; done) | omega)
    refine lv_iload hx hb dX2_move_35 (lv_at hl 0 rfl) ?_
    exact hret V12 hH dX2_move_37 (Nat.le_of_ble_eq_true rfl) (Nat.le_of_ble_eq_true rfl) (⟨by omega, StA.mk f14 f15 p18 p19 f16 p20 (ScO.ag p21 (movP_u (by omega) (by omega)) (fun s k h1_ h2_ h3_ h4_ => movP_v (by omega) (by omega))) f17 (titO.ag p22 (movP_u (by omega) (by omega)) (movP_u (by omega) (by omega)) (movP_u (by omega) (by omega))) (movP_u (by omega) (by omega)).symm (movP_u (by omega) (by omega)).symm (movP_u (by omega) (by omega)).symm (movP_u (by omega) (by omega)).symm (movP_u (by omega) (by omega)).symm (movP_u (by omega) (by omega)).symm (movP_u (by omega) (by omega)).symm (sg4_ex (movP_u (by omega) (by omega)) (movP_u (by omega) (by omega)) (movP_u (by omega) (by omega)) (movP_u (by omega) (by omega))), hk⟩)
  · have f24 : w (f n1) = some (t, .inr (4, [.int (iI n1), va_rf (paO P f n1), .int (iI (nd P n1 1)), .int (iI (nd P n1 2)), .int (iI (nd P n1 3))])) := (hT n1 (by omega) (by omega)).2 hbx
    refine lv_astore (lv' := [(5, .ref (f n1)), (0, .ref a), (1, .int (iI n1)), (2, .int (iI dx)), (3, .int (iI dy)), (4, .int (iI dz))]) hx hb dX2_move_5 hl (by decide) rfl (fun ls hl => ?_)
    refine lv_iload_n hx hb dX2_move_7 rfl (lv_at hl 3 rfl) ?_
    refine lv_iload_n hx hb dX2_move_8 rfl (lv_at hl 4 rfl) ?_
    refine lv_iload hx hb dX2_move_9 (lv_at hl 5 rfl) ?_
    refine j_callip (va_runSN (As := [.int (iI dx), .int (iI dy), .int (iI dz)]) (rest := []) ⟨hx, hb, hml, hown, hts⟩ (m_X1_isPlace l _ dx dy dz (by omega) (by omega) (by omega)) ⟨va_cnB 3 hts (lw_meth q1253) rfl rfl rfl (hV.2.1 _ q1251 rfl) (hts _ q108) (by decide +kernel) ⟨(Nat.le_of_ble_eq_true rfl), (Nat.le_of_ble_eq_true rfl)⟩, hts _ q1252, trivial⟩ (j_preS hV hH) rfl rfl hl.1 rfl (lv_room (Nat.le_of_ble_eq_true rfl)) dX2_move_11 ⟨Nat.le_of_ble_eq_true rfl, Nat.le_of_ble_eq_true rfl⟩) hH (fun H locs hH => ?_)
    refine va_ldcS hx hb hown (hV.2.2.2.2.2.1 _ (List.mem_of_getElem? (i := 31) rfl)) dX2_move_14 ?_
    refine j_callvp (va_runSN (As := [.int (iI (bI ((-200 ≤ dx ∧ dx ≤ 200) ∧ (-200 ≤ dy ∧ dy ≤ 200) ∧ -200 ≤ dz ∧ dz ≤ 200))), .ref (E.2.2.2 (1 + 16))]) (rest := []) ⟨hx, hb, hml, hown, hts⟩ (m_X1_requireArgument l _ ((-200 ≤ dx ∧ dx ≤ 200) ∧ (-200 ≤ dy ∧ dy ≤ 200) ∧ -200 ≤ dz ∧ dz ≤ 200) (E.2.2.2 (1 + 16)) (by omega)) ⟨va_cnB 2 hts (lw_meth q1238) rfl rfl rfl (hV.2.1 _ q1270 rfl) (hts _ q108) (by decide +kernel) ⟨(Nat.le_of_ble_eq_true rfl), (Nat.le_of_ble_eq_true rfl)⟩, hts _ q1237, trivial⟩ (j_preS hV hH) rfl rfl hl.1 rfl (lv_room (Nat.le_of_ble_eq_true rfl)) dX2_move_16 ⟨Nat.le_of_ble_eq_true rfl, Nat.le_of_ble_eq_true rfl⟩) hH (fun H locs hH => ?_)
    refine lv_aload hx hb dX2_move_19 (lv_at hl 0 rfl) ?_
    refine j_get hx hb hts hown hV hH f24 rfl in_X6 4 (Nat.le_of_ble_eq_true rfl) q421 (fun _ h => h) rfl dX2_move_21 ?_
    refine j_istore (lv' := fun x25 => [(6, .int (iI x25)), (5, .ref (f n1)), (0, .ref a), (1, .int (iI n1)), (2, .int (iI dx)), (3, .int (iI dy)), (4, .int (iI dz))]) hx hb dX2_move_24 hl (by decide) (fun _ => rfl) (fun x25 ex25 ls hl => ?_)
    refine lv_aload hx hb dX2_move_26 (lv_at hl 1 rfl) ?_
    refine lv_iload_n hx hb dX2_move_28 rfl (lv_at hl 4 rfl) ?_
    refine lv_iload_n hx hb dX2_move_29 rfl (lv_at hl 5 rfl) ?_
    refine lv_iload hx hb dX2_move_30 (lv_at hl 6 rfl) ?_
    refine j_callvp (va_runU (As := [.int (iI dx), .int (iI dy), .int (iI dz)]) (rest := []) ⟨hx, hb, hml, hown, hts⟩ (m_X4_place_X6 l _ _ _ _ _ _ _ _ dx dy dz (f24)) (cwu0_X4_place_X2_120_X6 hts (Nat.le_of_ble_eq_true rfl) (Nat.le_of_ble_eq_true rfl)) (j_preV hV hH f24 rfl) rfl rfl hl.1 rfl (lv_room (Nat.le_of_ble_eq_true rfl)) dX2_move_32 ⟨Nat.le_of_ble_eq_true rfl, Nat.le_of_ble_eq_true rfl⟩) hH (fun H locs hH => ?_)
    obtain ⟨V26, eV26⟩ : ∃ V_ : Wl, V_ = up w (f n1) (t, .inr (4, [.int (iI n1), va_rf (paO P f n1), .int (iI dx), .int (iI dy), .int (iI dz)])) := ⟨_, rfl⟩
    have hH := jH_eq hH eV26
    have hs27 : FR (fun T k => T = t ∧ k = 14) w V26 := by rw [eV26]; exact FR.one f24 rfl rfl
    have f28 : V26 a = some (t, .inr (1, [.int (iI (P 0)), .int (iI (P 1)), .ref nl, .ref sl, .ref stt, va_rf tlo, .int (iI (P 4)), .int (iI (P 5)), .int (iI (P 6))])) := hs27.at f1 (k := 11) rfl (by first | exact not_false | (intro q_; simp at q_; done) | omega)
    have f29 : V26 nl = some (t, .inr (10, [.int (iI mo), .ref ar, .int (iI (P 2))])) := hs27.at f2 (k := 20) rfl (by first | exact not_false | (intro q_; simp at q_; done) | omega)
    have f30 : V26 sl = some (t, .inr (12, [.int (iI mo2), .int (iI (P 3)), va_rf (hdO (P 3) ch 0), va_rf (prO ch (P 3))])) := hs27.at f3 (k := 22) rfl (by first | exact not_false | (intro q_; simp at q_; done) | omega)
    have f31 : V26 stt = some (t, arI E 4 (sg4 P)) := hs27.at f4 (k := 0) rfl (by first | exact not_false | (intro q_; simp at q_; done) | omega)
    have p32 : AD E V26 t ar (P 2) f := AD.kp p5 hs27 (by intro T k h_; first | exact h_.elim | (obtain ⟨-, rfl⟩ := h_; simp; done) | omega)
    have p33 : TRE V26 t (movP P n1 dx dy dz) f sh := TRE.upd p6 (by omega) (movP_u (by omega) (by omega)) (by omega) (by omega) eV26 (fun q_ => by first | exact movP_B.symm | (exfalso; rw [movP_nd] at q_; simp at q_; omega)) (fun q_ => by first | exact movP_G.symm | (exfalso; rw [movP_nd] at q_; simp at q_; omega)) (fun m k h1_ h2_ h3_ h4_ h5_ => movP_o h3_ h4_ h5_) (fun m _ _ _ => rfl)
    have p34 : LQ V26 t (P 3) ch se := LQ.kp p7 hs27 (by intro T k h_; first | exact h_.elim | (obtain ⟨-, rfl⟩ := h_; simp; done) | omega)
    have p35 : ScO V26 P se := ScO.kp p8 hs27 (by intro T k h_; first | exact h_.elim | (obtain ⟨-, rfl⟩ := h_; simp; done) | omega)
    have p36 : titO V26 P tlo := titO.kp p9 hs27 (by intro T k h_; first | exact h_.elim | (obtain ⟨-, rfl⟩ := h_; simp; done) | omega)
    have f37 : V26 (f n1) = some (t, .inr (4, [.int (iI n1), va_rf (paO P f n1), .int (iI dx), .int (iI dy), .int (iI dz)])) := by rw [eV26]; exact up_s
    have hk : FR (fun T k => T = t ∨ T = 2) w V26 := FR.tr hk hs27 (by intro T k h_; first | exact h_.elim | (obtain ⟨rfl, rfl⟩ := h_; simp; done) | omega)
    refine lv_iload hx hb dX2_move_35 (lv_at hl 0 rfl) ?_
    exact hret V26 hH dX2_move_37 (Nat.le_of_ble_eq_true rfl) (Nat.le_of_ble_eq_true rfl) (⟨by omega, StA.mk f28 f29 p32 p33 f30 p34 (ScO.ag p35 (movP_u (by omega) (by omega)) (fun s k h1_ h2_ h3_ h4_ => movP_v (by omega) (by omega))) f31 (titO.ag p36 (movP_u (by omega) (by omega)) (movP_u (by omega) (by omega)) (movP_u (by omega) (by omega))) (movP_u (by omega) (by omega)).symm (movP_u (by omega) (by omega)).symm (movP_u (by omega) (by omega)).symm (movP_u (by omega) (by omega)).symm (movP_u (by omega) (by omega)).symm (movP_u (by omega) (by omega)).symm (movP_u (by omega) (by omega)).symm (sg4_ex (movP_u (by omega) (by omega)) (movP_u (by omega) (by omega)) (movP_u (by omega) (by omega)) (movP_u (by omega) (by omega))), hk⟩)
theorem cw_X2_setShade {R : Room} {s : State} {args : Array Value} {own : String} {index lev mc ms : Nat} (hts : ∀ w ∈ lw_all, w.before args s = true) (hl : Cond.methodLink own index yX2_setShade ∈ lw_all) (hR1 : (rmL lev mc ms).frames + 1 ≤ R.frames) (hR2 : 8 + (6 + 11) + (rmL lev mc ms).locals ≤ R.locals) : CallW R s args own RX2 index yX2_setShade cX2_setShade 6 (some .int) (ws_ yX2_setShade cX2_setShade 6 (some .int)) (rmL lev mc ms) mc ms 2 :=
  cwV 2 hts (lw_V hl q2005 q2006 q109 q2007) rfl rfl rfl (by decide +kernel) ⟨hR1, hR2⟩
set_option maxHeartbeats 4000000 in
theorem m_X2_setShade {E : jE} (l : Launch) (w : Wl) (t : Nat) (a : Nat) (T : Int) (P : Int → Int) (f : Int → Nat) (sh : Int → Int) (n1 : Int) (x1 : Int) (h1 : PWF T P) (h2 : StA E w t a P f sh) (h3 : T ≤ 900000000) (h4 : 3 ≤ t) (h5 : 0 ≤ n1 ∧ n1 < P 2) (h6 : 0 < nd P n1 4) (h7 : 0 ≤ x1 ∧ x1 ≤ 15) : Met l yX2_setShade (ws_ yX2_setShade cX2_setShade 6 (some .int)) (rmL 5 0 0) (va_Pc [.ref a, .int (iI n1), .int (iI x1)] (jP E w)) (jQi E (fun u : Wl => u) (fun z u => z = nd P n1 6 ∧ (StA E u t a (shdP P n1 x1) f sh) ∧ FR (fun T k => T = t ∨ T = 2) w u)) 0 0 (jA E) := by
  refine j_metI (by decide) (Nat.le_of_ble_eq_true rfl) ?_
  intro p e s m args below meth c Q hx hb hml hown hnm hts hV hH hret ls hl
  have hl : lv_has ls 6 [(0, .ref a), (1, .int (iI n1)), (2, .int (iI x1))] := hl
  have h0 := hH.1.2
  have hR0 := hH.1
  have hk : FR (fun T k => T = t ∨ T = 2) w w := FR.rf
  have hP := h1
  have hS := h2
  have hS0 := h2
  obtain ⟨nl, sl, stt, ar, tlo, mo, mo2, ch, se, ha, hnl, hAD, hT, hsl, hLQ, hSc, hst, hti⟩ := hS0
  have hA := hP.A
  have hB := hP.B
  have hC := hP.C
  have hT0 := h3
  have f1 : w a = some (t, .inr (1, [.int (iI (P 0)), .int (iI (P 1)), .ref nl, .ref sl, .ref stt, va_rf tlo, .int (iI (P 4)), .int (iI (P 5)), .int (iI (P 6))])) := ha
  have f2 : w nl = some (t, .inr (10, [.int (iI mo), .ref ar, .int (iI (P 2))])) := hnl
  have f3 : w sl = some (t, .inr (12, [.int (iI mo2), .int (iI (P 3)), va_rf (hdO (P 3) ch 0), va_rf (prO ch (P 3))])) := hsl
  have f4 : w stt = some (t, arI E 4 (sg4 P)) := hst
  have p5 : AD E w t ar (P 2) f := hAD
  have p6 : TRE w t P f sh := hT
  have p7 : LQ w t (P 3) ch se := hLQ
  have p8 : ScO w P se := hSc
  have p9 : titO w P tlo := hti
  refine lv_aload_n hx hb dX2_setShade_0 rfl (lv_at hl 0 rfl) ?_
  refine lv_iload_n hx hb dX2_setShade_1 rfl (lv_at hl 1 rfl) ?_
  refine j_callqp (va_runV (As := [.int (iI n1)]) (rest := []) ⟨hx, hb, hml, hown, hts⟩ (m_X2_node l _ t a _ _ _ _ n1 (hP) (⟨nl, sl, stt, ar, tlo, mo, mo2, _, _, f1, f2, p5, p6, f3, p7, p8, f4, p9⟩) (by omega) (by omega)) (cw_X2_node hts q1259 (Nat.le_of_ble_eq_true rfl) (Nat.le_of_ble_eq_true rfl)) (j_preV hV hH f1 rfl) rfl rfl hl.1 rfl (lv_room (Nat.le_of_ble_eq_true rfl)) dX2_setShade_2 ⟨Nat.le_of_ble_eq_true rfl, Nat.le_of_ble_eq_true rfl⟩) hH (fun H locs hH => ?_)
  have hbx := h6
  have f10 : w (f n1) = some (t, .inr (3, [.int (iI n1), va_rf (paO P f n1), .int (iI (nd P n1 1)), .int (iI (nd P n1 2)), .int (iI (nd P n1 3)), .int (iI (nd P n1 4)), .int (iI (nd P n1 5)), .int (iI (nd P n1 6)), .int (iI (sh n1))])) := (hT n1 (by omega) (by omega)).1 hbx
  refine lv_astore_n (lv' := [(3, .ref (f n1)), (0, .ref a), (1, .int (iI n1)), (2, .int (iI x1))]) hx hb dX2_setShade_5 rfl hl (by decide) rfl (fun ls hl => ?_)
  refine lv_aload_n hx hb dX2_setShade_6 rfl (lv_at hl 0 rfl) ?_
  refine j_instS hx hb hts hown hV hH f10 rfl q1030 dX2_setShade_7 ?_
  refine j_if_eq (tgt := 29) hx hb dX2_setShade_10 (by decide) (by omega) (fun c10 => ?_) (fun c10 => ?_)
  · exact absurd c10 (by decide)
  · refine lv_iload_n hx hb dX2_setShade_13 rfl (lv_at hl 3 rfl) ?_
    refine j_i2l hx hb dX2_setShade_14 (by omega) ?_
    refine j_lconst (z := 0) hx hb dX2_setShade_15 (by decide +kernel) ?_
    refine j_ldc2 (z := 15) hx hb hts hown q1386 dX2_setShade_16 (by decide +kernel) ?_
    refine j_callip (va_runSN (As := [.long (lL x1), .long (lL 0), .long (lL 15)]) (rest := []) ⟨hx, hb, hml, hown, hts⟩ (m_X1_inRange l _ x1 0 15 (by omega) (by omega) (by omega)) ⟨va_cnB 3 hts (lw_meth q1033) rfl rfl rfl (hV.2.1 _ q1031 rfl) (hts _ q108) (by decide +kernel) ⟨(Nat.le_of_ble_eq_true rfl), (Nat.le_of_ble_eq_true rfl)⟩, hts _ q1032, trivial⟩ (j_preS hV hH) rfl rfl hl.1 rfl (lv_room (Nat.le_of_ble_eq_true rfl)) dX2_setShade_19 ⟨Nat.le_of_ble_eq_true rfl, Nat.le_of_ble_eq_true rfl⟩) hH (fun H locs hH => ?_)
    refine j_ifeq_b (tgt := 29) hx hb dX2_setShade_22 (by decide) (fun c22 => ?_) (fun c22 => ?_)
    · exact absurd (by omega) c22
    · refine j_iconst hx hb dX2_setShade_25 ?_
      refine lv_goto (tgt := 30) hx hb dX2_setShade_26 (by decide) ?_
      refine va_ldcS hx hb hown (hV.2.2.2.2.2.1 _ (List.mem_of_getElem? (i := 37) rfl)) dX2_setShade_30 ?_
      refine j_callvp (va_runSN (As := [.int (iI (bI True)), .ref (E.2.2.2 (1 + 30))]) (rest := []) ⟨hx, hb, hml, hown, hts⟩ (m_X1_requireArgument l _ True (E.2.2.2 (1 + 30)) (trivial)) ⟨va_cnB 2 hts (lw_meth q1238) rfl rfl rfl (hV.2.1 _ q1270 rfl) (hts _ q108) (by decide +kernel) ⟨(Nat.le_of_ble_eq_true rfl), (Nat.le_of_ble_eq_true rfl)⟩, hts _ q1237, trivial⟩ (j_preS hV hH) rfl rfl hl.1 (by simp only [bI_T, bI_F]; rfl) (lv_room (Nat.le_of_ble_eq_true rfl)) dX2_setShade_32 ⟨Nat.le_of_ble_eq_true rfl, Nat.le_of_ble_eq_true rfl⟩) hH (fun H locs hH => ?_)
      refine lv_aload_n hx hb dX2_setShade_35 rfl (lv_at hl 0 rfl) ?_
      refine j_castS hx hb hts hown hV hH f10 rfl q1030 dX2_setShade_36 ?_
      refine lv_astore (lv' := [(4, .ref (f n1)), (3, .ref (f n1)), (0, .ref a), (1, .int (iI n1)), (2, .int (iI x1))]) hx hb dX2_setShade_39 hl (by decide) rfl (fun ls hl => ?_)
      refine lv_aload hx hb dX2_setShade_41 (lv_at hl 0 rfl) ?_
      refine j_getN hx hb hts hown hV hH f10 rfl in_X5 7 (Nat.le_of_ble_eq_true rfl) (hV.2.1 _ q401 rfl) (fun _ h => h) rfl dX2_setShade_43 ?_
      refine j_istore (lv' := fun x11 => [(5, .int (iI x11)), (4, .ref (f n1)), (3, .ref (f n1)), (0, .ref a), (1, .int (iI n1)), (2, .int (iI x1))]) hx hb dX2_setShade_46 hl (by decide) (fun _ => rfl) (fun x11 ex11 ls hl => ?_)
      refine lv_aload hx hb dX2_setShade_48 (lv_at hl 1 rfl) ?_
      refine lv_iload_n hx hb dX2_setShade_50 rfl (lv_at hl 5 rfl) ?_
      refine j_putN hx hb hts hown hV hH f10 rfl in_X5 tyX5 tyX5_ok nmX5 7 (Nat.le_of_ble_eq_true rfl) (hV.2.1 _ q401 rfl) (fun _ h => h) rfl rfl rfl (Nat.le_of_ble_eq_true rfl) dX2_setShade_51 (fun H locs hH => ?_)
      obtain ⟨V12, eV12⟩ : ∃ V_ : Wl, V_ = up w (f n1) (t, .inr (3, [.int (iI n1), va_rf (paO P f n1), .int (iI (nd P n1 1)), .int (iI (nd P n1 2)), .int (iI (nd P n1 3)), .int (iI (nd P n1 4)), .int (iI (nd P n1 5)), .int (iI x1), .int (iI (sh n1))])) := ⟨_, rfl⟩
      have hH := jH_eq hH eV12
      have hs13 : FR (fun T k => T = t ∧ k = 13) w V12 := by rw [eV12]; exact FR.one f10 rfl rfl
      have f14 : V12 a = some (t, .inr (1, [.int (iI (P 0)), .int (iI (P 1)), .ref nl, .ref sl, .ref stt, va_rf tlo, .int (iI (P 4)), .int (iI (P 5)), .int (iI (P 6))])) := hs13.at f1 (k := 11) rfl (by first | exact not_false | (intro q_; simp at q_; done) | omega)
      have f15 : V12 nl = some (t, .inr (10, [.int (iI mo), .ref ar, .int (iI (P 2))])) := hs13.at f2 (k := 20) rfl (by first | exact not_false | (intro q_; simp at q_; done) | omega)
      have f16 : V12 sl = some (t, .inr (12, [.int (iI mo2), .int (iI (P 3)), va_rf (hdO (P 3) ch 0), va_rf (prO ch (P 3))])) := hs13.at f3 (k := 22) rfl (by first | exact not_false | (intro q_; simp at q_; done) | omega)
      have f17 : V12 stt = some (t, arI E 4 (sg4 P)) := hs13.at f4 (k := 0) rfl (by first | exact not_false | (intro q_; simp at q_; done) | omega)
      have p18 : AD E V12 t ar (P 2) f := AD.kp p5 hs13 (by intro T k h_; first | exact h_.elim | (obtain ⟨-, rfl⟩ := h_; simp; done) | omega)
      have p19 : TRE V12 t (shdP P n1 x1) f sh := TRE.upd p6 (by omega) (shdP_u (by omega) (by omega)) (by omega) (by omega) eV12 (fun _ => shdP_B.symm) (fun q_ => by exfalso; rw [shdP_nd] at q_; simp at q_; omega) (fun m k h1_ h2_ h3_ h4_ h5_ => shdP_o h3_ h4_ h5_) (fun m _ _ _ => rfl)
      have p20 : LQ V12 t (P 3) ch se := LQ.kp p7 hs13 (by intro T k h_; first | exact h_.elim | (obtain ⟨-, rfl⟩ := h_; simp; done) | omega)
      have p21 : ScO V12 P se := ScO.kp p8 hs13 (by intro T k h_; first | exact h_.elim | (obtain ⟨-, rfl⟩ := h_; simp; done) | omega)
      have p22 : titO V12 P tlo := titO.kp p9 hs13 (by intro T k h_; first | exact h_.elim | (obtain ⟨-, rfl⟩ := h_; simp; done) | omega)
      have f23 : V12 (f n1) = some (t, .inr (3, [.int (iI n1), va_rf (paO P f n1), .int (iI (nd P n1 1)), .int (iI (nd P n1 2)), .int (iI (nd P n1 3)), .int (iI (nd P n1 4)), .int (iI (nd P n1 5)), .int (iI x1), .int (iI (sh n1))])) := by rw [eV12]; exact up_s
      have hk : FR (fun T k => T = t ∨ T = 2) w V12 := FR.tr hk hs13 (by intro T k h_; first | exact h_.elim | (obtain ⟨rfl, rfl⟩ := h_; simp; done) | omega)
      refine lv_iload hx hb dX2_setShade_54 (lv_at hl 0 rfl) ?_
      exact hret V12 hH dX2_setShade_56 (Nat.le_of_ble_eq_true rfl) (Nat.le_of_ble_eq_true rfl) (⟨by omega, StA.mk f14 f15 p18 p19 f16 p20 (ScO.ag p21 (shdP_u (by omega) (by omega)) (fun s k h1_ h2_ h3_ h4_ => shdP_v (by omega) (by omega))) f17 (titO.ag p22 (shdP_u (by omega) (by omega)) (shdP_u (by omega) (by omega)) (shdP_u (by omega) (by omega))) (shdP_u (by omega) (by omega)).symm (shdP_u (by omega) (by omega)).symm (shdP_u (by omega) (by omega)).symm (shdP_u (by omega) (by omega)).symm (shdP_u (by omega) (by omega)).symm (shdP_u (by omega) (by omega)).symm (shdP_u (by omega) (by omega)).symm (sg4_ex (shdP_u (by omega) (by omega)) (shdP_u (by omega) (by omega)) (shdP_u (by omega) (by omega)) (shdP_u (by omega) (by omega))), hk⟩)
