/-! THE SYSTEM's METHODS: time goes on -/
set_option maxRecDepth 100000
theorem tickO_v0 {P : Int → Int} (h : nowO (upz P 4 (P 4 + 1)) = -1000) : tickO P 4 = P 4 + 1 ∧ tickO P 5 = P 5 ∧ tickO P 6 = P 6 := by
  rw [← tickO_n rfl h]
  exact ⟨upz_s, upz_n (by decide), upz_n (by decide)⟩
theorem tickO_v1 {P : Int → Int} (h : nowO (upz P 4 (P 4 + 1)) ≠ -1000) : tickO P 4 = P 4 + 1 ∧ tickO P 5 = twO (P 5) (sc P (nowO (upz P 4 (P 4 + 1))) 0) (P 8) ∧ tickO P 6 = twO (P 6) (sc P (nowO (upz P 4 (P 4 + 1))) 1) (P 8) := by
  rw [← tickO_y rfl h]
  refine ⟨?_, ?_, ?_⟩
  · rw [upz_n (by decide), upz_n (by decide), upz_s]
  · rw [upz_n (by decide), upz_s]
  · rw [upz_s]
theorem cw_X2_tick_2 {R : Room} {s : State} {args : Array Value} {own : String} {index lev mc ms : Nat} (hts : ∀ w ∈ lw_all, w.before args s = true) (hl : Cond.methodLink own index yX2_tick_2 ∈ lw_all) (hR1 : (rmL lev mc ms).frames + 1 ≤ R.frames) (hR2 : 8 + (2 + 11) + (rmL lev mc ms).locals ≤ R.locals) : CallW R s args own RX2 index yX2_tick_2 cX2_tick_2 2 none (ws_ yX2_tick_2 cX2_tick_2 2 none) (rmL lev mc ms) mc ms 0 :=
  cwV 0 hts (lw_V hl q1504 q1505 q109 q1506) rfl rfl rfl (by decide +kernel) ⟨hR1, hR2⟩
set_option maxHeartbeats 4000000 in
theorem m_X2_tick_2 {E : jE} (l : Launch) (w : Wl) (t : Nat) (a : Nat) (T : Int) (P : Int → Int) (f : Int → Nat) (sh : Int → Int) (h1 : PWF T P) (h2 : StA E w t a P f sh) (h3 : T ≤ 900000000) (h4 : 3 ≤ t) : Met l yX2_tick_2 (ws_ yX2_tick_2 cX2_tick_2 2 none) (rmL 5 0 0) (va_Pc [.ref a] (jP E w)) (jQv E (fun u : Wl => u) (fun u => (StA E u t a (tickO P) f sh) ∧ FR (fun T k => T = t ∨ T = 2) w u)) 0 0 (jA E) := by
  refine j_metV (by decide) (Nat.le_of_ble_eq_true rfl) ?_
  intro p e s m args below meth c Q hx hb hml hown hnm hts hV hH hret ls hl
  have hl : lv_has ls 2 [(0, .ref a)] := hl
  have h0 := hH.1.2
  have hR0 := hH.1
  have hk : FR (fun T k => T = t ∨ T = 2) w w := FR.rf
  have hP := h1
  have hS := h2
  have hS0 := h2
  obtain ⟨nl, sl, stt, ar, tlo, mo, mo2, ch, se, ha, hnl, hAD, hT, hsl, hLQ, hSc, hst, hti⟩ := hS0
  have hA := hP.A
  have hB := hP.B
  have hC := hP.C
  have hT0 := h3
  have f1 : w a = some (t, .inr (1, [.int (iI (P 0)), .int (iI (P 1)), .ref nl, .ref sl, .ref stt, va_rf tlo, .int (iI (P 4)), .int (iI (P 5)), .int (iI (P 6))])) := ha
  have f2 : w nl = some (t, .inr (10, [.int (iI mo), .ref ar, .int (iI (P 2))])) := hnl
  have f3 : w sl = some (t, .inr (12, [.int (iI mo2), .int (iI (P 3)), va_rf (hdO (P 3) ch 0), va_rf (prO ch (P 3))])) := hsl
  have f4 : w stt = some (t, arI E 4 (sg4 P)) := hst
  have p5 : AD E w t ar (P 2) f := hAD
  have p6 : TRE w t P f sh := hT
  have p7 : LQ w t (P 3) ch se := hLQ
  have p8 : ScO w P se := hSc
  have p9 : titO w P tlo := hti
  refine lv_aload_n hx hb dX2_tick_2_0 rfl (lv_at hl 0 rfl) ?_
  refine lv_dup hx hb dX2_tick_2_1 rfl ?_
  refine j_get hx hb hts hown hV hH f1 rfl in_X2 6 (Nat.le_of_ble_eq_true rfl) q235 (fun _ h => h) rfl dX2_tick_2_2 ?_
  refine j_iconst hx hb dX2_tick_2_5 ?_
  refine j_iadd hx hb dX2_tick_2_6 ?_
  refine j_put hx hb hts hown hV hH f1 rfl in_X2 tyX2 tyX2_ok nmX2 6 (Nat.le_of_ble_eq_true rfl) q235 (fun _ h => h) rfl rfl rfl (Nat.le_of_ble_eq_true rfl) dX2_tick_2_7 (fun H locs hH => ?_)
  obtain ⟨V10, eV10⟩ : ∃ V_ : Wl, V_ = up w a (t, .inr (1, [.int (iI (P 0)), .int (iI (P 1)), .ref nl, .ref sl, .ref stt, va_rf tlo, .int (iI ((P 4) + 1)), .int (iI (P 5)), .int (iI (P 6))])) := ⟨_, rfl⟩
  have hH := jH_eq hH eV10
  have hs11 : FR (fun T k => T = t ∧ k = 11) w V10 := by rw [eV10]; exact FR.one f1 rfl rfl
  have f12 : V10 nl = some (t, .inr (10, [.int (iI mo), .ref ar, .int (iI (P 2))])) := hs11.at f2 (k := 20) rfl (by first | exact not_false | (intro q_; simp at q_; done) | omega)
  have f13 : V10 sl = some (t, .inr (12, [.int (iI mo2), .int (iI (P 3)), va_rf (hdO (P 3) ch 0), va_rf (prO ch (P 3))])) := hs11.at f3 (k := 22) rfl (by first | exact not_false | (intro q_; simp at q_; done) | omega)
  have f14 : V10 stt = some (t, arI E 4 (sg4 P)) := hs11.at f4 (k := 0) rfl (by first | exact not_false | (intro q_; simp at q_; done) | omega)
  have p15 : AD E V10 t ar (P 2) f := AD.kp p5 hs11 (by intro T k h_; first | exact h_.elim | (obtain ⟨-, rfl⟩ := h_; simp; done) | omega)
  have p16 : TRE V10 t P f sh := TRE.kp p6 hs11 (by intro T k h_; first | exact h_.elim | (obtain ⟨-, rfl⟩ := h_; simp; done) | omega)
  have p17 : LQ V10 t (P 3) ch se := LQ.kp p7 hs11 (by intro T k h_; first | exact h_.elim | (obtain ⟨-, rfl⟩ := h_; simp; done) | omega)
  have p18 : ScO V10 P se := ScO.kp p8 hs11 (by intro T k h_; first | exact h_.elim | (obtain ⟨-, rfl⟩ := h_; simp; done) | omega)
  have p19 : titO V10 P tlo := titO.kp p9 hs11 (by intro T k h_; first | exact h_.elim | (obtain ⟨-, rfl⟩ := h_; simp; done) | omega)
  have f20 : V10 a = some (t, .inr (1, [.int (iI (P 0)), .int (iI (P 1)), .ref nl, .ref sl, .ref stt, va_rf tlo, .int (iI ((P 4) + 1)), .int (iI (P 5)), .int (iI (P 6))])) := by rw [eV10]; exact up_s
  have hk : FR (fun T k => T = t ∨ T = 2) w V10 := FR.tr hk hs11 (by intro T k h_; first | exact h_.elim | (obtain ⟨rfl, rfl⟩ := h_; simp; done) | omega)
  refine lv_aload_n hx hb dX2_tick_2_10 rfl (lv_at hl 0 rfl) ?_
  refine j_callip (va_runV (As := []) (rest := []) ⟨hx, hb, hml, hown, hts⟩ (m_X2_presentScene l _ t a (T + 1) (upz P 4 (P 4 + 1)) f sh (hP.time) ((StA.mk f20 f12 p15 (TRE.ag p16 (upz_n (by omega)) (fun n k h1_ h2_ h3_ h4_ => upz_n (by omega))) f13 p17 (ScO.ag p18 (upz_n (by omega)) (fun n k h1_ h2_ h3_ h4_ => upz_n (by omega))) f14 (titO.ag p19 (upz_n (by omega)) (upz_n (by omega)) (upz_n (by omega))) (upz_n (by omega)).symm (upz_n (by omega)).symm (upz_n (by omega)).symm (upz_n (by omega)).symm upz_s.symm (upz_n (by omega)).symm (upz_n (by omega)).symm (sg4_ex (upz_n (by omega)) (upz_n (by omega)) (upz_n (by omega)) (upz_n (by omega))))) (by omega)) (cw_X2_presentScene hts q1507 (Nat.le_of_ble_eq_true rfl) (Nat.le_of_ble_eq_true rfl)) (j_preV hV hH f20 rfl) rfl rfl hl.1 rfl (lv_room (Nat.le_of_ble_eq_true rfl)) dX2_tick_2_11 ⟨Nat.le_of_ble_eq_true rfl, Nat.le_of_ble_eq_true rfl⟩) hH (fun H locs hH => ?_)
  refine j_istore_n (lv' := fun x21 => [(1, .int (iI x21)), (0, .ref a)]) hx hb dX2_tick_2_14 rfl hl (by decide) (fun _ => rfl) (fun x21 ex21 ls hl => ?_)
  have hnb := nowO_b hP.time
  rw [show upz P 4 (P 4 + 1) 3 = P 3 from upz_n (by decide), ← ex21] at hnb
  refine lv_iload_n hx hb dX2_tick_2_15 rfl (lv_at hl 0 rfl) ?_
  refine j_sipush hx hb dX2_tick_2_16 (by decide) ?_
  refine j_icmp_eq (tgt := 74) hx hb dX2_tick_2_19 (by decide) (by omega) (by omega) (fun c19 => ?_) (fun c19 => ?_)
  · have hv := tickO_v0 (P := P) (by omega)
    exact hret V10 hH dX2_tick_2_74 (Nat.le_of_ble_eq_true rfl) (Nat.le_of_ble_eq_true rfl) (⟨(StA.mk f20 f12 p15 (TRE.ag p16 (tickO_k (by omega) (by omega) (by omega)) (fun n k h1_ h2_ h3_ h4_ => tickO_k (by omega) (by omega) (by omega))) f13 p17 (ScO.ag p18 (tickO_k (by omega) (by omega) (by omega)) (fun n k h1_ h2_ h3_ h4_ => tickO_k (by omega) (by omega) (by omega))) f14 (titO.ag p19 (tickO_k (by omega) (by omega) (by omega)) (tickO_k (by omega) (by omega) (by omega)) (tickO_k (by omega) (by omega) (by omega))) (tickO_k (by omega) (by omega) (by omega)).symm (tickO_k (by omega) (by omega) (by omega)).symm (tickO_k (by omega) (by omega) (by omega)).symm (tickO_k (by omega) (by omega) (by omega)).symm hv.1.symm hv.2.1.symm hv.2.2.symm (sg4_ex (tickO_k (by omega) (by omega) (by omega)) (tickO_k (by omega) (by omega) (by omega)) (tickO_k (by omega) (by omega) (by omega)) (tickO_k (by omega) (by omega) (by omega)))), hk⟩)
  · have hv := tickO_v1 (P := P) (by omega)
    rw [← ex21] at hv
    have hs_ := hP.S (s := x21) (by omega) (by omega)
    refine lv_aload_n hx hb dX2_tick_2_22 rfl (lv_at hl 1 rfl) ?_
    refine lv_aload_n hx hb dX2_tick_2_23 rfl (lv_at hl 1 rfl) ?_
    refine lv_aload_n hx hb dX2_tick_2_24 rfl (lv_at hl 1 rfl) ?_
    refine j_get hx hb hts hown hV hH f20 rfl in_X2 7 (Nat.le_of_ble_eq_true rfl) q238 (fun _ h => h) rfl dX2_tick_2_25 ?_
    refine lv_aload_n hx hb dX2_tick_2_28 rfl (lv_at hl 1 rfl) ?_
    refine j_get hx hb hts hown hV hH f20 rfl in_X2 3 (Nat.le_of_ble_eq_true rfl) q227 (fun _ h => h) rfl dX2_tick_2_29 ?_
    refine lv_iload_n hx hb dX2_tick_2_32 rfl (lv_at hl 0 rfl) ?_
    refine j_callqp (va_runV (As := [.int (iI x21)]) (rest := [.int (iI (P 5)), .ref a, .ref a]) ⟨hx, hb, hml, hown, hts⟩ (m_J4_get l _ sl t mo2 (P 3) ch se x21 (f13) (by assumption) (by omega)) (cw_J4_get hts q1511 (Nat.le_of_ble_eq_true rfl) (Nat.le_of_ble_eq_true rfl)) (j_preV hV hH f13 rfl) rfl rfl hl.1 rfl (lv_room (Nat.le_of_ble_eq_true rfl)) dX2_tick_2_33 ⟨Nat.le_of_ble_eq_true rfl, Nat.le_of_ble_eq_true rfl⟩) hH (fun H locs hH => ?_)
    have f22 : V10 (se x21) = some (1, .inr (5, [.int (iI (sc P x21 0)), .int (iI (sc P x21 1)), .int (iI (sc P x21 2))])) := p18 x21 (by omega) (by omega)
    refine j_castS hx hb hts hown hV hH f22 rfl q1322 dX2_tick_2_36 ?_
    refine j_getN hx hb hts hown hV hH f22 rfl in_X7 0 (Nat.le_of_ble_eq_true rfl) (hV.2.1 _ q1329 rfl) (fun _ h => h) rfl dX2_tick_2_39 ?_
    refine j_callip (va_runV (As := [.int (iI (P 5)), .int (iI (sc P x21 0))]) (rest := [.ref a]) ⟨hx, hb, hml, hown, hts⟩ (m_X2_towards2 l _ a t (.int (iI (P 0))) (.int (iI (P 1))) (.ref nl) (.ref sl) (va_rf tlo) (.int (iI ((P 4) + 1))) (.int (iI (P 5))) (.int (iI (P 6))) stt (sg4 P) (P 5) (sc P x21 0) (f20) (f14) (by omega) (by omega) (by show 0 ≤ P 8 ∧ P 8 ≤ 1000; omega)) (cw_X2_towards hts q1523 (Nat.le_of_ble_eq_true rfl) (Nat.le_of_ble_eq_true rfl)) (j_preV hV hH f20 rfl) rfl rfl hl.1 rfl (lv_room (Nat.le_of_ble_eq_true rfl)) dX2_tick_2_42 ⟨Nat.le_of_ble_eq_true rfl, Nat.le_of_ble_eq_true rfl⟩) hH (fun H locs hH => ?_)
    refine j_top (b := twO (P 5) (sc P x21 0) (P 8)) (rfl) ?_
    refine j_put hx hb hts hown hV hH f20 rfl in_X2 tyX2 tyX2_ok nmX2 7 (Nat.le_of_ble_eq_true rfl) q238 (fun _ h => h) rfl rfl rfl (Nat.le_of_ble_eq_true rfl) dX2_tick_2_45 (fun H locs hH => ?_)
    obtain ⟨V23, eV23⟩ : ∃ V_ : Wl, V_ = up V10 a (t, .inr (1, [.int (iI (P 0)), .int (iI (P 1)), .ref nl, .ref sl, .ref stt, va_rf tlo, .int (iI ((P 4) + 1)), .int (iI (twO (P 5) (sc P x21 0) (P 8))), .int (iI (P 6))])) := ⟨_, rfl⟩
    have hH := jH_eq hH eV23
    have hs24 : FR (fun T k => T = t ∧ k = 11) V10 V23 := by rw [eV23]; exact FR.one f20 rfl rfl
    have f25 : V23 nl = some (t, .inr (10, [.int (iI mo), .ref ar, .int (iI (P 2))])) := hs24.at f12 (k := 20) rfl (by first | exact not_false | (intro q_; simp at q_; done) | omega)
    have f26 : V23 sl = some (t, .inr (12, [.int (iI mo2), .int (iI (P 3)), va_rf (hdO (P 3) ch 0), va_rf (prO ch (P 3))])) := hs24.at f13 (k := 22) rfl (by first | exact not_false | (intro q_; simp at q_; done) | omega)
    have f27 : V23 stt = some (t, arI E 4 (sg4 P)) := hs24.at f14 (k := 0) rfl (by first | exact not_false | (intro q_; simp at q_; done) | omega)
    have f28 : V23 (se x21) = some (1, .inr (5, [.int (iI (sc P x21 0)), .int (iI (sc P x21 1)), .int (iI (sc P x21 2))])) := hs24.at f22 (k := 15) rfl (by first | exact not_false | (intro q_; simp at q_; done) | omega)
    have p29 : AD E V23 t ar (P 2) f := AD.kp p15 hs24 (by intro T k h_; first | exact h_.elim | (obtain ⟨-, rfl⟩ := h_; simp; done) | omega)
    have p30 : TRE V23 t P f sh := TRE.kp p16 hs24 (by intro T k h_; first | exact h_.elim | (obtain ⟨-, rfl⟩ := h_; simp; done) | omega)
    have p31 : LQ V23 t (P 3) ch se := LQ.kp p17 hs24 (by intro T k h_; first | exact h_.elim | (obtain ⟨-, rfl⟩ := h_; simp; done) | omega)
    have p32 : ScO V23 P se := ScO.kp p18 hs24 (by intro T k h_; first | exact h_.elim | (obtain ⟨-, rfl⟩ := h_; simp; done) | omega)
    have p33 : titO V23 P tlo := titO.kp p19 hs24 (by intro T k h_; first | exact h_.elim | (obtain ⟨-, rfl⟩ := h_; simp; done) | omega)
    have f34 : V23 a = some (t, .inr (1, [.int (iI (P 0)), .int (iI (P 1)), .ref nl, .ref sl, .ref stt, va_rf tlo, .int (iI ((P 4) + 1)), .int (iI (twO (P 5) (sc P x21 0) (P 8))), .int (iI (P 6))])) := by rw [eV23]; exact up_s
    have hk : FR (fun T k => T = t ∨ T = 2) w V23 := FR.tr hk hs24 (by intro T k h_; first | exact h_.elim | (obtain ⟨rfl, rfl⟩ := h_; simp; done) | omega)
    refine lv_aload_n hx hb dX2_tick_2_48 rfl (lv_at hl 1 rfl) ?_
    refine lv_aload_n hx hb dX2_tick_2_49 rfl (lv_at hl 1 rfl) ?_
    refine lv_aload_n hx hb dX2_tick_2_50 rfl (lv_at hl 1 rfl) ?_
    refine j_get hx hb hts hown hV hH f34 rfl in_X2 8 (Nat.le_of_ble_eq_true rfl) q240 (fun _ h => h) rfl dX2_tick_2_51 ?_
    refine lv_aload_n hx hb dX2_tick_2_54 rfl (lv_at hl 1 rfl) ?_
    refine j_get hx hb hts hown hV hH f34 rfl in_X2 3 (Nat.le_of_ble_eq_true rfl) q227 (fun _ h => h) rfl dX2_tick_2_55 ?_
    refine lv_iload_n hx hb dX2_tick_2_58 rfl (lv_at hl 0 rfl) ?_
    refine j_callqp (va_runV (As := [.int (iI x21)]) (rest := [.int (iI (P 6)), .ref a, .ref a]) ⟨hx, hb, hml, hown, hts⟩ (m_J4_get l _ sl t mo2 (P 3) ch se x21 (f26) (by assumption) (by omega)) (cw_J4_get hts q1511 (Nat.le_of_ble_eq_true rfl) (Nat.le_of_ble_eq_true rfl)) (j_preV hV hH f26 rfl) rfl rfl hl.1 rfl (lv_room (Nat.le_of_ble_eq_true rfl)) dX2_tick_2_59 ⟨Nat.le_of_ble_eq_true rfl, Nat.le_of_ble_eq_true rfl⟩) hH (fun H locs hH => ?_)
    have f35 : V23 (se x21) = some (1, .inr (5, [.int (iI (sc P x21 0)), .int (iI (sc P x21 1)), .int (iI (sc P x21 2))])) := p32 x21 (by omega) (by omega)
    refine j_castS hx hb hts hown hV hH f35 rfl q1322 dX2_tick_2_62 ?_
    refine j_getN hx hb hts hown hV hH f35 rfl in_X7 1 (Nat.le_of_ble_eq_true rfl) (hV.2.1 _ q1332 rfl) (fun _ h => h) rfl dX2_tick_2_65 ?_
    refine j_callip (va_runV (As := [.int (iI (P 6)), .int (iI (sc P x21 1))]) (rest := [.ref a]) ⟨hx, hb, hml, hown, hts⟩ (m_X2_towards2 l _ a t (.int (iI (P 0))) (.int (iI (P 1))) (.ref nl) (.ref sl) (va_rf tlo) (.int (iI ((P 4) + 1))) (.int (iI (twO (P 5) (sc P x21 0) (P 8)))) (.int (iI (P 6))) stt (sg4 P) (P 6) (sc P x21 1) (f34) (f27) (by omega) (by omega) (by show 0 ≤ P 8 ∧ P 8 ≤ 1000; omega)) (cw_X2_towards hts q1523 (Nat.le_of_ble_eq_true rfl) (Nat.le_of_ble_eq_true rfl)) (j_preV hV hH f34 rfl) rfl rfl hl.1 rfl (lv_room (Nat.le_of_ble_eq_true rfl)) dX2_tick_2_68 ⟨Nat.le_of_ble_eq_true rfl, Nat.le_of_ble_eq_true rfl⟩) hH (fun H locs hH => ?_)
    refine j_top (b := twO (P 6) (sc P x21 1) (P 8)) (rfl) ?_
    refine j_put hx hb hts hown hV hH f34 rfl in_X2 tyX2 tyX2_ok nmX2 8 (Nat.le_of_ble_eq_true rfl) q240 (fun _ h => h) rfl rfl rfl (Nat.le_of_ble_eq_true rfl) dX2_tick_2_71 (fun H locs hH => ?_)
    obtain ⟨V36, eV36⟩ : ∃ V_ : Wl, V_ = up V23 a (t, .inr (1, [.int (iI (P 0)), .int (iI (P 1)), .ref nl, .ref sl, .ref stt, va_rf tlo, .int (iI ((P 4) + 1)), .int (iI (twO (P 5) (sc P x21 0) (P 8))), .int (iI (twO (P 6) (sc P x21 1) (P 8)))])) := ⟨_, rfl⟩
    have hH := jH_eq hH eV36
    have hs37 : FR (fun T k => T = t ∧ k = 11) V23 V36 := by rw [eV36]; exact FR.one f34 rfl rfl
    have f38 : V36 nl = some (t, .inr (10, [.int (iI mo), .ref ar, .int (iI (P 2))])) := hs37.at f25 (k := 20) rfl (by first | exact not_false | (intro q_; simp at q_; done) | omega)
    have f39 : V36 sl = some (t, .inr (12, [.int (iI mo2), .int (iI (P 3)), va_rf (hdO (P 3) ch 0), va_rf (prO ch (P 3))])) := hs37.at f26 (k := 22) rfl (by first | exact not_false | (intro q_; simp at q_; done) | omega)
    have f40 : V36 stt = some (t, arI E 4 (sg4 P)) := hs37.at f27 (k := 0) rfl (by first | exact not_false | (intro q_; simp at q_; done) | omega)
    have f41 : V36 (se x21) = some (1, .inr (5, [.int (iI (sc P x21 0)), .int (iI (sc P x21 1)), .int (iI (sc P x21 2))])) := hs37.at f35 (k := 15) rfl (by first | exact not_false | (intro q_; simp at q_; done) | omega)
    have p42 : AD E V36 t ar (P 2) f := AD.kp p29 hs37 (by intro T k h_; first | exact h_.elim | (obtain ⟨-, rfl⟩ := h_; simp; done) | omega)
    have p43 : TRE V36 t P f sh := TRE.kp p30 hs37 (by intro T k h_; first | exact h_.elim | (obtain ⟨-, rfl⟩ := h_; simp; done) | omega)
    have p44 : LQ V36 t (P 3) ch se := LQ.kp p31 hs37 (by intro T k h_; first | exact h_.elim | (obtain ⟨-, rfl⟩ := h_; simp; done) | omega)
    have p45 : ScO V36 P se := ScO.kp p32 hs37 (by intro T k h_; first | exact h_.elim | (obtain ⟨-, rfl⟩ := h_; simp; done) | omega)
    have p46 : titO V36 P tlo := titO.kp p33 hs37 (by intro T k h_; first | exact h_.elim | (obtain ⟨-, rfl⟩ := h_; simp; done) | omega)
    have f47 : V36 a = some (t, .inr (1, [.int (iI (P 0)), .int (iI (P 1)), .ref nl, .ref sl, .ref stt, va_rf tlo, .int (iI ((P 4) + 1)), .int (iI (twO (P 5) (sc P x21 0) (P 8))), .int (iI (twO (P 6) (sc P x21 1) (P 8)))])) := by rw [eV36]; exact up_s
    have hk : FR (fun T k => T = t ∨ T = 2) w V36 := FR.tr hk hs37 (by intro T k h_; first | exact h_.elim | (obtain ⟨rfl, rfl⟩ := h_; simp; done) | omega)
    exact hret V36 hH dX2_tick_2_74 (Nat.le_of_ble_eq_true rfl) (Nat.le_of_ble_eq_true rfl) (⟨(StA.mk f47 f38 p42 (TRE.ag p43 (tickO_k (by omega) (by omega) (by omega)) (fun n k h1_ h2_ h3_ h4_ => tickO_k (by omega) (by omega) (by omega))) f39 p44 (ScO.ag p45 (tickO_k (by omega) (by omega) (by omega)) (fun n k h1_ h2_ h3_ h4_ => tickO_k (by omega) (by omega) (by omega))) f40 (titO.ag p46 (tickO_k (by omega) (by omega) (by omega)) (tickO_k (by omega) (by omega) (by omega)) (tickO_k (by omega) (by omega) (by omega))) (tickO_k (by omega) (by omega) (by omega)).symm (tickO_k (by omega) (by omega) (by omega)).symm (tickO_k (by omega) (by omega) (by omega)).symm (tickO_k (by omega) (by omega) (by omega)).symm hv.1.symm hv.2.1.symm hv.2.2.symm (sg4_ex (tickO_k (by omega) (by omega) (by omega)) (tickO_k (by omega) (by omega) (by omega)) (tickO_k (by omega) (by omega) (by omega)) (tickO_k (by omega) (by omega) (by omega)))), hk⟩)
theorem cw_X2_tick {R : Room} {s : State} {args : Array Value} {own : String} {index lev mc ms : Nat} (hts : ∀ w ∈ lw_all, w.before args s = true) (hl : Cond.methodLink own index yX2_tick ∈ lw_all) (hR1 : (rmL lev mc ms).frames + 1 ≤ R.frames) (hR2 : 8 + (3 + 11) + (rmL lev mc ms).locals ≤ R.locals) : CallW R s args own RX2 index yX2_tick cX2_tick 3 (some .int) (ws_ yX2_tick cX2_tick 3 (some .int)) (rmL lev mc ms) mc ms 1 :=
  cwV 1 hts (lw_V hl q1498 q1499 q109 q1500) rfl rfl rfl (by decide +kernel) ⟨hR1, hR2⟩
set_option maxHeartbeats 4000000 in
theorem m_X2_tick {E : jE} (l : Launch) (w : Wl) (t : Nat) (a : Nat) (T : Int) (P : Int → Int) (f : Int → Nat) (sh : Int → Int) (n1 : Int) (h1 : PWF T P) (h2 : StA E w t a P f sh) (h3 : T ≤ 900000000) (h4 : 3 ≤ t) (h5 : 1 ≤ n1 ∧ n1 ≤ 200) (h6 : T ≤ 899000000) : Met l yX2_tick (ws_ yX2_tick cX2_tick 3 (some .int)) (rmL 6 0 0) (va_Pc [.ref a, .int (iI n1)] (jP E w)) (jQi E (fun u : Wl => u) (fun z u => z = ticksO P n1.toNat 4 ∧ (StA E u t a (ticksO P n1.toNat) f sh) ∧ FR (fun T k => T = t ∨ T = 2) w u)) 0 0 (jA E) := by
  refine j_metI (by decide) (Nat.le_of_ble_eq_true rfl) ?_
  intro p e s m args below meth c Q hx hb hml hown hnm hts hV hH hret ls hl
  have hl : lv_has ls 3 [(0, .ref a), (1, .int (iI n1))] := hl
  have h0 := hH.1.2
  have hR0 := hH.1
  have hk : FR (fun T k => T = t ∨ T = 2) w w := FR.rf
  have hP := h1
  have hS := h2
  have hS0 := h2
  obtain ⟨nl, sl, stt, ar, tlo, mo, mo2, ch, se, ha, hnl, hAD, hT, hsl, hLQ, hSc, hst, hti⟩ := hS0
  have hA := hP.A
  have hB := hP.B
  have hC := hP.C
  have hT0 := h3
  have f1 : w a = some (t, .inr (1, [.int (iI (P 0)), .int (iI (P 1)), .ref nl, .ref sl, .ref stt, va_rf tlo, .int (iI (P 4)), .int (iI (P 5)), .int (iI (P 6))])) := ha
  have f2 : w nl = some (t, .inr (10, [.int (iI mo), .ref ar, .int (iI (P 2))])) := hnl
  have f3 : w sl = some (t, .inr (12, [.int (iI mo2), .int (iI (P 3)), va_rf (hdO (P 3) ch 0), va_rf (prO ch (P 3))])) := hsl
  have f4 : w stt = some (t, arI E 4 (sg4 P)) := hst
  have p5 : AD E w t ar (P 2) f := hAD
  have p6 : TRE w t P f sh := hT
  have p7 : LQ w t (P 3) ch se := hLQ
  have p8 : ScO w P se := hSc
  have p9 : titO w P tlo := hti
  refine lv_iload_n hx hb dX2_tick_0 rfl (lv_at hl 1 rfl) ?_
  refine j_i2l hx hb dX2_tick_1 (by omega) ?_
  refine j_lconst (z := 1) hx hb dX2_tick_2 (by decide +kernel) ?_
  refine j_ldc2 (z := 200) hx hb hts hown q1501 dX2_tick_3 (by decide +kernel) ?_
  refine j_callip (va_runSN (As := [.long (lL n1), .long (lL 1), .long (lL 200)]) (rest := []) ⟨hx, hb, hml, hown, hts⟩ (m_X1_inRange l _ n1 1 200 (by omega) (by omega) (by omega)) ⟨va_cnB 3 hts (lw_meth q1033) rfl rfl rfl (hV.2.1 _ q1031 rfl) (hts _ q108) (by decide +kernel) ⟨(Nat.le_of_ble_eq_true rfl), (Nat.le_of_ble_eq_true rfl)⟩, hts _ q1032, trivial⟩ (j_preS hV hH) rfl rfl hl.1 rfl (lv_room (Nat.le_of_ble_eq_true rfl)) dX2_tick_6 ⟨Nat.le_of_ble_eq_true rfl, Nat.le_of_ble_eq_true rfl⟩) hH (fun H locs hH => ?_)
  refine va_ldcS hx hb hown (hV.2.2.2.2.2.1 _ (List.mem_of_getElem? (i := 36) rfl)) dX2_tick_9 ?_
  refine j_callvp (va_runSN (As := [.int (iI (bI (1 ≤ n1 ∧ n1 ≤ 200))), .ref (E.2.2.2 (1 + 20))]) (rest := []) ⟨hx, hb, hml, hown, hts⟩ (m_X1_requireArgument l _ (1 ≤ n1 ∧ n1 ≤ 200) (E.2.2.2 (1 + 20)) (by omega)) ⟨va_cnB 2 hts (lw_meth q1238) rfl rfl rfl (hV.2.1 _ q1270 rfl) (hts _ q108) (by decide +kernel) ⟨(Nat.le_of_ble_eq_true rfl), (Nat.le_of_ble_eq_true rfl)⟩, hts _ q1237, trivial⟩ (j_preS hV hH) rfl rfl hl.1 rfl (lv_room (Nat.le_of_ble_eq_true rfl)) dX2_tick_11 ⟨Nat.le_of_ble_eq_true rfl, Nat.le_of_ble_eq_true rfl⟩) hH (fun H locs hH => ?_)
  refine j_iconst hx hb dX2_tick_14 ?_
  refine j_istore_n (lv' := fun x10 => [(2, .int (iI x10)), (0, .ref a), (1, .int (iI n1))]) hx hb dX2_tick_15 rfl hl (by decide) (fun _ => rfl) (fun x10 ex10 ls hl => ?_)
  have L16 : ∀ (n_ : Nat), ∀ (k : Int) (W_ : Wl) (hm_ : n1 - k < (n_ : Int)) (hSk : StA E W_ t a (ticksO P k.toNat) f sh) (hk : FR (fun T k => T = t ∨ T = 2) w W_) (hk0 : 0 ≤ k ∧ k ≤ n1) (H : Heap) (locs : List Loc), jH E s.heap W_ H locs → ∀ ls : Array Slot, lv_has ls 3 [(0, .ref a), (1, .int (iI n1)), (2, .int (iI k))] → W p l e (rmL 6 0 0) s m args below meth c H locs 0 0 Q (F0 m 16 ls []) := by
    intro n_
    induction n_ with
    | zero =>
      intro k W_ hm_ hSk hk hk0 H locs hH ls hl
      exact absurd hm_ (by omega)
    | succ n_ ih_16 =>
      intro k W_ hm_ hSk hk hk0 H locs hH ls hl
      obtain ⟨nl2, sl2, stt2, ar2, tlo2, mo9, mo29, ch2, se2, ha2, hk2_⟩ := id hSk
      have hPk := hP.ticks k.toNat
      have f11 : W_ a = some (t, .inr (1, [.int (iI (ticksO P k.toNat 0)), .int (iI (ticksO P k.toNat 1)), .ref nl2, .ref sl2, .ref stt2, va_rf tlo2, .int (iI (ticksO P k.toNat 4)), .int (iI (ticksO P k.toNat 5)), .int (iI (ticksO P k.toNat 6))])) := ha2
      refine lv_iload_n hx hb dX2_tick_16 rfl (lv_at hl 2 rfl) ?_
      refine lv_iload_n hx hb dX2_tick_17 rfl (lv_at hl 1 rfl) ?_
      refine j_icmp_ge (tgt := 31) hx hb dX2_tick_18 (by decide) (by omega) (by omega) (fun c18 => ?_) (fun c18 => ?_)
      · refine lv_aload_n hx hb dX2_tick_31 rfl (lv_at hl 0 rfl) ?_
        refine j_get hx hb hts hown hV hH f11 rfl in_X2 6 (Nat.le_of_ble_eq_true rfl) q235 (fun _ h => h) rfl dX2_tick_32 ?_
        exact hret W_ hH dX2_tick_35 (Nat.le_of_ble_eq_true rfl) (Nat.le_of_ble_eq_true rfl) (⟨by rw [show n1 = k by omega], by rw [show n1 = k by omega]; exact hSk, hk⟩)
      · refine lv_aload_n hx hb dX2_tick_21 rfl (lv_at hl 0 rfl) ?_
        refine j_callv (va_runV (As := []) (rest := []) ⟨hx, hb, hml, hown, hts⟩ (m_X2_tick_2 l W_ _ a (T + (k.toNat : Int)) (ticksO P k.toNat) f sh (hPk) (hSk) (by omega) (by omega)) (cw_X2_tick_2 hts q1503 (Nat.le_of_ble_eq_true rfl) (Nat.le_of_ble_eq_true rfl)) (j_preV hV hH f11 rfl) rfl rfl hl.1 rfl (lv_room (Nat.le_of_ble_eq_true rfl)) dX2_tick_22 ⟨Nat.le_of_ble_eq_true rfl, Nat.le_of_ble_eq_true rfl⟩) hH (fun U12 H locs hp hH => ?_)
        obtain ⟨hS2_22, hs13⟩ := hp
        have hk : FR (fun T k => T = t ∨ T = 2) w U12 := FR.tr hk hs13 (by intro T k h_; first | exact h_.elim | (obtain ⟨rfl, rfl⟩ := h_; simp; done) | omega)
        refine j_iinc (k := 2) (lv' := fun x14 => [(2, .int (iI x14)), (0, .ref a), (1, .int (iI n1))]) hx hb dX2_tick_25 hl rfl (by decide) (fun _ => rfl) (fun x14 ex14 ls hl => ?_)
        refine lv_goto (tgt := 16) hx hb dX2_tick_28 (by decide) ?_
        exact ih_16 x14 U12 (by omega) (by rw [ex14, show (k + 1).toNat = k.toNat + 1 by omega]; exact hS2_22) hk (by first | assumption | omega) _ _ hH ls (lv_sub hl [1, 2, 0] rfl)
  exact L16 ((n1 - x10).toNat + 1) x10 w (by omega) (by rw [ex10]; exact h2) hk (by first | assumption | omega) _ _ hH ls (lv_sub hl [1, 2, 0] rfl)
theorem cw_X2_fullAfter {R : Room} {s : State} {args : Array Value} {own : String} {index lev mc ms : Nat} (hts : ∀ w ∈ lw_all, w.before args s = true) (hl : Cond.methodLink own index yX2_fullAfter ∈ lw_all) (hR1 : (rmL lev mc ms).frames + 1 ≤ R.frames) (hR2 : 8 + (3 + 11) + (rmL lev mc ms).locals ≤ R.locals) : CallW R s args own RX2 index yX2_fullAfter cX2_fullAfter 3 (some .int) (ws_ yX2_fullAfter cX2_fullAfter 3 (some .int)) (rmL lev mc ms) mc ms 1 :=
  cwV 1 hts (lw_V hl q2171 q2172 q109 q2173) rfl rfl rfl (by decide +kernel) ⟨hR1, hR2⟩
set_option maxHeartbeats 4000000 in
theorem m_X2_fullAfter {E : jE} (l : Launch) (w : Wl) (t : Nat) (a : Nat) (T : Int) (P : Int → Int) (f : Int → Nat) (sh : Int → Int) (n1 : Int) (h1 : PWF T P) (h2 : StA E w t a P f sh) (h3 : T ≤ 900000000) (h4 : 3 ≤ t) (h5 : 0 ≤ n1 ∧ n1 ≤ 200) (h6 : T ≤ 899000000) : Met l yX2_fullAfter (ws_ yX2_fullAfter cX2_fullAfter 3 (some .int)) (rmL 26 0 0) (va_Pc [.ref a, .int (iI n1)] (jP E w)) (jQi E (fun u : Wl => u) (fun z u => z = fulO P n1 ∧ FR (fun T k => T = t ∨ T = 2) w u)) 0 0 (jA E) := by
  refine j_metI (by decide) (Nat.le_of_ble_eq_true rfl) ?_
  intro p e s m args below meth c Q hx hb hml hown hnm hts hV hH hret ls hl
  have hl : lv_has ls 3 [(0, .ref a), (1, .int (iI n1))] := hl
  have h0 := hH.1.2
  have hR0 := hH.1
  have hk : FR (fun T k => T = t ∨ T = 2) w w := FR.rf
  have hP := h1
  have hS := h2
  have hS0 := h2
  obtain ⟨nl, sl, stt, ar, tlo, mo, mo2, ch, se, ha, hnl, hAD, hT, hsl, hLQ, hSc, hst, hti⟩ := hS0
  have hA := hP.A
  have hB := hP.B
  have hC := hP.C
  have hT0 := h3
  have f1 : w a = some (t, .inr (1, [.int (iI (P 0)), .int (iI (P 1)), .ref nl, .ref sl, .ref stt, va_rf tlo, .int (iI (P 4)), .int (iI (P 5)), .int (iI (P 6))])) := ha
  have f2 : w nl = some (t, .inr (10, [.int (iI mo), .ref ar, .int (iI (P 2))])) := hnl
  have f3 : w sl = some (t, .inr (12, [.int (iI mo2), .int (iI (P 3)), va_rf (hdO (P 3) ch 0), va_rf (prO ch (P 3))])) := hsl
  have f4 : w stt = some (t, arI E 4 (sg4 P)) := hst
  have p5 : AD E w t ar (P 2) f := hAD
  have p6 : TRE w t P f sh := hT
  have p7 : LQ w t (P 3) ch se := hLQ
  have p8 : ScO w P se := hSc
  have p9 : titO w P tlo := hti
  refine j_iconst hx hb dX2_fullAfter_0 ?_
  refine j_istore_n (lv' := fun x10 => [(2, .int (iI x10)), (0, .ref a), (1, .int (iI n1))]) hx hb dX2_fullAfter_1 rfl hl (by decide) (fun _ => rfl) (fun x10 ex10 ls hl => ?_)
  have L2 : ∀ (n_ : Nat), ∀ (k : Int) (W_ : Wl) (hm_ : n1 + 1 - k < (n_ : Int)) (hSk : StA E W_ t a (ticksO P k.toNat) f sh) (hk : FR (fun T k => T = t ∨ T = 2) w W_) (hk0 : 0 ≤ k ∧ k ≤ n1) (i3 : upF (fulP P) (n1 + 1).toNat 0 = upF (fulP P) (n1 + 1 - k).toNat k) (H : Heap) (locs : List Loc), jH E s.heap W_ H locs → ∀ ls : Array Slot, lv_has ls 3 [(0, .ref a), (1, .int (iI n1)), (2, .int (iI k))] → W p l e (rmL 26 0 0) s m args below meth c H locs 0 0 Q (F0 m 2 ls []) := by
    intro n_
    induction n_ with
    | zero =>
      intro k W_ hm_ hSk hk hk0 i3 H locs hH ls hl
      exact absurd hm_ (by omega)
    | succ n_ ih_2 =>
      intro k W_ hm_ hSk hk hk0 i3 H locs hH ls hl
      obtain ⟨nl2, sl2, stt2, ar2, tlo2, mo9, mo29, ch2, se2, ha2, hk2_⟩ := id hSk
      have hPk := hP.ticks k.toNat
      have f11 : W_ a = some (t, .inr (1, [.int (iI (ticksO P k.toNat 0)), .int (iI (ticksO P k.toNat 1)), .ref nl2, .ref sl2, .ref stt2, va_rf tlo2, .int (iI (ticksO P k.toNat 4)), .int (iI (ticksO P k.toNat 5)), .int (iI (ticksO P k.toNat 6))])) := ha2
      refine lv_aload_n hx hb dX2_fullAfter_2 rfl (lv_at hl 0 rfl) ?_
      refine j_callip (va_runV (As := []) (rest := []) ⟨hx, hb, hml, hown, hts⟩ (m_X2_isFull l _ t a (T + (k.toNat : Int)) (ticksO P k.toNat) f sh (hPk) (hSk) (by omega)) (cw_X2_isFull hts q2174 (Nat.le_of_ble_eq_true rfl) (Nat.le_of_ble_eq_true rfl)) (j_preV hV hH f11 rfl) rfl rfl hl.1 rfl (lv_room (Nat.le_of_ble_eq_true rfl)) dX2_fullAfter_3 ⟨Nat.le_of_ble_eq_true rfl, Nat.le_of_ble_eq_true rfl⟩) hH (fun H locs hH => ?_)
      refine j_top (b := bI (fulP P k)) ((bI_c (by rw [show ticksO P k.toNat 7 = P 7 from ticksO_k (by decide) (by decide) (by decide) _]; exact (agN_ticks P k.toNat).fits hP _ _ _ _))) ?_
      refine j_ifne_b (tgt := 24) hx hb dX2_fullAfter_6 (by decide) (fun c6 => ?_) (fun c6 => ?_)
      · refine lv_aload_n hx hb dX2_fullAfter_24 rfl (lv_at hl 0 rfl) ?_
        refine j_callip (va_runV (As := []) (rest := []) ⟨hx, hb, hml, hown, hts⟩ (m_X2_isFull l _ t a (T + (k.toNat : Int)) (ticksO P k.toNat) f sh (hPk) (hSk) (by omega)) (cw_X2_isFull hts q2174 (Nat.le_of_ble_eq_true rfl) (Nat.le_of_ble_eq_true rfl)) (j_preV hV hH f11 rfl) rfl rfl hl.1 rfl (lv_room (Nat.le_of_ble_eq_true rfl)) dX2_fullAfter_25 ⟨Nat.le_of_ble_eq_true rfl, Nat.le_of_ble_eq_true rfl⟩) hH (fun H locs hH => ?_)
        refine j_top (b := bI (fulP P k)) ((bI_c (by rw [show ticksO P k.toNat 7 = P 7 from ticksO_k (by decide) (by decide) (by decide) _]; exact (agN_ticks P k.toNat).fits hP _ _ _ _))) ?_
        refine j_ifeq_b (tgt := 35) hx hb dX2_fullAfter_28 (by decide) (fun c28 => ?_) (fun c28 => ?_)
        · refine j_sipush hx hb dX2_fullAfter_35 (by decide) ?_
          exact hret W_ hH dX2_fullAfter_38 (Nat.le_of_ble_eq_true rfl) (Nat.le_of_ble_eq_true rfl) (⟨by first | exact absurd c28 c6 | exact absurd c6 c28 | (unfold fulO; rw [i3]; first | (rw [show (n1 + 1 - k).toNat = (n1 - k).toNat + 1 by omega, upF_s c28, if_neg (by omega)]; done) | (rw [show (n1 + 1 - k).toNat = 0 + 1 by omega, upF_n c28, upF_0 rfl, if_pos rfl]; done)), hk⟩)
        · refine lv_iload_n hx hb dX2_fullAfter_31 rfl (lv_at hl 2 rfl) ?_
          refine lv_goto (tgt := 38) hx hb dX2_fullAfter_32 (by decide) ?_
          exact hret W_ hH dX2_fullAfter_38 (Nat.le_of_ble_eq_true rfl) (Nat.le_of_ble_eq_true rfl) (⟨by first | exact absurd c28 c6 | exact absurd c6 c28 | (unfold fulO; rw [i3]; first | (rw [show (n1 + 1 - k).toNat = (n1 - k).toNat + 1 by omega, upF_s c28, if_neg (by omega)]; done) | (rw [show (n1 + 1 - k).toNat = 0 + 1 by omega, upF_n c28, upF_0 rfl, if_pos rfl]; done)), hk⟩)
      · refine lv_iload_n hx hb dX2_fullAfter_9 rfl (lv_at hl 2 rfl) ?_
        refine lv_iload_n hx hb dX2_fullAfter_10 rfl (lv_at hl 1 rfl) ?_
        refine j_icmp_ge (tgt := 24) hx hb dX2_fullAfter_11 (by decide) (by omega) (by omega) (fun c11 => ?_) (fun c11 => ?_)
        · refine lv_aload_n hx hb dX2_fullAfter_24 rfl (lv_at hl 0 rfl) ?_
          refine j_callip (va_runV (As := []) (rest := []) ⟨hx, hb, hml, hown, hts⟩ (m_X2_isFull l _ t a (T + (k.toNat : Int)) (ticksO P k.toNat) f sh (hPk) (hSk) (by omega)) (cw_X2_isFull hts q2174 (Nat.le_of_ble_eq_true rfl) (Nat.le_of_ble_eq_true rfl)) (j_preV hV hH f11 rfl) rfl rfl hl.1 rfl (lv_room (Nat.le_of_ble_eq_true rfl)) dX2_fullAfter_25 ⟨Nat.le_of_ble_eq_true rfl, Nat.le_of_ble_eq_true rfl⟩) hH (fun H locs hH => ?_)
          refine j_top (b := bI (fulP P k)) ((bI_c (by rw [show ticksO P k.toNat 7 = P 7 from ticksO_k (by decide) (by decide) (by decide) _]; exact (agN_ticks P k.toNat).fits hP _ _ _ _))) ?_
          refine j_ifeq_b (tgt := 35) hx hb dX2_fullAfter_28 (by decide) (fun c28 => ?_) (fun c28 => ?_)
          · refine j_sipush hx hb dX2_fullAfter_35 (by decide) ?_
            exact hret W_ hH dX2_fullAfter_38 (Nat.le_of_ble_eq_true rfl) (Nat.le_of_ble_eq_true rfl) (⟨by first | exact absurd c28 c6 | exact absurd c6 c28 | (unfold fulO; rw [i3]; first | (rw [show (n1 + 1 - k).toNat = (n1 - k).toNat + 1 by omega, upF_s c28, if_neg (by omega)]; done) | (rw [show (n1 + 1 - k).toNat = 0 + 1 by omega, upF_n c28, upF_0 rfl, if_pos rfl]; done)), hk⟩)
          · refine lv_iload_n hx hb dX2_fullAfter_31 rfl (lv_at hl 2 rfl) ?_
            refine lv_goto (tgt := 38) hx hb dX2_fullAfter_32 (by decide) ?_
            exact hret W_ hH dX2_fullAfter_38 (Nat.le_of_ble_eq_true rfl) (Nat.le_of_ble_eq_true rfl) (⟨by first | exact absurd c28 c6 | exact absurd c6 c28 | (unfold fulO; rw [i3]; first | (rw [show (n1 + 1 - k).toNat = (n1 - k).toNat + 1 by omega, upF_s c28, if_neg (by omega)]; done) | (rw [show (n1 + 1 - k).toNat = 0 + 1 by omega, upF_n c28, upF_0 rfl, if_pos rfl]; done)), hk⟩)
        · refine lv_aload_n hx hb dX2_fullAfter_14 rfl (lv_at hl 0 rfl) ?_
          refine j_callv (va_runV (As := []) (rest := []) ⟨hx, hb, hml, hown, hts⟩ (m_X2_tick_2 l W_ _ a (T + (k.toNat : Int)) (ticksO P k.toNat) f sh (hPk) (hSk) (by omega) (by omega)) (cw_X2_tick_2 hts q1503 (Nat.le_of_ble_eq_true rfl) (Nat.le_of_ble_eq_true rfl)) (j_preV hV hH f11 rfl) rfl rfl hl.1 rfl (lv_room (Nat.le_of_ble_eq_true rfl)) dX2_fullAfter_15 ⟨Nat.le_of_ble_eq_true rfl, Nat.le_of_ble_eq_true rfl⟩) hH (fun U12 H locs hp hH => ?_)
          obtain ⟨hS2_15, hs13⟩ := hp
          have hk : FR (fun T k => T = t ∨ T = 2) w U12 := FR.tr hk hs13 (by intro T k h_; first | exact h_.elim | (obtain ⟨rfl, rfl⟩ := h_; simp; done) | omega)
          refine j_iinc (k := 2) (lv' := fun x14 => [(2, .int (iI x14)), (0, .ref a), (1, .int (iI n1))]) hx hb dX2_fullAfter_18 hl rfl (by decide) (fun _ => rfl) (fun x14 ex14 ls hl => ?_)
          refine lv_goto (tgt := 2) hx hb dX2_fullAfter_21 (by decide) ?_
          exact ih_2 x14 U12 (by omega) (by rw [ex14, show (k + 1).toNat = k.toNat + 1 by omega]; exact hS2_15) hk (by first | assumption | omega) (by rw [ex14, i3, show (n1 + 1 - k).toNat = (n1 + 1 - (k + 1)).toNat + 1 by omega]; exact upF_n c6) _ _ hH ls (lv_sub hl [1, 2, 0] rfl)
  exact L2 ((n1 + 1 - x10).toNat + 1) x10 w (by omega) (by rw [ex10]; exact h2) hk (by first | assumption | omega) (by rw [ex10, show n1 + 1 - 0 = n1 + 1 by omega]) _ _ hH ls (lv_sub hl [1, 2, 0] rfl)
