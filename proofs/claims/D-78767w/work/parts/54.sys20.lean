/-! THE SYSTEM's METHODS: stages and nodes are made -/
set_option maxRecDepth 100000
/-- a call of an abstract method that the receiver's class has -/
theorem j_cwA {s : State} {R : Room} {args : Array Value} {own C owner : String} {index maxL lev mc ms : Nat} {x y : MethodName} {bytes : ByteArray} {ret : Option FieldType} (n : Nat) (hts : ∀ w ∈ lw_all, w.before args s = true) (h1 : Cond.methodLink own index x ∈ lw_all) (h2 : Cond.sameMethod x.cls owner x.name x.desc ∈ lw_all) (h3 : Cond.selects C x y ∈ lw_all) (h4 : Cond.instanceMethod y ∈ lw_all) (h5 : Cond.initialized y.cls ∈ lw_all) (h6 : Cond.code y bytes maxL ret ∈ lw_all)
    (hd : va_Nw (.declares ⟨owner, x.name, x.desc⟩) s) (hn : owner ≠ "java/lang/invoke/MethodHandle" ∧ owner ≠ "java/lang/invoke/VarHandle" ∧ (parseMethodDescriptor x.desc).map (fun d => d.parameters.length) = some n) (hR1 : (rmL lev mc ms).frames + 1 ≤ R.frames) (hR2 : 8 + (maxL + 11) + (rmL lev mc ms).locals ≤ R.locals) : va_CU R s args own C owner index x y bytes maxL ret (ws_ y bytes maxL ret) (rmL lev mc ms) mc ms n := by
  obtain ⟨r, meth, q1, q2, q3, q4⟩ := Cond.declares_spec hd
  refine ⟨⟨rfl, rfl, hR1, hR2, pay_in hts (lw_meth h6), List.mem_cons_self⟩, hts _ h6, hts _ h5, ⟨hn.1, hn.2.1⟩, fun sig h => ?_, hts _ h1, hts _ h2, ⟨r, meth, q1, q2, q3, q4⟩, hts _ h3, hts _ h4⟩
  have h2 := hn.2.2
  rw [h] at h2
  exact (Option.some.inj h2).symm
/-- the first nodes of a page's tree in the heap -/
def TREk (w : Wl) (t : Nat) (P : Int → Int) (f : Int → Nat) (sh : Int → Int) (N : Int) : Prop := ∀ n : Int, 0 ≤ n → n < N → (0 < nd P n 4 → w (f n) = some (t, ndB P f sh n)) ∧ (¬ 0 < nd P n 4 → w (f n) = some (t, ndG P f n))
theorem TREk.kp {C : Nat → Nat → Prop} {w u : Wl} {t : Nat} {P : Int → Int} {f : Int → Nat} {sh : Int → Int} {N : Int} (h : TREk w t P f sh N) (k : FR C w u) (hC : ∀ T k : Nat, C T k → ¬ (T = t ∧ (k = 13 ∨ k = 14))) : TREk u t P f sh N := fun n p q =>
  ⟨fun r => k.at ((h n p q).1 r) (k := 13) rfl (fun e => hC _ _ e ⟨rfl, Or.inl rfl⟩), fun r => k.at ((h n p q).2 r) (k := 14) rfl (fun e => hC _ _ e ⟨rfl, Or.inr rfl⟩)⟩
theorem TREk.zero {w : Wl} {t : Nat} {P : Int → Int} {f : Int → Nat} {sh : Int → Int} : TREk w t P f sh 0 := fun n p q => by omega
theorem paO_upz {T : Int} {P : Int → Int} (hP : PWF T P) {f : Int → Nat} {k n : Int} {r : Nat} (h0 : 0 ≤ n) (hk : n ≤ k) (hn : n < P 2) : paO P (upz f k r) n = paO P f n := by
  unfold paO
  by_cases h : nd P n 0 = -1000
  · rw [if_pos h, if_pos h]
  · have hN := (hP.N h0 hn).1.resolve_left h
    rw [if_neg h, if_neg h, upz_n (by omega)]
theorem TREk.add {T : Int} {w : Wl} {t r : Nat} {P : Int → Int} {f : Int → Nat} {sh : Int → Int} {k : Int} {c : va_E} (hP : PWF T P) (h : TREk w t P f sh k) (h0 : 0 ≤ k) (hk : k < P 2) (hr : w r = some (t, c)) (hB : 0 < nd P k 4 → c = ndB P f sh k) (hG : ¬ 0 < nd P k 4 → c = ndG P f k) : TREk w t P (upz f k r) sh (k + 1) := fun n p q => by
  have hp := paO_upz (r := r) hP (f := f) (k := k) (n := n) p (by omega) (by omega)
  have e1 : ndB P (upz f k r) sh n = ndB P f sh n := by unfold ndB; rw [hp]
  have e2 : ndG P (upz f k r) n = ndG P f n := by unfold ndG; rw [hp]
  rw [e1, e2]
  by_cases hn : n = k
  · subst hn
    rw [upz_s, hr]
    exact ⟨fun h => by rw [hB h], fun h => by rw [hG h]⟩
  · rw [upz_n hn]
    exact h n p (by omega)
theorem paO_some {P : Int → Int} {f : Int → Nat} {n : Int} {r : Nat} (h : paO P f n = some r) : nd P n 0 ≠ -1000 ∧ r = f (nd P n 0) := by
  unfold paO at h
  by_cases q : nd P n 0 = -1000
  · rw [if_pos q] at h; cases h
  · rw [if_neg q] at h; cases h; exact ⟨q, rfl⟩
theorem paO_none {P : Int → Int} {f : Int → Nat} {n : Int} (h : paO P f n = none) : nd P n 0 = -1000 := by
  unfold paO at h
  by_cases q : nd P n 0 = -1000
  · exact q
  · rw [if_neg q] at h; cases h
theorem paO_eqn {P : Int → Int} {f : Int → Nat} {n : Int} (h : nd P n 0 = -1000) : paO P f n = none := if_pos h
theorem paO_eqs {P : Int → Int} {f : Int → Nat} {n : Int} (h : nd P n 0 ≠ -1000) : paO P f n = some (f (nd P n 0)) := if_neg h
theorem cwu0_X4_place_X4_41_X5 {R : Room} {s : State} {args : Array Value} {k mc ms : Nat} (hts : ∀ w ∈ lw_all, w.before args s = true) (hR1 : k + 1 ≤ R.frames) (hR2 : 8 + (4 + 11) + 96 * k ≤ R.locals) : va_CU R s args "EyeStage$Part" RX5 "EyeStage$Part" 41 ⟨"EyeStage$Part", "place", "(III)V"⟩ yX4_place cX4_place 4 none (ws_ yX4_place cX4_place 4 none) (rmL k mc ms) mc ms 3 :=
  va_cwU 3 hts (lw_U q448 q450 q451 q449 q131 q453) rfl rfl rfl rfl (by decide +kernel) ⟨hR1, hR2⟩
set_option maxHeartbeats 4000000 in
theorem m_X4_like_X5 {E : jE} (l : Launch) (w : Wl) (a : Nat) (t : Nat) (t2 : Nat) (n1 : Int) (v1 : Value) (x1 : Int) (y1 : Int) (z1 : Int) (v5 : Value) (v6 : Value) (v7 : Value) (v8 : Value) (u0_ : Value) (u1_ : Value) (u2_ : Value) (u3_ : Value) (u4_ : Value) (u5_ : Value) (u6_ : Value) (u7_ : Value) (u8_ : Value) (o2 : Nat) (h1 : w a = some (t, .inr (3, [.int (iI n1), v1, .int (iI x1), .int (iI y1), .int (iI z1), v5, v6, v7, v8]))) (h2 : w o2 = some (t2, .inr (3, [u0_, u1_, u2_, u3_, u4_, u5_, u6_, u7_, u8_]))) (h3 : a ≠ o2) : Met l yX4_like (ws_ yX4_like cX4_like 2 (some (.object "EyeStage$Part"))) (rmL 3 0 0) (va_Pc [.ref a, .ref o2] (jP E w)) (jQq E (fun u : Wl => u) (fun z u => z = some o2 ∧ u o2 = some (t2, .inr (3, [.int (iI n1), u1_, .int (iI x1), .int (iI y1), .int (iI z1), u5_, u6_, u7_, u8_])) ∧ (u = up w o2 (t2, .inr (3, [.int (iI n1), u1_, .int (iI x1), .int (iI y1), .int (iI z1), u5_, u6_, u7_, u8_]))) ∧ FR (fun T k => T = t2 ∧ k = 13) w u)) 0 0 (jA E) := by
  refine j_metQ (by decide) (Nat.le_of_ble_eq_true rfl) (Or.inl ⟨_, rfl⟩) ?_
  intro p e s m args below meth c Q hx hb hml hown hnm hts hV hH hret ls hl
  have hl : lv_has ls 2 [(0, .ref a), (1, .ref o2)] := hl
  have h0 := hH.1.2
  have hR0 := hH.1
  have hk : FR (fun T k => T = t2 ∧ k = 13) w w := FR.rf
  refine lv_aload_n hx hb dX4_like_0 rfl (lv_at hl 1 rfl) ?_
  refine lv_aload_n hx hb dX4_like_1 rfl (lv_at hl 0 rfl) ?_
  refine j_get hx hb hts hown hV hH h1 rfl in_X5 0 (Nat.le_of_ble_eq_true rfl) q410 (fun _ h => h) rfl dX4_like_2 ?_
  refine j_put hx hb hts hown hV hH h2 rfl in_X5 tyX5 tyX5_ok nmX5 0 (Nat.le_of_ble_eq_true rfl) q410 (fun _ h => h) rfl rfl rfl (Nat.le_of_ble_eq_true rfl) dX4_like_5 (fun H locs hH => ?_)
  obtain ⟨V1, eV1⟩ : ∃ V_ : Wl, V_ = up w o2 (t2, .inr (3, [.int (iI n1), u1_, u2_, u3_, u4_, u5_, u6_, u7_, u8_])) := ⟨_, rfl⟩
  have hH := jH_eq hH eV1
  have hs2 : FR (fun T k => T = t2 ∧ k = 13) w V1 := by rw [eV1]; exact FR.one h2 rfl rfl
  have f3 : V1 a = some (t, .inr (3, [.int (iI n1), v1, .int (iI x1), .int (iI y1), .int (iI z1), v5, v6, v7, v8])) := by rw [eV1]; exact up_k h1 (by first | assumption | omega)
  have f4 : V1 o2 = some (t2, .inr (3, [.int (iI n1), u1_, u2_, u3_, u4_, u5_, u6_, u7_, u8_])) := by rw [eV1]; exact up_s
  have hk : FR (fun T k => T = t2 ∧ k = 13) w V1 := FR.tr hk hs2 (by intro T k h_; first | exact h_.elim | (obtain ⟨rfl, rfl⟩ := h_; simp; done) | omega)
  refine lv_aload_n hx hb dX4_like_8 rfl (lv_at hl 1 rfl) ?_
  refine lv_aload_n hx hb dX4_like_9 rfl (lv_at hl 0 rfl) ?_
  refine j_get hx hb hts hown hV hH f3 rfl in_X5 2 (Nat.le_of_ble_eq_true rfl) q416 (fun _ h => h) rfl dX4_like_10 ?_
  refine lv_aload_n hx hb dX4_like_13 rfl (lv_at hl 0 rfl) ?_
  refine j_get hx hb hts hown hV hH f3 rfl in_X5 3 (Nat.le_of_ble_eq_true rfl) q418 (fun _ h => h) rfl dX4_like_14 ?_
  refine lv_aload_n hx hb dX4_like_17 rfl (lv_at hl 0 rfl) ?_
  refine j_get hx hb hts hown hV hH f3 rfl in_X5 4 (Nat.le_of_ble_eq_true rfl) q420 (fun _ h => h) rfl dX4_like_18 ?_
  refine j_callvp (va_runU (As := [.int (iI x1), .int (iI y1), .int (iI z1)]) (rest := []) ⟨hx, hb, hml, hown, hts⟩ (m_X4_place_X5 l _ _ _ _ _ _ _ _ _ _ _ _ x1 y1 z1 (f4)) (cwu0_X4_place_X4_41_X5 hts (Nat.le_of_ble_eq_true rfl) (Nat.le_of_ble_eq_true rfl)) (j_preV hV hH f4 rfl) rfl rfl hl.1 rfl (lv_room (Nat.le_of_ble_eq_true rfl)) dX4_like_21 ⟨Nat.le_of_ble_eq_true rfl, Nat.le_of_ble_eq_true rfl⟩) hH (fun H locs hH => ?_)
  obtain ⟨V5, eV5⟩ : ∃ V_ : Wl, V_ = up V1 o2 (t2, .inr (3, [.int (iI n1), u1_, .int (iI x1), .int (iI y1), .int (iI z1), u5_, u6_, u7_, u8_])) := ⟨_, rfl⟩
  have hH := jH_eq hH eV5
  have hs6 : FR (fun T k => T = t2 ∧ k = 13) V1 V5 := by rw [eV5]; exact FR.one f4 rfl rfl
  have f7 : V5 a = some (t, .inr (3, [.int (iI n1), v1, .int (iI x1), .int (iI y1), .int (iI z1), v5, v6, v7, v8])) := by rw [eV5]; exact up_k f3 (by first | assumption | omega)
  have f8 : V5 o2 = some (t2, .inr (3, [.int (iI n1), u1_, .int (iI x1), .int (iI y1), .int (iI z1), u5_, u6_, u7_, u8_])) := by rw [eV5]; exact up_s
  have hk : FR (fun T k => T = t2 ∧ k = 13) w V5 := FR.tr hk hs6 (by intro T k h_; first | exact h_.elim | (obtain ⟨rfl, rfl⟩ := h_; simp; done) | omega)
  refine lv_aload_n hx hb dX4_like_24 rfl (lv_at hl 1 rfl) ?_
  exact hret (some o2) V5 hH dX4_like_25 (Nat.le_of_ble_eq_true rfl) (Nat.le_of_ble_eq_true rfl) (⟨by first | rfl | omega, by assumption, by rw [eV5, eV1, up_up], hk⟩)
theorem cwu0_X4_place_X4_41_X6 {R : Room} {s : State} {args : Array Value} {k mc ms : Nat} (hts : ∀ w ∈ lw_all, w.before args s = true) (hR1 : k + 1 ≤ R.frames) (hR2 : 8 + (4 + 11) + 96 * k ≤ R.locals) : va_CU R s args "EyeStage$Part" RX6 "EyeStage$Part" 41 ⟨"EyeStage$Part", "place", "(III)V"⟩ yX4_place cX4_place 4 none (ws_ yX4_place cX4_place 4 none) (rmL k mc ms) mc ms 3 :=
  va_cwU 3 hts (lw_U q448 q450 q452 q449 q131 q453) rfl rfl rfl rfl (by decide +kernel) ⟨hR1, hR2⟩
set_option maxHeartbeats 4000000 in
theorem m_X4_like_X6 {E : jE} (l : Launch) (w : Wl) (a : Nat) (t : Nat) (t2 : Nat) (n1 : Int) (v1 : Value) (x1 : Int) (y1 : Int) (z1 : Int) (u0_ : Value) (u1_ : Value) (u2_ : Value) (u3_ : Value) (u4_ : Value) (o2 : Nat) (h1 : w a = some (t, .inr (4, [.int (iI n1), v1, .int (iI x1), .int (iI y1), .int (iI z1)]))) (h2 : w o2 = some (t2, .inr (4, [u0_, u1_, u2_, u3_, u4_]))) (h3 : a ≠ o2) : Met l yX4_like (ws_ yX4_like cX4_like 2 (some (.object "EyeStage$Part"))) (rmL 3 0 0) (va_Pc [.ref a, .ref o2] (jP E w)) (jQq E (fun u : Wl => u) (fun z u => z = some o2 ∧ u o2 = some (t2, .inr (4, [.int (iI n1), u1_, .int (iI x1), .int (iI y1), .int (iI z1)])) ∧ (u = up w o2 (t2, .inr (4, [.int (iI n1), u1_, .int (iI x1), .int (iI y1), .int (iI z1)]))) ∧ FR (fun T k => T = t2 ∧ k = 14) w u)) 0 0 (jA E) := by
  refine j_metQ (by decide) (Nat.le_of_ble_eq_true rfl) (Or.inl ⟨_, rfl⟩) ?_
  intro p e s m args below meth c Q hx hb hml hown hnm hts hV hH hret ls hl
  have hl : lv_has ls 2 [(0, .ref a), (1, .ref o2)] := hl
  have h0 := hH.1.2
  have hR0 := hH.1
  have hk : FR (fun T k => T = t2 ∧ k = 14) w w := FR.rf
  refine lv_aload_n hx hb dX4_like_0 rfl (lv_at hl 1 rfl) ?_
  refine lv_aload_n hx hb dX4_like_1 rfl (lv_at hl 0 rfl) ?_
  refine j_get hx hb hts hown hV hH h1 rfl in_X6 0 (Nat.le_of_ble_eq_true rfl) q410 (fun _ h => h) rfl dX4_like_2 ?_
  refine j_put hx hb hts hown hV hH h2 rfl in_X6 tyX6 tyX6_ok nmX6 0 (Nat.le_of_ble_eq_true rfl) q410 (fun _ h => h) rfl rfl rfl (Nat.le_of_ble_eq_true rfl) dX4_like_5 (fun H locs hH => ?_)
  obtain ⟨V1, eV1⟩ : ∃ V_ : Wl, V_ = up w o2 (t2, .inr (4, [.int (iI n1), u1_, u2_, u3_, u4_])) := ⟨_, rfl⟩
  have hH := jH_eq hH eV1
  have hs2 : FR (fun T k => T = t2 ∧ k = 14) w V1 := by rw [eV1]; exact FR.one h2 rfl rfl
  have f3 : V1 a = some (t, .inr (4, [.int (iI n1), v1, .int (iI x1), .int (iI y1), .int (iI z1)])) := by rw [eV1]; exact up_k h1 (by first | assumption | omega)
  have f4 : V1 o2 = some (t2, .inr (4, [.int (iI n1), u1_, u2_, u3_, u4_])) := by rw [eV1]; exact up_s
  have hk : FR (fun T k => T = t2 ∧ k = 14) w V1 := FR.tr hk hs2 (by intro T k h_; first | exact h_.elim | (obtain ⟨rfl, rfl⟩ := h_; simp; done) | omega)
  refine lv_aload_n hx hb dX4_like_8 rfl (lv_at hl 1 rfl) ?_
  refine lv_aload_n hx hb dX4_like_9 rfl (lv_at hl 0 rfl) ?_
  refine j_get hx hb hts hown hV hH f3 rfl in_X6 2 (Nat.le_of_ble_eq_true rfl) q416 (fun _ h => h) rfl dX4_like_10 ?_
  refine lv_aload_n hx hb dX4_like_13 rfl (lv_at hl 0 rfl) ?_
  refine j_get hx hb hts hown hV hH f3 rfl in_X6 3 (Nat.le_of_ble_eq_true rfl) q418 (fun _ h => h) rfl dX4_like_14 ?_
  refine lv_aload_n hx hb dX4_like_17 rfl (lv_at hl 0 rfl) ?_
  refine j_get hx hb hts hown hV hH f3 rfl in_X6 4 (Nat.le_of_ble_eq_true rfl) q420 (fun _ h => h) rfl dX4_like_18 ?_
  refine j_callvp (va_runU (As := [.int (iI x1), .int (iI y1), .int (iI z1)]) (rest := []) ⟨hx, hb, hml, hown, hts⟩ (m_X4_place_X6 l _ _ _ _ _ _ _ _ x1 y1 z1 (f4)) (cwu0_X4_place_X4_41_X6 hts (Nat.le_of_ble_eq_true rfl) (Nat.le_of_ble_eq_true rfl)) (j_preV hV hH f4 rfl) rfl rfl hl.1 rfl (lv_room (Nat.le_of_ble_eq_true rfl)) dX4_like_21 ⟨Nat.le_of_ble_eq_true rfl, Nat.le_of_ble_eq_true rfl⟩) hH (fun H locs hH => ?_)
  obtain ⟨V5, eV5⟩ : ∃ V_ : Wl, V_ = up V1 o2 (t2, .inr (4, [.int (iI n1), u1_, .int (iI x1), .int (iI y1), .int (iI z1)])) := ⟨_, rfl⟩
  have hH := jH_eq hH eV5
  have hs6 : FR (fun T k => T = t2 ∧ k = 14) V1 V5 := by rw [eV5]; exact FR.one f4 rfl rfl
  have f7 : V5 a = some (t, .inr (4, [.int (iI n1), v1, .int (iI x1), .int (iI y1), .int (iI z1)])) := by rw [eV5]; exact up_k f3 (by first | assumption | omega)
  have f8 : V5 o2 = some (t2, .inr (4, [.int (iI n1), u1_, .int (iI x1), .int (iI y1), .int (iI z1)])) := by rw [eV5]; exact up_s
  have hk : FR (fun T k => T = t2 ∧ k = 14) w V5 := FR.tr hk hs6 (by intro T k h_; first | exact h_.elim | (obtain ⟨rfl, rfl⟩ := h_; simp; done) | omega)
  refine lv_aload_n hx hb dX4_like_24 rfl (lv_at hl 1 rfl) ?_
  exact hret (some o2) V5 hH dX4_like_25 (Nat.le_of_ble_eq_true rfl) (Nat.le_of_ble_eq_true rfl) (⟨by first | rfl | omega, by assumption, by rw [eV5, eV1, up_up], hk⟩)
theorem cwu0_X4_like_X5_24_X5 {R : Room} {s : State} {args : Array Value} {k mc ms : Nat} (hts : ∀ w ∈ lw_all, w.before args s = true) (hR1 : k + 1 ≤ R.frames) (hR2 : 8 + (2 + 11) + 96 * k ≤ R.locals) : va_CU R s args "EyeStage$Box" RX5 "EyeStage$Part" 24 ⟨"EyeStage$Box", "like", "(LEyeStage$Part;)LEyeStage$Part;"⟩ yX4_like cX4_like 2 (some (.object "EyeStage$Part")) (ws_ yX4_like cX4_like 2 (some (.object "EyeStage$Part"))) (rmL k mc ms) mc ms 1 :=
  va_cwU 1 hts (lw_U q442 q443 q445 q446 q131 q447) rfl rfl rfl rfl (by decide +kernel) ⟨hR1, hR2⟩
theorem cw_X5_copyInto_2 {R : Room} {s : State} {args : Array Value} {own : String} {index lev mc ms : Nat} (hts : ∀ w ∈ lw_all, w.before args s = true) (hl : Cond.methodLink own index yX5_copyInto_2 ∈ lw_all) (hR1 : (rmL lev mc ms).frames + 1 ≤ R.frames) (hR2 : 8 + (3 + 11) + (rmL lev mc ms).locals ≤ R.locals) : CallW R s args own RX5 index yX5_copyInto_2 cX5_copyInto_2 3 (some (.object "EyeStage$Box")) (ws_ yX5_copyInto_2 cX5_copyInto_2 3 (some (.object "EyeStage$Box"))) (rmL lev mc ms) mc ms 1 :=
  cwV 1 hts (lw_V hl q384 q385 q132 q386) rfl rfl rfl (by decide +kernel) ⟨hR1, hR2⟩
set_option maxHeartbeats 4000000 in
theorem m_X5_copyInto_2 {E : jE} (l : Launch) (w : Wl) (a : Nat) (t : Nat) (tg : Nat) (n1 : Int) (pq : Option Nat) (x1 : Int) (y1 : Int) (z1 : Int) (w1 : Int) (h1_ : Int) (s1 : Int) (f1 : Int) (pg : Option Nat) (h1 : w a = some (t, .inr (3, [.int (iI n1), va_rf pq, .int (iI x1), .int (iI y1), .int (iI z1), .int (iI w1), .int (iI h1_), .int (iI s1), .int (iI f1)]))) (h2 : tg ≠ t) : Met l yX5_copyInto_2 (ws_ yX5_copyInto_2 cX5_copyInto_2 3 (some (.object "EyeStage$Box"))) (rmL 5 1 9) (va_Pc [.ref a, va_rf pg] (jP E w)) (jQq E (fun u : Wl => u) (fun z u => ∃ (b : Nat), z = some b ∧ u b = some (tg, .inr (3, [.int (iI n1), va_rf pg, .int (iI x1), .int (iI y1), .int (iI z1), .int (iI w1), .int (iI h1_), .int (iI s1), .int (iI 0)])) ∧ (w b = none) ∧ FR (fun T k => False) w u)) 1 9 (jA E) := by
  refine j_metQ (by decide) (by cases pg <;> exact Nat.le_of_ble_eq_true rfl) (Or.inl ⟨_, rfl⟩) ?_
  intro p e s m args below meth c Q hx hb hml hown hnm hts hV hH hret ls hl
  have hl : lv_has ls 3 [(0, .ref a), (1, va_rf pg)] := by cases pg <;> exact hl
  have h0 := hH.1.2
  have hR0 := hH.1
  have hk : FR (fun T k => False) w w := FR.rf
  refine lv_aload_n hx hb dX5_copyInto_2_0 rfl (lv_at hl 0 rfl) ?_
  refine j_new (ci := 3) hx hb hts hown hV hH rfl in_X5 tyX5 tyX5_ok q387 q388 q132 [.int (iI 0), .null, .int (iI 0), .int (iI 0), .int (iI 0), .int (iI 0), .int (iI 0), .int (iI 0), .int (iI 0)] (fun j hj => by rcases j with _ | _ | _ | _ | _ | _ | _ | _ | _ | j <;> first | rfl | omega) (Nat.le_of_ble_eq_true rfl) (Nat.le_of_ble_eq_true rfl) dX5_copyInto_2_1 (fun r1 H er1 zr1 nr1 hH => ?_)
  have hH := hH tg
  obtain ⟨V1, eV1⟩ : ∃ V_ : Wl, V_ = up w r1 (tg, .inr (3, [.int (iI 0), .null, .int (iI 0), .int (iI 0), .int (iI 0), .int (iI 0), .int (iI 0), .int (iI 0), .int (iI 0)])) := ⟨_, rfl⟩
  have hH := jH_eq hH eV1
  have nwr1 : w r1 = none := hk.non_ nr1
  have ne3 : a ≠ r1 := ne_fr h1 nr1
  have hs2 : FR (fun _ _ => False) w V1 := by rw [eV1]; exact FR.new1 nr1
  have f4 : V1 a = some (t, .inr (3, [.int (iI n1), va_rf pq, .int (iI x1), .int (iI y1), .int (iI z1), .int (iI w1), .int (iI h1_), .int (iI s1), .int (iI f1)])) := hs2.at h1 (k := 13) rfl (by first | exact not_false | (intro q_; simp at q_; done) | omega)
  have f5 : V1 r1 = some (tg, .inr (3, [.int (iI 0), .null, .int (iI 0), .int (iI 0), .int (iI 0), .int (iI 0), .int (iI 0), .int (iI 0), .int (iI 0)])) := by rw [eV1]; exact up_s
  have hk : FR (fun T k => False) w V1 := FR.tr hk hs2 (by intro T k h_; exact h_.elim)
  refine lv_dup hx hb dX5_copyInto_2_4 rfl ?_
  refine j_aload_n hx hb dX5_copyInto_2_5 rfl (lv_at hl 1 rfl) ?_
  refine lv_aload_n hx hb dX5_copyInto_2_6 rfl (lv_at hl 0 rfl) ?_
  refine j_get hx hb hts hown hV hH f4 rfl in_X5 5 (Nat.le_of_ble_eq_true rfl) q396 (fun _ h => h) rfl dX5_copyInto_2_7 ?_
  refine lv_aload_n hx hb dX5_copyInto_2_10 rfl (lv_at hl 0 rfl) ?_
  refine j_get hx hb hts hown hV hH f4 rfl in_X5 6 (Nat.le_of_ble_eq_true rfl) q398 (fun _ h => h) rfl dX5_copyInto_2_11 ?_
  refine j_callvp (va_runI (As := [va_rf pg, .int (iI w1), .int (iI h1_)]) (rest := [.ref r1, .ref a]) ⟨hx, hb, hml, hown, hts⟩ (m_X5_init l _ _ _ _ _ _ _ _ _ _ _ _ pg w1 h1_ (f5)) (cw_X5_init hts q389 (Nat.le_of_ble_eq_true rfl) (Nat.le_of_ble_eq_true rfl)) (j_preS hV hH) rfl rfl hl.1 rfl (lv_room (Nat.le_of_ble_eq_true rfl)) dX5_copyInto_2_14 ⟨Nat.le_of_ble_eq_true rfl, Nat.le_of_ble_eq_true rfl⟩) hH (fun H locs hH => ?_)
  obtain ⟨V6, eV6⟩ : ∃ V_ : Wl, V_ = up V1 r1 (tg, .inr (3, [.int (iI 0), va_rf pg, .int (iI 0), .int (iI 0), .int (iI 0), .int (iI w1), .int (iI h1_), .int (iI 8), .int (iI 0)])) := ⟨_, rfl⟩
  have hH := jH_eq hH eV6
  have hs7 : FR (fun T k => T = tg ∧ k = 13) V1 V6 := by rw [eV6]; exact FR.one f5 rfl rfl
  have f8 : V6 a = some (t, .inr (3, [.int (iI n1), va_rf pq, .int (iI x1), .int (iI y1), .int (iI z1), .int (iI w1), .int (iI h1_), .int (iI s1), .int (iI f1)])) := by rw [eV6]; exact up_k f4 (ne3)
  have f9 : V6 r1 = some (tg, .inr (3, [.int (iI 0), va_rf pg, .int (iI 0), .int (iI 0), .int (iI 0), .int (iI w1), .int (iI h1_), .int (iI 8), .int (iI 0)])) := by rw [eV6]; exact up_s
  have hk : FR (fun T k => False) w V6 := by rw [eV6]; exact FR.putF hk nwr1
  refine j_callq (va_runU (As := [.ref r1]) (rest := []) ⟨hx, hb, hml, hown, hts⟩ (m_X4_like_X5 l V6 a t tg n1 (va_rf pq) x1 y1 z1 (.int (iI w1)) (.int (iI h1_)) (.int (iI s1)) (.int (iI f1)) (.int (iI 0)) (va_rf pg) (.int (iI 0)) (.int (iI 0)) (.int (iI 0)) (.int (iI w1)) (.int (iI h1_)) (.int (iI 8)) (.int (iI 0)) r1 (f8) (f9) (by assumption)) (cwu0_X4_like_X5_24_X5 hts (Nat.le_of_ble_eq_true rfl) (Nat.le_of_ble_eq_true rfl)) (j_preV hV hH f8 rfl) rfl rfl hl.1 rfl (lv_room (Nat.le_of_ble_eq_true rfl)) dX5_copyInto_2_17 ⟨Nat.le_of_ble_eq_true rfl, Nat.le_of_ble_eq_true rfl⟩) hH (fun z12 U10 H locs hp hH => ?_)
  obtain ⟨hzz12, f13, heq_17, hs11⟩ := hp
  have f14 : U10 a = some (t, .inr (3, [.int (iI n1), va_rf pq, .int (iI x1), .int (iI y1), .int (iI z1), .int (iI w1), .int (iI h1_), .int (iI s1), .int (iI f1)])) := hs11.at f8 (k := 13) rfl (by first | exact not_false | (intro q_; simp at q_; done) | omega)
  have hk : FR (fun T k => False) w U10 := by rw [heq_17]; exact FR.putF hk nwr1
  subst hzz12
  show W p l e _ s m args below meth c H locs _ _ Q (F0 m _ ls (.ref r1 :: []))
  refine j_castS hx hb hts hown hV hH f13 rfl q387 dX5_copyInto_2_20 ?_
  refine lv_astore_n (lv' := [(2, .ref r1), (0, .ref a), (1, va_rf pg)]) hx hb dX5_copyInto_2_23 rfl hl (by decide) (by cases pg <;> rfl) (fun ls hl => ?_)
  refine lv_aload_n hx hb dX5_copyInto_2_24 rfl (lv_at hl 0 rfl) ?_
  refine lv_aload_n hx hb dX5_copyInto_2_25 rfl (lv_at hl 1 rfl) ?_
  refine j_get hx hb hts hown hV hH f14 rfl in_X5 7 (Nat.le_of_ble_eq_true rfl) q400 (fun _ h => h) rfl dX5_copyInto_2_26 ?_
  refine j_put hx hb hts hown hV hH f13 rfl in_X5 tyX5 tyX5_ok nmX5 7 (Nat.le_of_ble_eq_true rfl) q400 (fun _ h => h) rfl rfl rfl (Nat.le_of_ble_eq_true rfl) dX5_copyInto_2_29 (fun H locs hH => ?_)
  obtain ⟨V15, eV15⟩ : ∃ V_ : Wl, V_ = up U10 r1 (tg, .inr (3, [.int (iI n1), (va_rf pg), .int (iI x1), .int (iI y1), .int (iI z1), .int (iI w1), .int (iI h1_), .int (iI s1), .int (iI 0)])) := ⟨_, rfl⟩
  have hH := jH_eq hH eV15
  have hs16 : FR (fun T k => T = tg ∧ k = 13) U10 V15 := by rw [eV15]; exact FR.one f13 rfl rfl
  have f17 : V15 a = some (t, .inr (3, [.int (iI n1), va_rf pq, .int (iI x1), .int (iI y1), .int (iI z1), .int (iI w1), .int (iI h1_), .int (iI s1), .int (iI f1)])) := by rw [eV15]; exact up_k f14 (ne3)
  have f18 : V15 r1 = some (tg, .inr (3, [.int (iI n1), (va_rf pg), .int (iI x1), .int (iI y1), .int (iI z1), .int (iI w1), .int (iI h1_), .int (iI s1), .int (iI 0)])) := by rw [eV15]; exact up_s
  have hk : FR (fun T k => False) w V15 := by rw [eV15]; exact FR.putF hk nwr1
  refine lv_aload_n hx hb dX5_copyInto_2_32 rfl (lv_at hl 0 rfl) ?_
  exact hret (some r1) V15 hH dX5_copyInto_2_33 (Nat.le_of_ble_eq_true rfl) (Nat.le_of_ble_eq_true rfl) (⟨r1, by first | rfl | omega, by assumption, nwr1, hk⟩)
set_option maxHeartbeats 4000000 in
theorem m_X5_copyInto {E : jE} (l : Launch) (w : Wl) (a : Nat) (t : Nat) (tg : Nat) (n1 : Int) (pq : Option Nat) (x1 : Int) (y1 : Int) (z1 : Int) (w1 : Int) (h1_ : Int) (s1 : Int) (f1 : Int) (pg : Option Nat) (h1 : w a = some (t, .inr (3, [.int (iI n1), va_rf pq, .int (iI x1), .int (iI y1), .int (iI z1), .int (iI w1), .int (iI h1_), .int (iI s1), .int (iI f1)]))) (h2 : tg ≠ t) : Met l yX5_copyInto (ws_ yX5_copyInto cX5_copyInto 2 (some (.object "EyeStage$Part"))) (rmL 6 1 9) (va_Pc [.ref a, va_rf pg] (jP E w)) (jQq E (fun u : Wl => u) (fun z u => ∃ (b : Nat), z = some b ∧ u b = some (tg, .inr (3, [.int (iI n1), va_rf pg, .int (iI x1), .int (iI y1), .int (iI z1), .int (iI w1), .int (iI h1_), .int (iI s1), .int (iI 0)])) ∧ (w b = none) ∧ FR (fun T k => False) w u)) 1 9 (jA E) := by
  refine j_metQ (by decide) (by cases pg <;> exact Nat.le_of_ble_eq_true rfl) (Or.inl ⟨_, rfl⟩) ?_
  intro p e s m args below meth c Q hx hb hml hown hnm hts hV hH hret ls hl
  have hl : lv_has ls 2 [(0, .ref a), (1, va_rf pg)] := by cases pg <;> exact hl
  have h0 := hH.1.2
  have hR0 := hH.1
  have hk : FR (fun T k => False) w w := FR.rf
  refine lv_aload_n hx hb dX5_copyInto_0 rfl (lv_at hl 0 rfl) ?_
  refine j_aload_n hx hb dX5_copyInto_1 rfl (lv_at hl 1 rfl) ?_
  refine j_callq (va_runV (As := [va_rf pg]) (rest := []) ⟨hx, hb, hml, hown, hts⟩ (m_X5_copyInto_2 l w a t tg n1 pq x1 y1 z1 w1 h1_ s1 f1 pg (h1) (by omega)) (cw_X5_copyInto_2 hts q383 (Nat.le_of_ble_eq_true rfl) (Nat.le_of_ble_eq_true rfl)) (j_preV hV hH h1 rfl) rfl rfl hl.1 rfl (lv_room (Nat.le_of_ble_eq_true rfl)) dX5_copyInto_2 ⟨Nat.le_of_ble_eq_true rfl, Nat.le_of_ble_eq_true rfl⟩) hH (fun z3 U1 H locs hp hH => ?_)
  obtain ⟨b4, hzz3, f5, hb0_2, hs2⟩ := hp
  have f6 : U1 a = some (t, .inr (3, [.int (iI n1), va_rf pq, .int (iI x1), .int (iI y1), .int (iI z1), .int (iI w1), .int (iI h1_), .int (iI s1), .int (iI f1)])) := hs2.at h1 (k := 13) rfl (by first | exact not_false | (intro q_; simp at q_; done) | omega)
  have hk : FR (fun T k => False) w U1 := FR.tr hk hs2 (by intro T k h_; first | exact h_.elim | (obtain ⟨rfl, rfl⟩ := h_; simp; done) | omega)
  subst hzz3
  show W p l e _ s m args below meth c H locs _ _ Q (F0 m _ ls (.ref b4 :: []))
  exact hret (some b4) U1 hH dX5_copyInto_5 (Nat.le_of_ble_eq_true rfl) (Nat.le_of_ble_eq_true rfl) (⟨_, by first | rfl | omega, by assumption, hb0_2, hk⟩)
theorem cwu0_X4_like_X6_10_X6 {R : Room} {s : State} {args : Array Value} {k mc ms : Nat} (hts : ∀ w ∈ lw_all, w.before args s = true) (hR1 : k + 1 ≤ R.frames) (hR2 : 8 + (2 + 11) + 96 * k ≤ R.locals) : va_CU R s args "EyeStage$Group" RX6 "EyeStage$Part" 10 ⟨"EyeStage$Group", "like", "(LEyeStage$Part;)LEyeStage$Part;"⟩ yX4_like cX4_like 2 (some (.object "EyeStage$Part")) (ws_ yX4_like cX4_like 2 (some (.object "EyeStage$Part"))) (rmL k mc ms) mc ms 1 :=
  va_cwU 1 hts (lw_U q473 q474 q475 q446 q131 q447) rfl rfl rfl rfl (by decide +kernel) ⟨hR1, hR2⟩
theorem cw_X6_copyInto_2 {R : Room} {s : State} {args : Array Value} {own : String} {index lev mc ms : Nat} (hts : ∀ w ∈ lw_all, w.before args s = true) (hl : Cond.methodLink own index yX6_copyInto_2 ∈ lw_all) (hR1 : (rmL lev mc ms).frames + 1 ≤ R.frames) (hR2 : 8 + (2 + 11) + (rmL lev mc ms).locals ≤ R.locals) : CallW R s args own RX6 index yX6_copyInto_2 cX6_copyInto_2 2 (some (.object "EyeStage$Group")) (ws_ yX6_copyInto_2 cX6_copyInto_2 2 (some (.object "EyeStage$Group"))) (rmL lev mc ms) mc ms 1 :=
  cwV 1 hts (lw_V hl q458 q459 q133 q460) rfl rfl rfl (by decide +kernel) ⟨hR1, hR2⟩
set_option maxHeartbeats 4000000 in
theorem m_X6_copyInto_2 {E : jE} (l : Launch) (w : Wl) (a : Nat) (t : Nat) (tg : Nat) (n1 : Int) (pq : Option Nat) (x1 : Int) (y1 : Int) (z1 : Int) (pg : Option Nat) (h1 : w a = some (t, .inr (4, [.int (iI n1), va_rf pq, .int (iI x1), .int (iI y1), .int (iI z1)]))) (h2 : tg ≠ t) : Met l yX6_copyInto_2 (ws_ yX6_copyInto_2 cX6_copyInto_2 2 (some (.object "EyeStage$Group"))) (rmL 5 1 5) (va_Pc [.ref a, va_rf pg] (jP E w)) (jQq E (fun u : Wl => u) (fun z u => ∃ (b : Nat), z = some b ∧ u b = some (tg, .inr (4, [.int (iI n1), va_rf pg, .int (iI x1), .int (iI y1), .int (iI z1)])) ∧ (w b = none) ∧ FR (fun T k => False) w u)) 1 5 (jA E) := by
  refine j_metQ (by decide) (by cases pg <;> exact Nat.le_of_ble_eq_true rfl) (Or.inl ⟨_, rfl⟩) ?_
  intro p e s m args below meth c Q hx hb hml hown hnm hts hV hH hret ls hl
  have hl : lv_has ls 2 [(0, .ref a), (1, va_rf pg)] := by cases pg <;> exact hl
  have h0 := hH.1.2
  have hR0 := hH.1
  have hk : FR (fun T k => False) w w := FR.rf
  refine lv_aload_n hx hb dX6_copyInto_2_0 rfl (lv_at hl 0 rfl) ?_
  refine j_new (ci := 4) hx hb hts hown hV hH rfl in_X6 tyX6 tyX6_ok q461 q462 q133 [.int (iI 0), .null, .int (iI 0), .int (iI 0), .int (iI 0)] (fun j hj => by rcases j with _ | _ | _ | _ | _ | j <;> first | rfl | omega) (Nat.le_of_ble_eq_true rfl) (Nat.le_of_ble_eq_true rfl) dX6_copyInto_2_1 (fun r1 H er1 zr1 nr1 hH => ?_)
  have hH := hH tg
  obtain ⟨V1, eV1⟩ : ∃ V_ : Wl, V_ = up w r1 (tg, .inr (4, [.int (iI 0), .null, .int (iI 0), .int (iI 0), .int (iI 0)])) := ⟨_, rfl⟩
  have hH := jH_eq hH eV1
  have nwr1 : w r1 = none := hk.non_ nr1
  have ne3 : a ≠ r1 := ne_fr h1 nr1
  have hs2 : FR (fun _ _ => False) w V1 := by rw [eV1]; exact FR.new1 nr1
  have f4 : V1 a = some (t, .inr (4, [.int (iI n1), va_rf pq, .int (iI x1), .int (iI y1), .int (iI z1)])) := hs2.at h1 (k := 14) rfl (by first | exact not_false | (intro q_; simp at q_; done) | omega)
  have f5 : V1 r1 = some (tg, .inr (4, [.int (iI 0), .null, .int (iI 0), .int (iI 0), .int (iI 0)])) := by rw [eV1]; exact up_s
  have hk : FR (fun T k => False) w V1 := FR.tr hk hs2 (by intro T k h_; exact h_.elim)
  refine lv_dup hx hb dX6_copyInto_2_4 rfl ?_
  refine j_aload_n hx hb dX6_copyInto_2_5 rfl (lv_at hl 1 rfl) ?_
  refine j_callvp (va_runI (As := [va_rf pg]) (rest := [.ref r1, .ref a]) ⟨hx, hb, hml, hown, hts⟩ (m_X6_init l _ _ _ _ _ _ _ _ pg (f5)) (cw_X6_init hts q463 (Nat.le_of_ble_eq_true rfl) (Nat.le_of_ble_eq_true rfl)) (j_preS hV hH) rfl rfl hl.1 rfl (lv_room (Nat.le_of_ble_eq_true rfl)) dX6_copyInto_2_6 ⟨Nat.le_of_ble_eq_true rfl, Nat.le_of_ble_eq_true rfl⟩) hH (fun H locs hH => ?_)
  obtain ⟨V6, eV6⟩ : ∃ V_ : Wl, V_ = up V1 r1 (tg, .inr (4, [.int (iI 0), va_rf pg, .int (iI 0), .int (iI 0), .int (iI 0)])) := ⟨_, rfl⟩
  have hH := jH_eq hH eV6
  have hs7 : FR (fun T k => T = tg ∧ k = 14) V1 V6 := by rw [eV6]; exact FR.one f5 rfl rfl
  have f8 : V6 a = some (t, .inr (4, [.int (iI n1), va_rf pq, .int (iI x1), .int (iI y1), .int (iI z1)])) := by rw [eV6]; exact up_k f4 (ne3)
  have f9 : V6 r1 = some (tg, .inr (4, [.int (iI 0), va_rf pg, .int (iI 0), .int (iI 0), .int (iI 0)])) := by rw [eV6]; exact up_s
  have hk : FR (fun T k => False) w V6 := by rw [eV6]; exact FR.putF hk nwr1
  refine j_callq (va_runU (As := [.ref r1]) (rest := []) ⟨hx, hb, hml, hown, hts⟩ (m_X4_like_X6 l V6 a t tg n1 (va_rf pq) x1 y1 z1 (.int (iI 0)) (va_rf pg) (.int (iI 0)) (.int (iI 0)) (.int (iI 0)) r1 (f8) (f9) (by assumption)) (cwu0_X4_like_X6_10_X6 hts (Nat.le_of_ble_eq_true rfl) (Nat.le_of_ble_eq_true rfl)) (j_preV hV hH f8 rfl) rfl rfl hl.1 rfl (lv_room (Nat.le_of_ble_eq_true rfl)) dX6_copyInto_2_9 ⟨Nat.le_of_ble_eq_true rfl, Nat.le_of_ble_eq_true rfl⟩) hH (fun z12 U10 H locs hp hH => ?_)
  obtain ⟨hzz12, f13, heq_9, hs11⟩ := hp
  have f14 : U10 a = some (t, .inr (4, [.int (iI n1), va_rf pq, .int (iI x1), .int (iI y1), .int (iI z1)])) := hs11.at f8 (k := 14) rfl (by first | exact not_false | (intro q_; simp at q_; done) | omega)
  have hk : FR (fun T k => False) w U10 := by rw [heq_9]; exact FR.putF hk nwr1
  subst hzz12
  show W p l e _ s m args below meth c H locs _ _ Q (F0 m _ ls (.ref r1 :: []))
  refine j_castS hx hb hts hown hV hH f13 rfl q461 dX6_copyInto_2_12 ?_
  exact hret (some r1) U10 hH dX6_copyInto_2_15 (Nat.le_of_ble_eq_true rfl) (Nat.le_of_ble_eq_true rfl) (⟨r1, by first | rfl | omega, by assumption, nwr1, hk⟩)
set_option maxHeartbeats 4000000 in
theorem m_X6_copyInto {E : jE} (l : Launch) (w : Wl) (a : Nat) (t : Nat) (tg : Nat) (n1 : Int) (pq : Option Nat) (x1 : Int) (y1 : Int) (z1 : Int) (pg : Option Nat) (h1 : w a = some (t, .inr (4, [.int (iI n1), va_rf pq, .int (iI x1), .int (iI y1), .int (iI z1)]))) (h2 : tg ≠ t) : Met l yX6_copyInto (ws_ yX6_copyInto cX6_copyInto 2 (some (.object "EyeStage$Part"))) (rmL 6 1 5) (va_Pc [.ref a, va_rf pg] (jP E w)) (jQq E (fun u : Wl => u) (fun z u => ∃ (b : Nat), z = some b ∧ u b = some (tg, .inr (4, [.int (iI n1), va_rf pg, .int (iI x1), .int (iI y1), .int (iI z1)])) ∧ (w b = none) ∧ FR (fun T k => False) w u)) 1 5 (jA E) := by
  refine j_metQ (by decide) (by cases pg <;> exact Nat.le_of_ble_eq_true rfl) (Or.inl ⟨_, rfl⟩) ?_
  intro p e s m args below meth c Q hx hb hml hown hnm hts hV hH hret ls hl
  have hl : lv_has ls 2 [(0, .ref a), (1, va_rf pg)] := by cases pg <;> exact hl
  have h0 := hH.1.2
  have hR0 := hH.1
  have hk : FR (fun T k => False) w w := FR.rf
  refine lv_aload_n hx hb dX6_copyInto_0 rfl (lv_at hl 0 rfl) ?_
  refine j_aload_n hx hb dX6_copyInto_1 rfl (lv_at hl 1 rfl) ?_
  refine j_callq (va_runV (As := [va_rf pg]) (rest := []) ⟨hx, hb, hml, hown, hts⟩ (m_X6_copyInto_2 l w a t tg n1 pq x1 y1 z1 pg (h1) (by omega)) (cw_X6_copyInto_2 hts q457 (Nat.le_of_ble_eq_true rfl) (Nat.le_of_ble_eq_true rfl)) (j_preV hV hH h1 rfl) rfl rfl hl.1 rfl (lv_room (Nat.le_of_ble_eq_true rfl)) dX6_copyInto_2 ⟨Nat.le_of_ble_eq_true rfl, Nat.le_of_ble_eq_true rfl⟩) hH (fun z3 U1 H locs hp hH => ?_)
  obtain ⟨b4, hzz3, f5, hb0_2, hs2⟩ := hp
  have f6 : U1 a = some (t, .inr (4, [.int (iI n1), va_rf pq, .int (iI x1), .int (iI y1), .int (iI z1)])) := hs2.at h1 (k := 14) rfl (by first | exact not_false | (intro q_; simp at q_; done) | omega)
  have hk : FR (fun T k => False) w U1 := FR.tr hk hs2 (by intro T k h_; first | exact h_.elim | (obtain ⟨rfl, rfl⟩ := h_; simp; done) | omega)
  subst hzz3
  show W p l e _ s m args below meth c H locs _ _ Q (F0 m _ ls (.ref b4 :: []))
  exact hret (some b4) U1 hH dX6_copyInto_5 (Nat.le_of_ble_eq_true rfl) (Nat.le_of_ble_eq_true rfl) (⟨_, by first | rfl | omega, by assumption, hb0_2, hk⟩)
theorem cw_X2_init {R : Room} {s : State} {args : Array Value} {own : String} {index lev mc ms : Nat} (hts : ∀ w ∈ lw_all, w.before args s = true) (hl : Cond.methodLink own index yX2_init ∈ lw_all) (hR1 : (rmL lev mc ms).frames + 1 ≤ R.frames) (hR2 : 8 + (4 + 11) + (rmL lev mc ms).locals ≤ R.locals) : CallB R s args own index yX2_init cX2_init 4 none (ws_ yX2_init cX2_init 4 none) (rmL lev mc ms) mc ms 3 ∧ yX2_init.name = "<init>" ∧ (Cond.instanceMethod yX2_init).before args s = true :=
  cwI 3 hts (lw_meth q164) rfl rfl rfl (hts _ q109) (hts _ hl) (hts _ q163) rfl (by decide +kernel) ⟨hR1, hR2⟩
set_option maxHeartbeats 4000000 in
theorem m_X2_init {E : jE} (l : Launch) (w : Wl) (a : Nat) (t : Nat) (v0 : Value) (v1 : Value) (v2 : Value) (v3 : Value) (v4 : Value) (v5 : Value) (v6 : Value) (v7 : Value) (v8 : Value) (w1 : Int) (h1_ : Int) (stt : Nat) (h1 : w a = some (t, .inr (1, [v0, v1, v2, v3, v4, v5, v6, v7, v8]))) : Met l yX2_init (ws_ yX2_init cX2_init 4 none) (rmL 6 2 7) (va_Pc [.ref a, .int (iI w1), .int (iI h1_), .ref stt] (jP E w)) (jQv E (fun u : Wl => u) (fun u => ∃ (nl : Nat) (sl : Nat), u a = some (t, .inr (1, [.int (iI w1), .int (iI h1_), .ref nl, .ref sl, .ref stt, v5, v6, .int (iI (-5)), .int (iI 5)])) ∧ u nl = some (t, .inr (10, [.int (iI 0), .ref (E.2.2.2 0), .int (iI 0)])) ∧ u sl = some (t, .inr (12, [.int (iI 0), .int (iI 0), .null, .null])) ∧ FR (fun T k => T = t ∧ (k = 11 ∨ k = 20 ∨ k = 22)) w u)) 2 7 (jA E) := by
  refine j_metV (by decide) (Nat.le_of_ble_eq_true rfl) ?_
  intro p e s m args below meth c Q hx hb hml hown hnm hts hV hH hret ls hl
  have hl : lv_has ls 4 [(0, .ref a), (1, .int (iI w1)), (2, .int (iI h1_)), (3, .ref stt)] := hl
  have h0 := hH.1.2
  have hR0 := hH.1
  have hk : FR (fun T k => T = t ∧ (k = 11 ∨ k = 20 ∨ k = 22)) w w := FR.rf
  refine lv_aload_n hx hb dX2_init_0 rfl (lv_at hl 0 rfl) ?_
  refine j_oinit hx hb hts hown hml q165 q158 q159 hl.1 dX2_init_1 (Nat.le_of_ble_eq_true rfl) (Nat.le_of_ble_eq_true rfl) ?_
  refine lv_aload_n hx hb dX2_init_4 rfl (lv_at hl 0 rfl) ?_
  refine j_new (ci := 10) hx hb hts hown hV hH rfl in_J2 tyJ2 tyJ2_ok q166 q167 q112 [.int (iI 0), .null, .int (iI 0)] (fun j hj => by rcases j with _ | _ | _ | j <;> first | rfl | omega) (Nat.le_of_ble_eq_true rfl) (Nat.le_of_ble_eq_true rfl) dX2_init_5 (fun r5 H er5 zr5 nr5 hH => ?_)
  have hH := hH t
  obtain ⟨V1, eV1⟩ : ∃ V_ : Wl, V_ = up w r5 (t, .inr (10, [.int (iI 0), .null, .int (iI 0)])) := ⟨_, rfl⟩
  have hH := jH_eq hH eV1
  have nwr5 : w r5 = none := hk.non_ nr5
  have hs2 : FR (fun _ _ => False) w V1 := by rw [eV1]; exact FR.new1 nr5
  have f3 : V1 a = some (t, .inr (1, [v0, v1, v2, v3, v4, v5, v6, v7, v8])) := hs2.at h1 (k := 11) rfl (by first | exact not_false | (intro q_; simp at q_; done) | omega)
  have f4 : V1 r5 = some (t, .inr (10, [.int (iI 0), .null, .int (iI 0)])) := by rw [eV1]; exact up_s
  have hk : FR (fun T k => T = t ∧ (k = 11 ∨ k = 20 ∨ k = 22)) w V1 := FR.tr hk hs2 (by intro T k h_; exact h_.elim)
  refine lv_dup hx hb dX2_init_8 rfl ?_
  refine j_callv (va_runI (As := []) (rest := [.ref r5, .ref a]) ⟨hx, hb, hml, hown, hts⟩ (m_J2_init l V1 r5 t (.int (iI 0)) .null (.int (iI 0)) (f4)) (cw_J2_init hts q168 (Nat.le_of_ble_eq_true rfl) (Nat.le_of_ble_eq_true rfl)) (j_preS hV hH) rfl rfl hl.1 rfl (lv_room (Nat.le_of_ble_eq_true rfl)) dX2_init_9 ⟨Nat.le_of_ble_eq_true rfl, Nat.le_of_ble_eq_true rfl⟩) hH (fun U5 H locs hp hH => ?_)
  obtain ⟨f7, hs6⟩ := hp
  have f8 : U5 a = some (t, .inr (1, [v0, v1, v2, v3, v4, v5, v6, v7, v8])) := hs6.at f3 (k := 11) rfl (by first | exact not_false | (intro q_; simp at q_; done) | omega)
  have hk : FR (fun T k => T = t ∧ (k = 11 ∨ k = 20 ∨ k = 22)) w U5 := FR.tr hk hs6 (by intro T k h_; first | exact h_.elim | (obtain ⟨rfl, rfl⟩ := h_; simp; done) | omega)
  refine j_putF hx hb hts hown hV hH f8 rfl in_X2 tyX2 tyX2_ok nmX2 2 (Nat.le_of_ble_eq_true rfl) q224 (fun _ h => h) rfl hnm rfl rfl rfl (Nat.le_of_ble_eq_true rfl) dX2_init_12 (fun H locs hH => ?_)
  obtain ⟨V9, eV9⟩ : ∃ V_ : Wl, V_ = up U5 a (t, .inr (1, [v0, v1, .ref r5, v3, v4, v5, v6, v7, v8])) := ⟨_, rfl⟩
  have hH := jH_eq hH eV9
  have hs10 : FR (fun T k => T = t ∧ k = 11) U5 V9 := by rw [eV9]; exact FR.one f8 rfl rfl
  have f11 : V9 r5 = some (t, .inr (10, [.int (iI 0), .ref (E.2.2.2 0), .int (iI 0)])) := hs10.at f7 (k := 20) rfl (by first | exact not_false | (intro q_; simp at q_; done) | omega)
  have f12 : V9 a = some (t, .inr (1, [v0, v1, .ref r5, v3, v4, v5, v6, v7, v8])) := by rw [eV9]; exact up_s
  have hk : FR (fun T k => T = t ∧ (k = 11 ∨ k = 20 ∨ k = 22)) w V9 := FR.tr hk hs10 (by intro T k h_; first | exact h_.elim | (obtain ⟨rfl, rfl⟩ := h_; simp; done) | omega)
  refine lv_aload_n hx hb dX2_init_15 rfl (lv_at hl 0 rfl) ?_
  refine j_new (ci := 12) hx hb hts hown hV hH rfl in_J4 tyJ4 tyJ4_ok q198 q199 q114 [.int (iI 0), .int (iI 0), .null, .null] (fun j hj => by rcases j with _ | _ | _ | _ | j <;> first | rfl | omega) (Nat.le_of_ble_eq_true rfl) (Nat.le_of_ble_eq_true rfl) dX2_init_16 (fun r16 H er16 zr16 nr16 hH => ?_)
  have hH := hH t
  obtain ⟨V13, eV13⟩ : ∃ V_ : Wl, V_ = up V9 r16 (t, .inr (12, [.int (iI 0), .int (iI 0), .null, .null])) := ⟨_, rfl⟩
  have hH := jH_eq hH eV13
  have nwr16 : w r16 = none := hk.non_ nr16
  have hs14 : FR (fun _ _ => False) V9 V13 := by rw [eV13]; exact FR.new1 nr16
  have f15 : V13 r5 = some (t, .inr (10, [.int (iI 0), .ref (E.2.2.2 0), .int (iI 0)])) := hs14.at f11 (k := 20) rfl (by first | exact not_false | (intro q_; simp at q_; done) | omega)
  have f16 : V13 a = some (t, .inr (1, [v0, v1, .ref r5, v3, v4, v5, v6, v7, v8])) := hs14.at f12 (k := 11) rfl (by first | exact not_false | (intro q_; simp at q_; done) | omega)
  have f17 : V13 r16 = some (t, .inr (12, [.int (iI 0), .int (iI 0), .null, .null])) := by rw [eV13]; exact up_s
  have hk : FR (fun T k => T = t ∧ (k = 11 ∨ k = 20 ∨ k = 22)) w V13 := FR.tr hk hs14 (by intro T k h_; exact h_.elim)
  refine lv_dup hx hb dX2_init_19 rfl ?_
  refine j_callvp (va_runI (As := []) (rest := [.ref r16, .ref a]) ⟨hx, hb, hml, hown, hts⟩ (m_J4_init l _ _ _ _ _ _ _ (f17)) (cw_J4_init hts q200 (Nat.le_of_ble_eq_true rfl) (Nat.le_of_ble_eq_true rfl)) (j_preS hV hH) rfl rfl hl.1 rfl (lv_room (Nat.le_of_ble_eq_true rfl)) dX2_init_20 ⟨Nat.le_of_ble_eq_true rfl, Nat.le_of_ble_eq_true rfl⟩) hH (fun H locs hH => ?_)
  obtain ⟨V18, eV18⟩ : ∃ V_ : Wl, V_ = up V13 r16 (t, .inr (12, [.int (iI 0), .int (iI 0), .null, .null])) := ⟨_, rfl⟩
  have hH := jH_eq hH eV18
  have hs19 : FR (fun T k => T = t ∧ k = 22) V13 V18 := by rw [eV18]; exact FR.one f17 rfl rfl
  have f20 : V18 r5 = some (t, .inr (10, [.int (iI 0), .ref (E.2.2.2 0), .int (iI 0)])) := hs19.at f15 (k := 20) rfl (by first | exact not_false | (intro q_; simp at q_; done) | omega)
  have f21 : V18 a = some (t, .inr (1, [v0, v1, .ref r5, v3, v4, v5, v6, v7, v8])) := hs19.at f16 (k := 11) rfl (by first | exact not_false | (intro q_; simp at q_; done) | omega)
  have f22 : V18 r16 = some (t, .inr (12, [.int (iI 0), .int (iI 0), .null, .null])) := by rw [eV18]; exact up_s
  have hk : FR (fun T k => T = t ∧ (k = 11 ∨ k = 20 ∨ k = 22)) w V18 := by rw [eV18]; exact FR.putF hk nwr16
  refine j_putF hx hb hts hown hV hH f21 rfl in_X2 tyX2 tyX2_ok nmX2 3 (Nat.le_of_ble_eq_true rfl) q227 (fun _ h => h) rfl hnm rfl rfl rfl (Nat.le_of_ble_eq_true rfl) dX2_init_23 (fun H locs hH => ?_)
  obtain ⟨V23, eV23⟩ : ∃ V_ : Wl, V_ = up V18 a (t, .inr (1, [v0, v1, .ref r5, .ref r16, v4, v5, v6, v7, v8])) := ⟨_, rfl⟩
  have hH := jH_eq hH eV23
  have hs24 : FR (fun T k => T = t ∧ k = 11) V18 V23 := by rw [eV23]; exact FR.one f21 rfl rfl
  have f25 : V23 r5 = some (t, .inr (10, [.int (iI 0), .ref (E.2.2.2 0), .int (iI 0)])) := hs24.at f20 (k := 20) rfl (by first | exact not_false | (intro q_; simp at q_; done) | omega)
  have f26 : V23 r16 = some (t, .inr (12, [.int (iI 0), .int (iI 0), .null, .null])) := hs24.at f22 (k := 22) rfl (by first | exact not_false | (intro q_; simp at q_; done) | omega)
  have f27 : V23 a = some (t, .inr (1, [v0, v1, .ref r5, .ref r16, v4, v5, v6, v7, v8])) := by rw [eV23]; exact up_s
  have hk : FR (fun T k => T = t ∧ (k = 11 ∨ k = 20 ∨ k = 22)) w V23 := FR.tr hk hs24 (by intro T k h_; first | exact h_.elim | (obtain ⟨rfl, rfl⟩ := h_; simp; done) | omega)
  refine lv_aload_n hx hb dX2_init_26 rfl (lv_at hl 0 rfl) ?_
  refine j_bipush hx hb dX2_init_27 (by decide) ?_
  refine j_put hx hb hts hown hV hH f27 rfl in_X2 tyX2 tyX2_ok nmX2 7 (Nat.le_of_ble_eq_true rfl) q238 (fun _ h => h) rfl rfl rfl (Nat.le_of_ble_eq_true rfl) dX2_init_29 (fun H locs hH => ?_)
  obtain ⟨V28, eV28⟩ : ∃ V_ : Wl, V_ = up V23 a (t, .inr (1, [v0, v1, .ref r5, .ref r16, v4, v5, v6, .int (iI (-5)), v8])) := ⟨_, rfl⟩
  have hH := jH_eq hH eV28
  have hs29 : FR (fun T k => T = t ∧ k = 11) V23 V28 := by rw [eV28]; exact FR.one f27 rfl rfl
  have f30 : V28 r5 = some (t, .inr (10, [.int (iI 0), .ref (E.2.2.2 0), .int (iI 0)])) := hs29.at f25 (k := 20) rfl (by first | exact not_false | (intro q_; simp at q_; done) | omega)
  have f31 : V28 r16 = some (t, .inr (12, [.int (iI 0), .int (iI 0), .null, .null])) := hs29.at f26 (k := 22) rfl (by first | exact not_false | (intro q_; simp at q_; done) | omega)
  have f32 : V28 a = some (t, .inr (1, [v0, v1, .ref r5, .ref r16, v4, v5, v6, .int (iI (-5)), v8])) := by rw [eV28]; exact up_s
  have hk : FR (fun T k => T = t ∧ (k = 11 ∨ k = 20 ∨ k = 22)) w V28 := FR.tr hk hs29 (by intro T k h_; first | exact h_.elim | (obtain ⟨rfl, rfl⟩ := h_; simp; done) | omega)
  refine lv_aload_n hx hb dX2_init_32 rfl (lv_at hl 0 rfl) ?_
  refine j_iconst hx hb dX2_init_33 ?_
  refine j_put hx hb hts hown hV hH f32 rfl in_X2 tyX2 tyX2_ok nmX2 8 (Nat.le_of_ble_eq_true rfl) q240 (fun _ h => h) rfl rfl rfl (Nat.le_of_ble_eq_true rfl) dX2_init_34 (fun H locs hH => ?_)
  obtain ⟨V33, eV33⟩ : ∃ V_ : Wl, V_ = up V28 a (t, .inr (1, [v0, v1, .ref r5, .ref r16, v4, v5, v6, .int (iI (-5)), .int (iI 5)])) := ⟨_, rfl⟩
  have hH := jH_eq hH eV33
  have hs34 : FR (fun T k => T = t ∧ k = 11) V28 V33 := by rw [eV33]; exact FR.one f32 rfl rfl
  have f35 : V33 r5 = some (t, .inr (10, [.int (iI 0), .ref (E.2.2.2 0), .int (iI 0)])) := hs34.at f30 (k := 20) rfl (by first | exact not_false | (intro q_; simp at q_; done) | omega)
  have f36 : V33 r16 = some (t, .inr (12, [.int (iI 0), .int (iI 0), .null, .null])) := hs34.at f31 (k := 22) rfl (by first | exact not_false | (intro q_; simp at q_; done) | omega)
  have f37 : V33 a = some (t, .inr (1, [v0, v1, .ref r5, .ref r16, v4, v5, v6, .int (iI (-5)), .int (iI 5)])) := by rw [eV33]; exact up_s
  have hk : FR (fun T k => T = t ∧ (k = 11 ∨ k = 20 ∨ k = 22)) w V33 := FR.tr hk hs34 (by intro T k h_; first | exact h_.elim | (obtain ⟨rfl, rfl⟩ := h_; simp; done) | omega)
  refine lv_aload_n hx hb dX2_init_37 rfl (lv_at hl 0 rfl) ?_
  refine lv_iload_n hx hb dX2_init_38 rfl (lv_at hl 1 rfl) ?_
  refine j_putF hx hb hts hown hV hH f37 rfl in_X2 tyX2 tyX2_ok nmX2 0 (Nat.le_of_ble_eq_true rfl) q218 (fun _ h => h) rfl hnm rfl rfl rfl (Nat.le_of_ble_eq_true rfl) dX2_init_39 (fun H locs hH => ?_)
  obtain ⟨V38, eV38⟩ : ∃ V_ : Wl, V_ = up V33 a (t, .inr (1, [.int (iI w1), v1, .ref r5, .ref r16, v4, v5, v6, .int (iI (-5)), .int (iI 5)])) := ⟨_, rfl⟩
  have hH := jH_eq hH eV38
  have hs39 : FR (fun T k => T = t ∧ k = 11) V33 V38 := by rw [eV38]; exact FR.one f37 rfl rfl
  have f40 : V38 r5 = some (t, .inr (10, [.int (iI 0), .ref (E.2.2.2 0), .int (iI 0)])) := hs39.at f35 (k := 20) rfl (by first | exact not_false | (intro q_; simp at q_; done) | omega)
  have f41 : V38 r16 = some (t, .inr (12, [.int (iI 0), .int (iI 0), .null, .null])) := hs39.at f36 (k := 22) rfl (by first | exact not_false | (intro q_; simp at q_; done) | omega)
  have f42 : V38 a = some (t, .inr (1, [.int (iI w1), v1, .ref r5, .ref r16, v4, v5, v6, .int (iI (-5)), .int (iI 5)])) := by rw [eV38]; exact up_s
  have hk : FR (fun T k => T = t ∧ (k = 11 ∨ k = 20 ∨ k = 22)) w V38 := FR.tr hk hs39 (by intro T k h_; first | exact h_.elim | (obtain ⟨rfl, rfl⟩ := h_; simp; done) | omega)
  refine lv_aload_n hx hb dX2_init_42 rfl (lv_at hl 0 rfl) ?_
  refine lv_iload_n hx hb dX2_init_43 rfl (lv_at hl 2 rfl) ?_
  refine j_putF hx hb hts hown hV hH f42 rfl in_X2 tyX2 tyX2_ok nmX2 1 (Nat.le_of_ble_eq_true rfl) q221 (fun _ h => h) rfl hnm rfl rfl rfl (Nat.le_of_ble_eq_true rfl) dX2_init_44 (fun H locs hH => ?_)
  obtain ⟨V43, eV43⟩ : ∃ V_ : Wl, V_ = up V38 a (t, .inr (1, [.int (iI w1), .int (iI h1_), .ref r5, .ref r16, v4, v5, v6, .int (iI (-5)), .int (iI 5)])) := ⟨_, rfl⟩
  have hH := jH_eq hH eV43
  have hs44 : FR (fun T k => T = t ∧ k = 11) V38 V43 := by rw [eV43]; exact FR.one f42 rfl rfl
  have f45 : V43 r5 = some (t, .inr (10, [.int (iI 0), .ref (E.2.2.2 0), .int (iI 0)])) := hs44.at f40 (k := 20) rfl (by first | exact not_false | (intro q_; simp at q_; done) | omega)
  have f46 : V43 r16 = some (t, .inr (12, [.int (iI 0), .int (iI 0), .null, .null])) := hs44.at f41 (k := 22) rfl (by first | exact not_false | (intro q_; simp at q_; done) | omega)
  have f47 : V43 a = some (t, .inr (1, [.int (iI w1), .int (iI h1_), .ref r5, .ref r16, v4, v5, v6, .int (iI (-5)), .int (iI 5)])) := by rw [eV43]; exact up_s
  have hk : FR (fun T k => T = t ∧ (k = 11 ∨ k = 20 ∨ k = 22)) w V43 := FR.tr hk hs44 (by intro T k h_; first | exact h_.elim | (obtain ⟨rfl, rfl⟩ := h_; simp; done) | omega)
  refine lv_aload_n hx hb dX2_init_47 rfl (lv_at hl 0 rfl) ?_
  refine lv_aload_n hx hb dX2_init_48 rfl (lv_at hl 3 rfl) ?_
  refine j_putF hx hb hts hown hV hH f47 rfl in_X2 tyX2 tyX2_ok nmX2 4 (Nat.le_of_ble_eq_true rfl) q230 (fun _ h => h) rfl hnm rfl rfl rfl (Nat.le_of_ble_eq_true rfl) dX2_init_49 (fun H locs hH => ?_)
  obtain ⟨V48, eV48⟩ : ∃ V_ : Wl, V_ = up V43 a (t, .inr (1, [.int (iI w1), .int (iI h1_), .ref r5, .ref r16, .ref stt, v5, v6, .int (iI (-5)), .int (iI 5)])) := ⟨_, rfl⟩
  have hH := jH_eq hH eV48
  have hs49 : FR (fun T k => T = t ∧ k = 11) V43 V48 := by rw [eV48]; exact FR.one f47 rfl rfl
  have f50 : V48 r5 = some (t, .inr (10, [.int (iI 0), .ref (E.2.2.2 0), .int (iI 0)])) := hs49.at f45 (k := 20) rfl (by first | exact not_false | (intro q_; simp at q_; done) | omega)
  have f51 : V48 r16 = some (t, .inr (12, [.int (iI 0), .int (iI 0), .null, .null])) := hs49.at f46 (k := 22) rfl (by first | exact not_false | (intro q_; simp at q_; done) | omega)
  have f52 : V48 a = some (t, .inr (1, [.int (iI w1), .int (iI h1_), .ref r5, .ref r16, .ref stt, v5, v6, .int (iI (-5)), .int (iI 5)])) := by rw [eV48]; exact up_s
  have hk : FR (fun T k => T = t ∧ (k = 11 ∨ k = 20 ∨ k = 22)) w V48 := FR.tr hk hs49 (by intro T k h_; first | exact h_.elim | (obtain ⟨rfl, rfl⟩ := h_; simp; done) | omega)
  exact hret V48 hH dX2_init_52 (Nat.le_of_ble_eq_true rfl) (Nat.le_of_ble_eq_true rfl) (⟨r5, r16, by assumption, by assumption, by assumption, hk⟩)
