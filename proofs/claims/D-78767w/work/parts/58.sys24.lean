/-! THE SYSTEM's METHODS: java.util.BitSet, of fewer than 64 bits -/
set_option maxRecDepth 100000
theorem lL_nat (n : Nat) : lL (n : Int) = ⟨⟨BitVec.ofNat 64 n⟩⟩ := by
  unfold lL
  rw [Int64.ofInt_eq_ofNat]
  rfl
theorem lL_and (a b : Nat) : lL (a : Int) &&& lL (b : Int) = lL ((a &&& b : Nat) : Int) := by
  rw [lL_nat, lL_nat, lL_nat, BitVec.ofNat_and]
  rfl
theorem lL_or (a b : Nat) : lL (a : Int) ||| lL (b : Int) = lL ((a ||| b : Nat) : Int) := by
  rw [lL_nat, lL_nat, lL_nat, BitVec.ofNat_or]
  rfl
theorem lL_shl {i : Int} (h : 0 ≤ i ∧ i < 20) : lL 1 <<< ((iI i).toInt64 &&& 63) = lL ((2 ^ i.toNat : Nat) : Int) := by
  have h2 : i = 0 ∨ i = 1 ∨ i = 2 ∨ i = 3 ∨ i = 4 ∨ i = 5 ∨ i = 6 ∨ i = 7 ∨ i = 8 ∨ i = 9 ∨ i = 10 ∨ i = 11 ∨ i = 12 ∨ i = 13 ∨ i = 14 ∨ i = 15 ∨ i = 16 ∨ i = 17 ∨ i = 18 ∨ i = 19 := by omega
  rcases h2 with h | h | h | h | h | h | h | h | h | h | h | h | h | h | h | h | h | h | h | h <;> subst h <;> decide +kernel
theorem bit_and {n i : Nat} : (n &&& 2 ^ i = 0) ↔ n.testBit i = false := by
  rw [Nat.and_two_pow]
  cases n.testBit i
  · simp
  · simp
theorem bit_or {n i j : Nat} : (n ||| 2 ^ i).testBit j = (n.testBit j || decide (i = j)) := by
  rw [Nat.testBit_or, Nat.testBit_two_pow]
section JBITS
variable {p : Program} {l : Launch} {e : Env} {R : Room} {s : State} {m : MethodId} {args : Array Value} {below : List Frame} {meth : Method} {c : Code} {H : Heap} {locs : List Loc} {cells slots : Nat} {Q : State → Prop}
variable {cc : ByteArray} {pc : Nat} {ls : Array Slot} {rest : List Value}
theorem j_land (hx : p.tables.exec = Jvm.exec) (hb : c.code = cc) {a b : Nat} (d : decode cc pc = .ok (.land, 1)) (k : W p l e R s m args below meth c H locs cells slots Q (F0 m (pc + 1) ls (.long (lL ((a &&& b : Nat) : Int)) :: rest))) : W p l e R s m args below meth c H locs cells slots Q (F0 m pc ls (.long (lL (b : Int)) :: .long (lL (a : Int)) :: rest)) := lv_land hx hb d (by rw [lL_and]; exact k)
theorem j_lor (hx : p.tables.exec = Jvm.exec) (hb : c.code = cc) {a b : Nat} (d : decode cc pc = .ok (.lor, 1)) (k : W p l e R s m args below meth c H locs cells slots Q (F0 m (pc + 1) ls (.long (lL ((a ||| b : Nat) : Int)) :: rest))) : W p l e R s m args below meth c H locs cells slots Q (F0 m pc ls (.long (lL (b : Int)) :: .long (lL (a : Int)) :: rest)) := lv_lor hx hb d (by rw [lL_or]; exact k)
theorem j_lshl1 (hx : p.tables.exec = Jvm.exec) (hb : c.code = cc) {i : Int} (hi : 0 ≤ i ∧ i < 20) (d : decode cc pc = .ok (.lshl, 1)) (k : W p l e R s m args below meth c H locs cells slots Q (F0 m (pc + 1) ls (.long (lL ((2 ^ i.toNat : Nat) : Int)) :: rest))) : W p l e R s m args below meth c H locs cells slots Q (F0 m pc ls (.int (iI i) :: .long (lL 1) :: rest)) := lv_lshl hx hb d (lL_shl hi) k
theorem j_ishr6 {a : Int} (hx : p.tables.exec = Jvm.exec) (hb : c.code = cc) (d : decode cc pc = .ok (.ishr, 1)) (ha : 0 ≤ a ∧ a < 64) (k : W p l e R s m args below meth c H locs cells slots Q (F0 m (pc + 1) ls (.int (iI 0) :: rest))) : W p l e R s m args below meth c H locs cells slots Q (F0 m pc ls (.int (iI 6) :: .int (iI a) :: rest)) := by
  refine lv_ishr hx hb d ?_
  have h : iI a >>> iI 6 = iI 0 := by
    rw [← Int32.toInt_inj, pk_shr (iI a) (iI 6) 6 (by decide), iI_T (by omega), iI_T (by omega), Int.shiftRight_eq_div_pow]
    show a / 64 = 0
    omega
  rw [show (iI 6 &&& 31) = iI 6 by decide, h]
  exact k
end JBITS
theorem cw_J26_wordIndex {R : Room} {s : State} {args : Array Value} {own : String} {index lev mc ms : Nat} (hts : ∀ w ∈ lw_all, w.before args s = true) (hl : Cond.methodLink own index yJ26_wordIndex ∈ lw_all) (hR1 : (rmL lev mc ms).frames + 1 ≤ R.frames) (hR2 : 8 + (1 + 11) + (rmL lev mc ms).locals ≤ R.locals) : CallB R s args own index yJ26_wordIndex cJ26_wordIndex 1 (some .int) (ws_ yJ26_wordIndex cJ26_wordIndex 1 (some .int)) (rmL lev mc ms) mc ms 1 ∧ (Cond.static yJ26_wordIndex).before args s = true :=
  va_cwS 1 hts (lw_S hl q1403 q142 q1404) rfl rfl rfl (by decide +kernel) ⟨hR1, hR2⟩
set_option maxHeartbeats 4000000 in
theorem m_J26_wordIndex {E : jE} (l : Launch) (w : Wl) (i1 : Int) (h1 : 0 ≤ i1 ∧ i1 < 64) : Met l yJ26_wordIndex (ws_ yJ26_wordIndex cJ26_wordIndex 1 (some .int)) (rmL 1 0 0) (va_Pc [.int (iI i1)] (jP E w)) (jQi E (fun _ : Unit => w) (fun z _ => z = 0)) 0 0 (jA E) := by
  refine j_metI (by decide) (Nat.le_of_ble_eq_true rfl) ?_
  intro p e s m args below meth c Q hx hb hml hown hnm hts hV hH hret ls hl
  have hl : lv_has ls 1 [(0, .int (iI i1))] := hl
  have h0 := hH.1.2
  refine lv_iload_n hx hb dJ26_wordIndex_0 rfl (lv_at hl 0 rfl) ?_
  refine j_bipush hx hb dJ26_wordIndex_1 (by decide) ?_
  refine j_ishr6 hx hb dJ26_wordIndex_3 (by omega) ?_
  exact hret () hH dJ26_wordIndex_4 (Nat.le_of_ble_eq_true rfl) (Nat.le_of_ble_eq_true rfl) (by first | rfl | omega)
theorem cw_J26_initWords {R : Room} {s : State} {args : Array Value} {own : String} {index lev mc ms : Nat} (hts : ∀ w ∈ lw_all, w.before args s = true) (hl : Cond.methodLink own index yJ26_initWords ∈ lw_all) (hR1 : (rmL lev mc ms).frames + 1 ≤ R.frames) (hR2 : 8 + (2 + 11) + (rmL lev mc ms).locals ≤ R.locals) : CallW R s args own RJ26 index yJ26_initWords cJ26_initWords 2 none (ws_ yJ26_initWords cJ26_initWords 2 none) (rmL lev mc ms) mc ms 1 :=
  cwV 1 hts (lw_V hl q1400 qs20 q142 q1401) rfl rfl rfl (by decide +kernel) ⟨hR1, hR2⟩
set_option maxHeartbeats 4000000 in
theorem m_J26_initWords {E : jE} (l : Launch) (w : Wl) (b : Nat) (t : Nat) (v0 : Value) (v1 : Value) (v2 : Value) (i1 : Int) (h1 : w b = some (t, .inr (15, [v0, v1, v2]))) (h2 : i1 = 20) : Met l yJ26_initWords (ws_ yJ26_initWords cJ26_initWords 2 none) (rmL 2 1 1) (va_Pc [.ref b, .int (iI i1)] (jP E w)) (jQv E (fun u : Wl => u) (fun u => ∃ (wd : Nat), u b = some (t, .inr (15, [.ref wd, v1, v2])) ∧ u wd = some (t, arL E 1 (fun _ => 0)) ∧ FR (fun T k => T = t ∧ k = 25) w u)) 1 1 (jA E) := by
  refine j_metV (by decide) (Nat.le_of_ble_eq_true rfl) ?_
  intro p e s m args below meth c Q hx hb hml hown hnm hts hV hH hret ls hl
  have hl : lv_has ls 2 [(0, .ref b), (1, .int (iI i1))] := hl
  have h0 := hH.1.2
  have hR0 := hH.1
  have hk : FR (fun T k => T = t ∧ k = 25) w w := FR.rf
  refine lv_aload_n hx hb dJ26_initWords_0 rfl (lv_at hl 0 rfl) ?_
  refine lv_iload_n hx hb dJ26_initWords_1 rfl (lv_at hl 1 rfl) ?_
  refine j_iconst hx hb dJ26_initWords_2 ?_
  refine j_isub hx hb dJ26_initWords_3 ?_
  refine j_callip (va_runS (As := [.int (iI (i1 - 1))]) (rest := [.ref b]) ⟨hx, hb, hml, hown, hts⟩ (m_J26_wordIndex l _ (i1 - 1) (by omega)) (cw_J26_wordIndex hts q1402 (Nat.le_of_ble_eq_true rfl) (Nat.le_of_ble_eq_true rfl)) (j_preS hV hH) rfl rfl hl.1 rfl (lv_room (Nat.le_of_ble_eq_true rfl)) dJ26_initWords_4 ⟨Nat.le_of_ble_eq_true rfl, Nat.le_of_ble_eq_true rfl⟩) hH (fun H locs hH => ?_)
  refine j_iconst hx hb dJ26_initWords_7 ?_
  refine j_iadd hx hb dJ26_initWords_8 ?_
  refine j_top (b := 1) (by omega) ?_
  refine j_newl hx hb hts hV hH q1415 (by omega) (Nat.le_of_ble_eq_true rfl) (Nat.le_of_ble_eq_true rfl) dJ26_initWords_9 (fun r9 H er zr nr9 hH => ?_)
  have hH := hH t
  obtain ⟨V1, eV1⟩ : ∃ V_ : Wl, V_ = up w r9 (t, arL E 1.toNat (fun _ => 0)) := ⟨_, rfl⟩
  have hH := jH_eq hH eV1
  have nwr9 : w r9 = none := hk.non_ nr9
  have hs2 : FR (fun _ _ => False) w V1 := by rw [eV1]; exact FR.new1 nr9
  have f3 : V1 b = some (t, .inr (15, [v0, v1, v2])) := hs2.at h1 (k := 25) rfl (by first | exact not_false | (intro q_; simp at q_; done) | omega)
  have f4 : V1 r9 = some (t, arL E 1.toNat (fun _ => 0)) := by rw [eV1]; exact up_s
  have hk : FR (fun T k => T = t ∧ k = 25) w V1 := FR.tr hk hs2 (by intro T k h_; exact h_.elim)
  refine j_put hx hb hts hown hV hH f3 rfl in_J26 tyJ26 tyJ26_ok nmJ26 0 (Nat.le_of_ble_eq_true rfl) q1405 (fun _ h => h) rfl rfl rfl (Nat.le_of_ble_eq_true rfl) dJ26_initWords_11 (fun H locs hH => ?_)
  obtain ⟨V5, eV5⟩ : ∃ V_ : Wl, V_ = up V1 b (t, .inr (15, [.ref r9, v1, v2])) := ⟨_, rfl⟩
  have hH := jH_eq hH eV5
  have hs6 : FR (fun T k => T = t ∧ k = 25) V1 V5 := by rw [eV5]; exact FR.one f3 rfl rfl
  have f7 : V5 r9 = some (t, arL E 1.toNat (fun _ => 0)) := hs6.at f4 (k := 1) rfl (by first | exact not_false | (intro q_; simp at q_; done) | omega)
  have f8 : V5 b = some (t, .inr (15, [.ref r9, v1, v2])) := by rw [eV5]; exact up_s
  have hk : FR (fun T k => T = t ∧ k = 25) w V5 := FR.tr hk hs6 (by intro T k h_; first | exact h_.elim | (obtain ⟨rfl, rfl⟩ := h_; simp; done) | omega)
  exact hret V5 hH dJ26_initWords_14 (Nat.le_of_ble_eq_true rfl) (Nat.le_of_ble_eq_true rfl) (⟨r9, by assumption, by assumption, hk⟩)
theorem cw_J26_init {R : Room} {s : State} {args : Array Value} {own : String} {index lev mc ms : Nat} (hts : ∀ w ∈ lw_all, w.before args s = true) (hl : Cond.methodLink own index yJ26_init ∈ lw_all) (hR1 : (rmL lev mc ms).frames + 1 ≤ R.frames) (hR2 : 8 + (2 + 11) + (rmL lev mc ms).locals ≤ R.locals) : CallB R s args own index yJ26_init cJ26_init 2 none (ws_ yJ26_init cJ26_init 2 none) (rmL lev mc ms) mc ms 1 ∧ yJ26_init.name = "<init>" ∧ (Cond.instanceMethod yJ26_init).before args s = true :=
  cwI 1 hts (lw_meth q1396) rfl rfl rfl (hts _ q142) (hts _ hl) (hts _ q1395) rfl (by decide +kernel) ⟨hR1, hR2⟩
set_option maxHeartbeats 4000000 in
theorem m_J26_init {E : jE} (l : Launch) (w : Wl) (b : Nat) (t : Nat) (v0 : Value) (v1 : Value) (v2 : Value) (i1 : Int) (h1 : w b = some (t, .inr (15, [v0, v1, v2]))) (h2 : i1 = 20) : Met l yJ26_init (ws_ yJ26_init cJ26_init 2 none) (rmL 3 1 1) (va_Pc [.ref b, .int (iI i1)] (jP E w)) (jQv E (fun u : Wl => u) (fun u => ∃ (wd : Nat), u b = some (t, .inr (15, [.ref wd, .int (iI 0), .int (iI 1)])) ∧ u wd = some (t, arL E 1 (fun _ => 0)) ∧ FR (fun T k => T = t ∧ k = 25) w u)) 1 1 (jA E) := by
  refine j_metV (by decide) (Nat.le_of_ble_eq_true rfl) ?_
  intro p e s m args below meth c Q hx hb hml hown hnm hts hV hH hret ls hl
  have hl : lv_has ls 2 [(0, .ref b), (1, .int (iI i1))] := hl
  have h0 := hH.1.2
  have hR0 := hH.1
  have hk : FR (fun T k => T = t ∧ k = 25) w w := FR.rf
  refine lv_aload_n hx hb dJ26_init_0 rfl (lv_at hl 0 rfl) ?_
  refine j_oinit hx hb hts hown hml q1397 q158 q159 hl.1 dJ26_init_1 (Nat.le_of_ble_eq_true rfl) (Nat.le_of_ble_eq_true rfl) ?_
  refine lv_aload_n hx hb dJ26_init_4 rfl (lv_at hl 0 rfl) ?_
  refine j_iconst hx hb dJ26_init_5 ?_
  refine j_put hx hb hts hown hV hH h1 rfl in_J26 tyJ26 tyJ26_ok nmJ26 1 (Nat.le_of_ble_eq_true rfl) q1406 (fun _ h => h) rfl rfl rfl (Nat.le_of_ble_eq_true rfl) dJ26_init_6 (fun H locs hH => ?_)
  obtain ⟨V1, eV1⟩ : ∃ V_ : Wl, V_ = up w b (t, .inr (15, [v0, .int (iI 0), v2])) := ⟨_, rfl⟩
  have hH := jH_eq hH eV1
  have hs2 : FR (fun T k => T = t ∧ k = 25) w V1 := by rw [eV1]; exact FR.one h1 rfl rfl
  have f3 : V1 b = some (t, .inr (15, [v0, .int (iI 0), v2])) := by rw [eV1]; exact up_s
  have hk : FR (fun T k => T = t ∧ k = 25) w V1 := FR.tr hk hs2 (by intro T k h_; first | exact h_.elim | (obtain ⟨rfl, rfl⟩ := h_; simp; done) | omega)
  refine lv_aload_n hx hb dJ26_init_9 rfl (lv_at hl 0 rfl) ?_
  refine j_iconst hx hb dJ26_init_10 ?_
  refine j_put hx hb hts hown hV hH f3 rfl in_J26 tyJ26 tyJ26_ok nmJ26 2 (Nat.le_of_ble_eq_true rfl) q1407 (fun _ h => h) rfl (nar_01 (by decide)) (fit_01 (by decide)) (Nat.le_of_ble_eq_true rfl) dJ26_init_11 (fun H locs hH => ?_)
  obtain ⟨V4, eV4⟩ : ∃ V_ : Wl, V_ = up V1 b (t, .inr (15, [v0, .int (iI 0), .int (iI 0)])) := ⟨_, rfl⟩
  have hH := jH_eq hH eV4
  have hs5 : FR (fun T k => T = t ∧ k = 25) V1 V4 := by rw [eV4]; exact FR.one f3 rfl rfl
  have f6 : V4 b = some (t, .inr (15, [v0, .int (iI 0), .int (iI 0)])) := by rw [eV4]; exact up_s
  have hk : FR (fun T k => T = t ∧ k = 25) w V4 := FR.tr hk hs5 (by intro T k h_; first | exact h_.elim | (obtain ⟨rfl, rfl⟩ := h_; simp; done) | omega)
  refine lv_iload_n hx hb dJ26_init_14 rfl (lv_at hl 1 rfl) ?_
  refine j_if_ge (tgt := 45) hx hb dJ26_init_15 (by decide) (by omega) (fun c15 => ?_) (fun c15 => ?_)
  · refine lv_aload_n hx hb dJ26_init_45 rfl (lv_at hl 0 rfl) ?_
    refine lv_iload_n hx hb dJ26_init_46 rfl (lv_at hl 1 rfl) ?_
    refine j_callv (va_runV (As := [.int (iI i1)]) (rest := []) ⟨hx, hb, hml, hown, hts⟩ (m_J26_initWords l V4 b t v0 (.int (iI 0)) (.int (iI 0)) i1 (f6) (by omega)) (cw_J26_initWords hts q1398 (Nat.le_of_ble_eq_true rfl) (Nat.le_of_ble_eq_true rfl)) (j_preV hV hH f6 rfl) rfl rfl hl.1 rfl (lv_room (Nat.le_of_ble_eq_true rfl)) dJ26_init_47 ⟨Nat.le_of_ble_eq_true rfl, Nat.le_of_ble_eq_true rfl⟩) hH (fun U7 H locs hp hH => ?_)
    obtain ⟨wd9, f10, f11, hs8⟩ := hp
    have hk : FR (fun T k => T = t ∧ k = 25) w U7 := FR.tr hk hs8 (by intro T k h_; first | exact h_.elim | (obtain ⟨rfl, rfl⟩ := h_; simp; done) | omega)
    refine lv_aload_n hx hb dJ26_init_50 rfl (lv_at hl 0 rfl) ?_
    refine j_iconst hx hb dJ26_init_51 ?_
    refine j_put hx hb hts hown hV hH f10 rfl in_J26 tyJ26 tyJ26_ok nmJ26 2 (Nat.le_of_ble_eq_true rfl) q1407 (fun _ h => h) rfl (nar_01 (by decide)) (fit_01 (by decide)) (Nat.le_of_ble_eq_true rfl) dJ26_init_52 (fun H locs hH => ?_)
    obtain ⟨V12, eV12⟩ : ∃ V_ : Wl, V_ = up U7 b (t, .inr (15, [.ref wd9, .int (iI 0), .int (iI 1)])) := ⟨_, rfl⟩
    have hH := jH_eq hH eV12
    have hs13 : FR (fun T k => T = t ∧ k = 25) U7 V12 := by rw [eV12]; exact FR.one f10 rfl rfl
    have f14 : V12 wd9 = some (t, arL E 1 (fun _ => 0)) := hs13.at f11 (k := 1) rfl (by first | exact not_false | (intro q_; simp at q_; done) | omega)
    have f15 : V12 b = some (t, .inr (15, [.ref wd9, .int (iI 0), .int (iI 1)])) := by rw [eV12]; exact up_s
    have hk : FR (fun T k => T = t ∧ k = 25) w V12 := FR.tr hk hs13 (by intro T k h_; first | exact h_.elim | (obtain ⟨rfl, rfl⟩ := h_; simp; done) | omega)
    exact hret V12 hH dJ26_init_55 (Nat.le_of_ble_eq_true rfl) (Nat.le_of_ble_eq_true rfl) (⟨_, by assumption, by assumption, hk⟩)
  · exact absurd c15 (by omega)
theorem cw_J26_checkInvariants {R : Room} {s : State} {args : Array Value} {own : String} {index lev mc ms : Nat} (hts : ∀ w ∈ lw_all, w.before args s = true) (hl : Cond.methodLink own index yJ26_checkInvariants ∈ lw_all) (hR1 : (rmL lev mc ms).frames + 1 ≤ R.frames) (hR2 : 8 + (1 + 11) + (rmL lev mc ms).locals ≤ R.locals) : CallW R s args own RJ26 index yJ26_checkInvariants cJ26_checkInvariants 1 none (ws_ yJ26_checkInvariants cJ26_checkInvariants 1 none) (rmL lev mc ms) mc ms 0 :=
  cwV 0 hts (lw_V hl q1430 qs21 q142 q1431) rfl rfl rfl (by decide +kernel) ⟨hR1, hR2⟩
set_option maxHeartbeats 4000000 in
theorem m_J26_checkInvariants {E : jE} (l : Launch) (w : Wl) (b : Nat) : Met l yJ26_checkInvariants (ws_ yJ26_checkInvariants cJ26_checkInvariants 1 none) (rmL 1 0 0) (va_Pc [.ref b] (jP E w)) (jQv E (fun _ : Unit => w) (fun _ => True)) 0 0 (jA E) := by
  refine j_metV (by decide) (Nat.le_of_ble_eq_true rfl) ?_
  intro p e s m args below meth c Q hx hb hml hown hnm hts hV hH hret ls hl
  have hl : lv_has ls 1 [(0, .ref b)] := hl
  have h0 := hH.1.2
  refine j_gets (k := 4) hx hb hts hown hV h0 hH rfl q1432 (fun _ h => h) dJ26_checkInvariants_0 ?_
  refine j_if_ne (tgt := 37) hx hb dJ26_checkInvariants_3 (by decide) (by omega) (fun c3 => ?_) (fun c3 => ?_)
  · refine j_gets (k := 4) hx hb hts hown hV h0 hH rfl q1432 (fun _ h => h) dJ26_checkInvariants_37 ?_
    refine j_if_ne (tgt := 70) hx hb dJ26_checkInvariants_40 (by decide) (by omega) (fun c40 => ?_) (fun c40 => ?_)
    · refine j_gets (k := 4) hx hb hts hown hV h0 hH rfl q1432 (fun _ h => h) dJ26_checkInvariants_70 ?_
      refine j_if_ne (tgt := 110) hx hb dJ26_checkInvariants_73 (by decide) (by omega) (fun c73 => ?_) (fun c73 => ?_)
      · exact hret () hH dJ26_checkInvariants_110 (Nat.le_of_ble_eq_true rfl) (Nat.le_of_ble_eq_true rfl) trivial
      · exact absurd c73 (by decide)
    · exact absurd c40 (by decide)
  · exact absurd c3 (by decide)
theorem cw_J26_get {R : Room} {s : State} {args : Array Value} {own : String} {index lev mc ms : Nat} (hts : ∀ w ∈ lw_all, w.before args s = true) (hl : Cond.methodLink own index yJ26_get ∈ lw_all) (hR1 : (rmL lev mc ms).frames + 1 ≤ R.frames) (hR2 : 8 + (3 + 11) + (rmL lev mc ms).locals ≤ R.locals) : CallW R s args own RJ26 index yJ26_get cJ26_get 3 (some .boolean) (ws_ yJ26_get cJ26_get 3 (some .boolean)) (rmL lev mc ms) mc ms 1 :=
  cwV 1 hts (lw_V hl q1417 q1418 q142 q1419) rfl rfl rfl (by decide +kernel) ⟨hR1, hR2⟩
set_option maxHeartbeats 4000000 in
theorem m_J26_get {E : jE} (l : Launch) (w : Wl) (b : Nat) (wd : Nat) (t : Nat) (us : Int) (sk : Int) (g : Int → Int) (n0 : Nat) (i1 : Int) (h1 : w b = some (t, .inr (15, [.ref wd, .int (iI us), .int (iI sk)]))) (h2 : w wd = some (t, arL E 1 g)) (h3 : 0 ≤ i1 ∧ i1 < 20) (h4 : g 0 = ((n0 : Nat) : Int)) (h5 : us = 1 ∨ (us = 0 ∧ n0 = 0)) (h6 : n0 < 1048576) : Met l yJ26_get (ws_ yJ26_get cJ26_get 3 (some .boolean)) (rmL 2 0 0) (va_Pc [.ref b, .int (iI i1)] (jP E w)) (jQi E (fun _ : Unit => w) (fun z _ => z = bI (n0.testBit i1.toNat = true))) 0 0 (jA E) := by
  refine j_metZ (by decide) (Nat.le_of_ble_eq_true rfl) ?_
  intro p e s m args below meth c Q hx hb hml hown hnm hts hV hH hret ls hl
  have hl : lv_has ls 3 [(0, .ref b), (1, .int (iI i1))] := hl
  have h0 := hH.1.2
  have hle : n0 &&& 2 ^ i1.toNat ≤ n0 := Nat.and_le_left
  refine lv_iload_n hx hb dJ26_get_0 rfl (lv_at hl 1 rfl) ?_
  refine j_if_ge (tgt := 31) hx hb dJ26_get_1 (by decide) (by omega) (fun c1 => ?_) (fun c1 => ?_)
  · refine lv_aload_n hx hb dJ26_get_31 rfl (lv_at hl 0 rfl) ?_
    refine j_callvp (va_runV (As := []) (rest := []) ⟨hx, hb, hml, hown, hts⟩ (m_J26_checkInvariants l _ b) (cw_J26_checkInvariants hts q1428 (Nat.le_of_ble_eq_true rfl) (Nat.le_of_ble_eq_true rfl)) (j_preV hV hH h1 rfl) rfl rfl hl.1 rfl (lv_room (Nat.le_of_ble_eq_true rfl)) dJ26_get_32 ⟨Nat.le_of_ble_eq_true rfl, Nat.le_of_ble_eq_true rfl⟩) hH (fun H locs hH => ?_)
    refine lv_iload_n hx hb dJ26_get_35 rfl (lv_at hl 1 rfl) ?_
    refine j_callip (va_runS (As := [.int (iI i1)]) (rest := []) ⟨hx, hb, hml, hown, hts⟩ (m_J26_wordIndex l _ i1 (by omega)) (cw_J26_wordIndex hts q1402 (Nat.le_of_ble_eq_true rfl) (Nat.le_of_ble_eq_true rfl)) (j_preS hV hH) rfl rfl hl.1 rfl (lv_room (Nat.le_of_ble_eq_true rfl)) dJ26_get_36 ⟨Nat.le_of_ble_eq_true rfl, Nat.le_of_ble_eq_true rfl⟩) hH (fun H locs hH => ?_)
    refine j_istore_n (lv' := fun x1 => [(2, .int (iI x1)), (0, .ref b), (1, .int (iI i1))]) hx hb dJ26_get_39 rfl hl (by decide) (fun _ => rfl) (fun x1 ex1 ls hl => ?_)
    refine lv_iload_n hx hb dJ26_get_40 rfl (lv_at hl 0 rfl) ?_
    refine lv_aload_n hx hb dJ26_get_41 rfl (lv_at hl 1 rfl) ?_
    refine j_get hx hb hts hown hV hH h1 rfl in_J26 1 (Nat.le_of_ble_eq_true rfl) q1406 (fun _ h => h) rfl dJ26_get_42 ?_
    refine j_icmp_ge (tgt := 67) hx hb dJ26_get_45 (by decide) (by omega) (by omega) (fun c45 => ?_) (fun c45 => ?_)
    · refine j_iconst hx hb dJ26_get_67 ?_
      exact hret () hH dJ26_get_68 (Nat.le_of_ble_eq_true rfl) (Nat.le_of_ble_eq_true rfl) (by decide) (by first | exact (bI_t (by have q_ := mt bit_and.mpr (fun h => c60 (by rw [h]; rfl)); simpa using q_)).symm | exact (bI_f (by have q_ : n0 &&& 2 ^ i1.toNat = 0 := (by omega); rw [bit_and.mp q_]; simp)).symm | exact (bI_f (by have q_ : n0 = 0 := (by omega); rw [q_]; simp)).symm)
    · refine lv_aload_n hx hb dJ26_get_48 rfl (lv_at hl 1 rfl) ?_
      refine j_get hx hb hts hown hV hH h1 rfl in_J26 0 (Nat.le_of_ble_eq_true rfl) q1405 (fun _ h => h) rfl dJ26_get_49 ?_
      refine lv_iload_n hx hb dJ26_get_52 rfl (lv_at hl 0 rfl) ?_
      refine j_lald hx hb hV hH h2 (by omega) (by omega) dJ26_get_53 ?_
      refine j_topl (b := ((n0 : Nat) : Int)) (h4) ?_
      refine j_lconst (z := 1) hx hb dJ26_get_54 (by decide +kernel) ?_
      refine lv_iload_n hx hb dJ26_get_55 rfl (lv_at hl 2 rfl) ?_
      refine j_lshl1 hx hb (by omega) dJ26_get_56 ?_
      refine j_land (a := n0) (b := 2 ^ i1.toNat) hx hb dJ26_get_57 ?_
      refine j_lconst (z := 0) hx hb dJ26_get_58 (by decide +kernel) ?_
      refine j_lcmp hx hb dJ26_get_59 (by omega) (by omega) ?_
      refine j_ifc_eq (tgt := 67) hx hb dJ26_get_60 (by decide) (fun c60 => ?_) (fun c60 => ?_)
      · refine j_iconst hx hb dJ26_get_67 ?_
        exact hret () hH dJ26_get_68 (Nat.le_of_ble_eq_true rfl) (Nat.le_of_ble_eq_true rfl) (by decide) (by first | exact (bI_t (by have q_ := mt bit_and.mpr (fun h => c60 (by rw [h]; rfl)); simpa using q_)).symm | exact (bI_f (by have q_ : n0 &&& 2 ^ i1.toNat = 0 := (by omega); rw [bit_and.mp q_]; simp)).symm | exact (bI_f (by have q_ : n0 = 0 := (by omega); rw [q_]; simp)).symm)
      · refine j_iconst hx hb dJ26_get_63 ?_
        refine lv_goto (tgt := 68) hx hb dJ26_get_64 (by decide) ?_
        exact hret () hH dJ26_get_68 (Nat.le_of_ble_eq_true rfl) (Nat.le_of_ble_eq_true rfl) (by decide) (by first | exact (bI_t (by have q_ := mt bit_and.mpr (fun h => c60 (by rw [h]; rfl)); simpa using q_)).symm | exact (bI_f (by have q_ : n0 &&& 2 ^ i1.toNat = 0 := (by omega); rw [bit_and.mp q_]; simp)).symm | exact (bI_f (by have q_ : n0 = 0 := (by omega); rw [q_]; simp)).symm)
  · exact absurd c1 (by omega)
theorem cw_J26_ensureCapacity {R : Room} {s : State} {args : Array Value} {own : String} {index lev mc ms : Nat} (hts : ∀ w ∈ lw_all, w.before args s = true) (hl : Cond.methodLink own index yJ26_ensureCapacity ∈ lw_all) (hR1 : (rmL lev mc ms).frames + 1 ≤ R.frames) (hR2 : 8 + (3 + 11) + (rmL lev mc ms).locals ≤ R.locals) : CallW R s args own RJ26 index yJ26_ensureCapacity cJ26_ensureCapacity 3 none (ws_ yJ26_ensureCapacity cJ26_ensureCapacity 3 none) (rmL lev mc ms) mc ms 1 :=
  cwV 1 hts (lw_V hl q1444 qs23 q142 q1445) rfl rfl rfl (by decide +kernel) ⟨hR1, hR2⟩
set_option maxHeartbeats 4000000 in
theorem m_J26_ensureCapacity {E : jE} (l : Launch) (w : Wl) (b : Nat) (wd : Nat) (t : Nat) (us : Int) (sk : Int) (g : Int → Int) (i1 : Int) (h1 : w b = some (t, .inr (15, [.ref wd, .int (iI us), .int (iI sk)]))) (h2 : w wd = some (t, arL E 1 g)) (h3 : i1 = 1) : Met l yJ26_ensureCapacity (ws_ yJ26_ensureCapacity cJ26_ensureCapacity 3 none) (rmL 1 0 0) (va_Pc [.ref b, .int (iI i1)] (jP E w)) (jQv E (fun u : Wl => u) (fun u => FR (fun T k => False) w u)) 0 0 (jA E) := by
  refine j_metV (by decide) (Nat.le_of_ble_eq_true rfl) ?_
  intro p e s m args below meth c Q hx hb hml hown hnm hts hV hH hret ls hl
  have hl : lv_has ls 3 [(0, .ref b), (1, .int (iI i1))] := hl
  have h0 := hH.1.2
  have hR0 := hH.1
  have hk : FR (fun T k => False) w w := FR.rf
  refine lv_aload_n hx hb dJ26_ensureCapacity_0 rfl (lv_at hl 0 rfl) ?_
  refine j_get hx hb hts hown hV hH h1 rfl in_J26 0 (Nat.le_of_ble_eq_true rfl) q1405 (fun _ h => h) rfl dJ26_ensureCapacity_1 ?_
  refine j_alen (t0 := 2) hx hb hV hH h2 rfl dJ26_ensureCapacity_4 ?_
  refine j_top (b := ((1 : Nat) : Int)) rfl ?_
  refine lv_iload_n hx hb dJ26_ensureCapacity_5 rfl (lv_at hl 1 rfl) ?_
  refine j_icmp_ge (tgt := 38) hx hb dJ26_ensureCapacity_6 (by decide) (by omega) (by omega) (fun c6 => ?_) (fun c6 => ?_)
  · exact hret w hH dJ26_ensureCapacity_38 (Nat.le_of_ble_eq_true rfl) (Nat.le_of_ble_eq_true rfl) (hk)
  · exact absurd c6 (by omega)
theorem cw_J26_expandTo {R : Room} {s : State} {args : Array Value} {own : String} {index lev mc ms : Nat} (hts : ∀ w ∈ lw_all, w.before args s = true) (hl : Cond.methodLink own index yJ26_expandTo ∈ lw_all) (hR1 : (rmL lev mc ms).frames + 1 ≤ R.frames) (hR2 : 8 + (3 + 11) + (rmL lev mc ms).locals ≤ R.locals) : CallW R s args own RJ26 index yJ26_expandTo cJ26_expandTo 3 none (ws_ yJ26_expandTo cJ26_expandTo 3 none) (rmL lev mc ms) mc ms 1 :=
  cwV 1 hts (lw_V hl q1440 qs22 q142 q1441) rfl rfl rfl (by decide +kernel) ⟨hR1, hR2⟩
set_option maxHeartbeats 4000000 in
theorem m_J26_expandTo {E : jE} (l : Launch) (w : Wl) (b : Nat) (wd : Nat) (t : Nat) (us : Int) (sk : Int) (g : Int → Int) (i1 : Int) (h1 : w b = some (t, .inr (15, [.ref wd, .int (iI us), .int (iI sk)]))) (h2 : w wd = some (t, arL E 1 g)) (h3 : i1 = 0) (h4 : us = 1 ∨ us = 0) : Met l yJ26_expandTo (ws_ yJ26_expandTo cJ26_expandTo 3 none) (rmL 2 0 0) (va_Pc [.ref b, .int (iI i1)] (jP E w)) (jQv E (fun u : Wl => u) (fun u => u b = some (t, .inr (15, [.ref wd, .int (iI 1), .int (iI sk)])) ∧ FR (fun T k => T = t ∧ k = 25) w u)) 0 0 (jA E) := by
  refine j_metV (by decide) (Nat.le_of_ble_eq_true rfl) ?_
  intro p e s m args below meth c Q hx hb hml hown hnm hts hV hH hret ls hl
  have hl : lv_has ls 3 [(0, .ref b), (1, .int (iI i1))] := hl
  have h0 := hH.1.2
  have hR0 := hH.1
  have hk : FR (fun T k => T = t ∧ k = 25) w w := FR.rf
  refine lv_iload_n hx hb dJ26_expandTo_0 rfl (lv_at hl 1 rfl) ?_
  refine j_iconst hx hb dJ26_expandTo_1 ?_
  refine j_iadd hx hb dJ26_expandTo_2 ?_
  refine j_istore_n (lv' := fun x1 => [(2, .int (iI x1)), (0, .ref b), (1, .int (iI i1))]) hx hb dJ26_expandTo_3 rfl hl (by decide) (fun _ => rfl) (fun x1 ex1 ls hl => ?_)
  refine lv_aload_n hx hb dJ26_expandTo_4 rfl (lv_at hl 1 rfl) ?_
  refine j_get hx hb hts hown hV hH h1 rfl in_J26 1 (Nat.le_of_ble_eq_true rfl) q1406 (fun _ h => h) rfl dJ26_expandTo_5 ?_
  refine lv_iload_n hx hb dJ26_expandTo_8 rfl (lv_at hl 0 rfl) ?_
  refine j_icmp_ge (tgt := 22) hx hb dJ26_expandTo_9 (by decide) (by omega) (by omega) (fun c9 => ?_) (fun c9 => ?_)
  · exact hret w hH dJ26_expandTo_22 (Nat.le_of_ble_eq_true rfl) (Nat.le_of_ble_eq_true rfl) (⟨by first | assumption | (rw [show us = 1 by omega] at *; assumption) | (have e_ : i1 + 1 = 1 := (by omega); rw [e_] at *; assumption), hk⟩)
  · refine lv_aload_n hx hb dJ26_expandTo_12 rfl (lv_at hl 1 rfl) ?_
    refine lv_iload_n hx hb dJ26_expandTo_13 rfl (lv_at hl 0 rfl) ?_
    refine j_callv (va_runV (As := [.int (iI x1)]) (rest := []) ⟨hx, hb, hml, hown, hts⟩ (m_J26_ensureCapacity l w b wd t us sk g x1 (h1) (h2) (by omega)) (cw_J26_ensureCapacity hts q1442 (Nat.le_of_ble_eq_true rfl) (Nat.le_of_ble_eq_true rfl)) (j_preV hV hH h1 rfl) rfl rfl hl.1 rfl (lv_room (Nat.le_of_ble_eq_true rfl)) dJ26_expandTo_14 ⟨Nat.le_of_ble_eq_true rfl, Nat.le_of_ble_eq_true rfl⟩) hH (fun U2 H locs hp hH => ?_)
    have hs3 := hp
    have f4 : U2 b = some (t, .inr (15, [.ref wd, .int (iI us), .int (iI sk)])) := hs3.at h1 (k := 25) rfl (by first | exact not_false | (intro q_; simp at q_; done) | omega)
    have f5 : U2 wd = some (t, arL E 1 g) := hs3.at h2 (k := 1) rfl (by first | exact not_false | (intro q_; simp at q_; done) | omega)
    have hk : FR (fun T k => T = t ∧ k = 25) w U2 := FR.tr hk hs3 (by intro T k h_; first | exact h_.elim | (obtain ⟨rfl, rfl⟩ := h_; simp; done) | omega)
    refine lv_aload_n hx hb dJ26_expandTo_17 rfl (lv_at hl 1 rfl) ?_
    refine lv_iload_n hx hb dJ26_expandTo_18 rfl (lv_at hl 0 rfl) ?_
    refine j_put hx hb hts hown hV hH f4 rfl in_J26 tyJ26 tyJ26_ok nmJ26 1 (Nat.le_of_ble_eq_true rfl) q1406 (fun _ h => h) rfl rfl rfl (Nat.le_of_ble_eq_true rfl) dJ26_expandTo_19 (fun H locs hH => ?_)
    obtain ⟨V6, eV6⟩ : ∃ V_ : Wl, V_ = up U2 b (t, .inr (15, [.ref wd, .int (iI x1), .int (iI sk)])) := ⟨_, rfl⟩
    have hH := jH_eq hH eV6
    have hs7 : FR (fun T k => T = t ∧ k = 25) U2 V6 := by rw [eV6]; exact FR.one f4 rfl rfl
    have f8 : V6 wd = some (t, arL E 1 g) := hs7.at f5 (k := 1) rfl (by first | exact not_false | (intro q_; simp at q_; done) | omega)
    have f9 : V6 b = some (t, .inr (15, [.ref wd, .int (iI x1), .int (iI sk)])) := by rw [eV6]; exact up_s
    have hk : FR (fun T k => T = t ∧ k = 25) w V6 := FR.tr hk hs7 (by intro T k h_; first | exact h_.elim | (obtain ⟨rfl, rfl⟩ := h_; simp; done) | omega)
    exact hret V6 hH dJ26_expandTo_22 (Nat.le_of_ble_eq_true rfl) (Nat.le_of_ble_eq_true rfl) (⟨by first | assumption | (rw [show us = 1 by omega] at *; assumption) | (have e_ : i1 + 1 = 1 := (by omega); rw [e_] at *; assumption), hk⟩)
theorem cw_J26_set {R : Room} {s : State} {args : Array Value} {own : String} {index lev mc ms : Nat} (hts : ∀ w ∈ lw_all, w.before args s = true) (hl : Cond.methodLink own index yJ26_set ∈ lw_all) (hR1 : (rmL lev mc ms).frames + 1 ≤ R.frames) (hR2 : 8 + (3 + 11) + (rmL lev mc ms).locals ≤ R.locals) : CallW R s args own RJ26 index yJ26_set cJ26_set 3 none (ws_ yJ26_set cJ26_set 3 none) (rmL lev mc ms) mc ms 1 :=
  cwV 1 hts (lw_V hl q1435 q1436 q142 q1437) rfl rfl rfl (by decide +kernel) ⟨hR1, hR2⟩
set_option maxHeartbeats 4000000 in
theorem m_J26_set {E : jE} (l : Launch) (w : Wl) (b : Nat) (wd : Nat) (t : Nat) (us : Int) (sk : Int) (g : Int → Int) (n0 : Nat) (i1 : Int) (h1 : w b = some (t, .inr (15, [.ref wd, .int (iI us), .int (iI sk)]))) (h2 : w wd = some (t, arL E 1 g)) (h3 : 0 ≤ i1 ∧ i1 < 20) (h4 : g 0 = ((n0 : Nat) : Int)) (h5 : us = 1 ∨ us = 0) : Met l yJ26_set (ws_ yJ26_set cJ26_set 3 none) (rmL 3 0 0) (va_Pc [.ref b, .int (iI i1)] (jP E w)) (jQv E (fun u : Wl => u) (fun u => u b = some (t, .inr (15, [.ref wd, .int (iI 1), .int (iI sk)])) ∧ u wd = some (t, arL E 1 (upz g 0 ((n0 ||| 2 ^ i1.toNat : Nat) : Int))) ∧ FR (fun T k => T = t ∧ (k = 25 ∨ k = 1)) w u)) 0 0 (jA E) := by
  refine j_metV (by decide) (Nat.le_of_ble_eq_true rfl) ?_
  intro p e s m args below meth c Q hx hb hml hown hnm hts hV hH hret ls hl
  have hl : lv_has ls 3 [(0, .ref b), (1, .int (iI i1))] := hl
  have h0 := hH.1.2
  have hR0 := hH.1
  have hk : FR (fun T k => T = t ∧ (k = 25 ∨ k = 1)) w w := FR.rf
  refine lv_iload_n hx hb dJ26_set_0 rfl (lv_at hl 1 rfl) ?_
  refine j_if_ge (tgt := 31) hx hb dJ26_set_1 (by decide) (by omega) (fun c1 => ?_) (fun c1 => ?_)
  · refine lv_iload_n hx hb dJ26_set_31 rfl (lv_at hl 1 rfl) ?_
    refine j_callip (va_runS (As := [.int (iI i1)]) (rest := []) ⟨hx, hb, hml, hown, hts⟩ (m_J26_wordIndex l _ i1 (by omega)) (cw_J26_wordIndex hts q1402 (Nat.le_of_ble_eq_true rfl) (Nat.le_of_ble_eq_true rfl)) (j_preS hV hH) rfl rfl hl.1 rfl (lv_room (Nat.le_of_ble_eq_true rfl)) dJ26_set_32 ⟨Nat.le_of_ble_eq_true rfl, Nat.le_of_ble_eq_true rfl⟩) hH (fun H locs hH => ?_)
    refine j_istore_n (lv' := fun x1 => [(2, .int (iI x1)), (0, .ref b), (1, .int (iI i1))]) hx hb dJ26_set_35 rfl hl (by decide) (fun _ => rfl) (fun x1 ex1 ls hl => ?_)
    refine lv_aload_n hx hb dJ26_set_36 rfl (lv_at hl 1 rfl) ?_
    refine lv_iload_n hx hb dJ26_set_37 rfl (lv_at hl 0 rfl) ?_
    refine j_callv (va_runV (As := [.int (iI x1)]) (rest := []) ⟨hx, hb, hml, hown, hts⟩ (m_J26_expandTo l w b wd t us sk g x1 (h1) (h2) (by omega) (by omega)) (cw_J26_expandTo hts q1438 (Nat.le_of_ble_eq_true rfl) (Nat.le_of_ble_eq_true rfl)) (j_preV hV hH h1 rfl) rfl rfl hl.1 rfl (lv_room (Nat.le_of_ble_eq_true rfl)) dJ26_set_38 ⟨Nat.le_of_ble_eq_true rfl, Nat.le_of_ble_eq_true rfl⟩) hH (fun U2 H locs hp hH => ?_)
    obtain ⟨f4, hs3⟩ := hp
    have f5 : U2 wd = some (t, arL E 1 g) := hs3.at h2 (k := 1) rfl (by first | exact not_false | (intro q_; simp at q_; done) | omega)
    have hk : FR (fun T k => T = t ∧ (k = 25 ∨ k = 1)) w U2 := FR.tr hk hs3 (by intro T k h_; first | exact h_.elim | (obtain ⟨rfl, rfl⟩ := h_; simp; done) | omega)
    refine lv_aload_n hx hb dJ26_set_41 rfl (lv_at hl 1 rfl) ?_
    refine j_get hx hb hts hown hV hH f4 rfl in_J26 0 (Nat.le_of_ble_eq_true rfl) q1405 (fun _ h => h) rfl dJ26_set_42 ?_
    refine lv_iload_n hx hb dJ26_set_45 rfl (lv_at hl 0 rfl) ?_
    refine lv_dup2_11 hx hb dJ26_set_46 rfl rfl ?_
    refine j_lald hx hb hV hH f5 (by omega) (by omega) dJ26_set_47 ?_
    refine j_topl (b := ((n0 : Nat) : Int)) (h4) ?_
    refine j_lconst (z := 1) hx hb dJ26_set_48 (by decide +kernel) ?_
    refine lv_iload_n hx hb dJ26_set_49 rfl (lv_at hl 2 rfl) ?_
    refine j_lshl1 hx hb (by omega) dJ26_set_50 ?_
    refine j_lor (a := n0) (b := 2 ^ i1.toNat) hx hb dJ26_set_51 ?_
    refine j_last hx hb hV hH f5 (by omega) (by omega) dJ26_set_52 (fun H locs hH => ?_)
    obtain ⟨V6, eV6⟩ : ∃ V_ : Wl, V_ = up U2 wd (t, arL E 1 (upz g x1 ((n0 ||| (2 ^ i1.toNat) : Nat) : Int))) := ⟨_, rfl⟩
    have hH := jH_eq hH eV6
    have hs7 : FR (fun T k => T = t ∧ k = 1) U2 V6 := by rw [eV6]; exact FR.one f5 rfl rfl
    have f8 : V6 b = some (t, .inr (15, [.ref wd, .int (iI 1), .int (iI sk)])) := hs7.at f4 (k := 25) rfl (by first | exact not_false | (intro q_; simp at q_; done) | omega)
    have f9 : V6 wd = some (t, arL E 1 (upz g x1 ((n0 ||| (2 ^ i1.toNat) : Nat) : Int))) := by rw [eV6]; exact up_s
    have hk : FR (fun T k => T = t ∧ (k = 25 ∨ k = 1)) w V6 := FR.tr hk hs7 (by intro T k h_; first | exact h_.elim | (obtain ⟨rfl, rfl⟩ := h_; simp; done) | omega)
    refine lv_aload_n hx hb dJ26_set_53 rfl (lv_at hl 1 rfl) ?_
    refine j_callvp (va_runV (As := []) (rest := []) ⟨hx, hb, hml, hown, hts⟩ (m_J26_checkInvariants l _ b) (cw_J26_checkInvariants hts q1428 (Nat.le_of_ble_eq_true rfl) (Nat.le_of_ble_eq_true rfl)) (j_preV hV hH f8 rfl) rfl rfl hl.1 rfl (lv_room (Nat.le_of_ble_eq_true rfl)) dJ26_set_54 ⟨Nat.le_of_ble_eq_true rfl, Nat.le_of_ble_eq_true rfl⟩) hH (fun H locs hH => ?_)
    exact hret V6 hH dJ26_set_57 (Nat.le_of_ble_eq_true rfl) (Nat.le_of_ble_eq_true rfl) (⟨by assumption, by assumption, hk⟩)
  · exact absurd c1 (by omega)
