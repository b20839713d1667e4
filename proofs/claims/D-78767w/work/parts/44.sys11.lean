/-! THE SYSTEM's METHODS: java.util.ArrayList, growing, adding, removing -/
set_option maxRecDepth 100000
theorem cw_J2_grow_2 {R : Room} {s : State} {args : Array Value} {own : String} {index lev mc ms : Nat} (hts : ∀ w ∈ lw_all, w.before args s = true) (hl : Cond.methodLink own index yJ2_grow_2 ∈ lw_all) (hR1 : (rmL lev mc ms).frames + 1 ≤ R.frames) (hR2 : 8 + (4 + 11) + (rmL lev mc ms).locals ≤ R.locals) : CallW R s args own RJ2 index yJ2_grow_2 cJ2_grow_2 4 (some (.array (.object "java/lang/Object"))) (ws_ yJ2_grow_2 cJ2_grow_2 4 (some (.array (.object "java/lang/Object")))) (rmL lev mc ms) mc ms 1 :=
  cwV 1 hts (lw_V hl q490 qs2 q112 q491) rfl rfl rfl (by decide +kernel) ⟨hR1, hR2⟩
set_option maxHeartbeats 4000000 in
theorem m_J2_grow_2r {E : jE} (l : Launch) (w : Wl) (a : Nat) (ar : Nat) (t : Nat) (mo : Int) (n1 : Int) (cap : Nat) (g : Int → Option Nat) (n : Int) (h1 : w a = some (t, .inr (10, [.int (iI mo), .ref ar, .int (iI n1)]))) (h2 : w ar = some (t, arQ E cap g)) (h3 : AO w g) (h4 : n = (cap : Int) + 1) (h5 : 1 ≤ (cap : Int) ∧ (cap : Int) ≤ 40) : Met l yJ2_grow_2 (ws_ yJ2_grow_2 cJ2_grow_2 4 (some (.array (.object "java/lang/Object")))) (rmL 4 2 110) (va_Pc [.ref a, .int (iI n)] (jP E w)) (jQq E (fun u : Wl => u) (fun z u => ∃ (b : Nat) (c2 : Nat) (g2 : Int → Option Nat), z = some b ∧ u a = some (t, .inr (10, [.int (iI mo), .ref b, .int (iI n1)])) ∧ u b = some (t, arQ E c2 g2) ∧ (AO u g2) ∧ ((cap : Int) + 1 ≤ (c2 : Int) ∧ c2 ≤ 60) ∧ (∀ j : Int, 0 ≤ j → j < (cap : Int) → g2 j = g j) ∧ FR (fun T k => T = t ∧ (k = 20 ∨ k = 4)) w u)) 2 110 (jA E) := by
  refine j_metQ (by decide) (Nat.le_of_ble_eq_true rfl) (Or.inr ⟨_, rfl⟩) ?_
  intro p e s m args below meth c Q hx hb hml hown hnm hts hV hH hret ls hl
  have hl : lv_has ls 4 [(0, .ref a), (1, .int (iI n))] := hl
  have h0 := hH.1.2
  have hR0 := hH.1
  have hk : FR (fun T k => T = t ∧ (k = 20 ∨ k = 4)) w w := FR.rf
  refine lv_aload_n hx hb dJ2_grow_2_0 rfl (lv_at hl 0 rfl) ?_
  refine j_get hx hb hts hown hV hH h1 rfl in_J2 1 (Nat.le_of_ble_eq_true rfl) q180 (fun _ h => h) rfl dJ2_grow_2_1 ?_
  refine j_alen (t0 := 3) hx hb hV hH h2 rfl dJ2_grow_2_4 ?_
  refine j_top (b := ((cap : Nat) : Int)) rfl ?_
  refine j_istore_n (lv' := fun x1 => [(2, .int (iI x1)), (0, .ref a), (1, .int (iI n))]) hx hb dJ2_grow_2_5 rfl hl (by decide) (fun _ => rfl) (fun x1 ex1 ls hl => ?_)
  refine lv_iload_n hx hb dJ2_grow_2_6 rfl (lv_at hl 0 rfl) ?_
  refine j_if_gt (tgt := 20) hx hb dJ2_grow_2_7 (by decide) (by omega) (fun c7 => ?_) (fun c7 => ?_)
  · refine lv_iload_n hx hb dJ2_grow_2_20 rfl (lv_at hl 0 rfl) ?_
    refine lv_iload_n hx hb dJ2_grow_2_21 rfl (lv_at hl 2 rfl) ?_
    refine lv_iload_n hx hb dJ2_grow_2_22 rfl (lv_at hl 0 rfl) ?_
    refine j_isub hx hb dJ2_grow_2_23 ?_
    refine lv_iload_n hx hb dJ2_grow_2_24 rfl (lv_at hl 0 rfl) ?_
    refine j_iconst hx hb dJ2_grow_2_25 ?_
    refine j_ishr1 hx hb dJ2_grow_2_26 (by omega) ?_
    refine j_callip (va_runS (As := [.int (iI x1), .int (iI (n - x1)), .int (iI (x1 / 2))]) (rest := []) ⟨hx, hb, hml, hown, hts⟩ (m_J19_newLength l _ x1 (n - x1) (x1 / 2) (by omega) (by omega) (by omega)) (cw_J19_newLength hts q492 (Nat.le_of_ble_eq_true rfl) (Nat.le_of_ble_eq_true rfl)) (j_preS hV hH) rfl rfl hl.1 rfl (lv_room (Nat.le_of_ble_eq_true rfl)) dJ2_grow_2_27 ⟨Nat.le_of_ble_eq_true rfl, Nat.le_of_ble_eq_true rfl⟩) hH (fun H locs hH => ?_)
    refine j_istore_n (lv' := fun x2 => [(3, .int (iI x2)), (2, .int (iI x1)), (0, .ref a), (1, .int (iI n))]) hx hb dJ2_grow_2_30 rfl hl (by decide) (fun _ => rfl) (fun x2 ex2 ls hl => ?_)
    refine lv_aload_n hx hb dJ2_grow_2_31 rfl (lv_at hl 2 rfl) ?_
    refine lv_aload_n hx hb dJ2_grow_2_32 rfl (lv_at hl 2 rfl) ?_
    refine j_get hx hb hts hown hV hH h1 rfl in_J2 1 (Nat.le_of_ble_eq_true rfl) q180 (fun _ h => h) rfl dJ2_grow_2_33 ?_
    refine lv_iload_n hx hb dJ2_grow_2_36 rfl (lv_at hl 0 rfl) ?_
    refine j_callq (va_runS (As := [.ref ar, .int (iI x2)]) (rest := [.ref a]) ⟨hx, hb, hml, hown, hts⟩ (m_J11_copyOf l w t t cap g ar x2 (h2) (h3) (by omega) (by omega)) (cw_J11_copyOf hts q502 (Nat.le_of_ble_eq_true rfl) (Nat.le_of_ble_eq_true rfl)) (j_preS hV hH) rfl rfl hl.1 rfl (lv_room (Nat.le_of_ble_eq_true rfl)) dJ2_grow_2_37 ⟨Nat.le_of_ble_eq_true rfl, Nat.le_of_ble_eq_true rfl⟩) hH (fun z5 U3 H locs hp hH => ?_)
    obtain ⟨b6, g27, hzz5, f8, p9, hin_37, hb0_37, hs4⟩ := hp
    have f10 : U3 a = some (t, .inr (10, [.int (iI mo), .ref ar, .int (iI n1)])) := hs4.at h1 (k := 20) rfl (by first | exact not_false | (intro q_; simp at q_; done) | omega)
    have f11 : U3 ar = some (t, arQ E cap g) := hs4.at h2 (k := 4) rfl (by first | exact not_false | (intro q_; simp at q_; done) | omega)
    have p12 : AO U3 g := AO.kp h3 hs4
    have hk : FR (fun T k => T = t ∧ (k = 20 ∨ k = 4)) w U3 := FR.tr hk hs4 (by intro T k h_; first | exact h_.elim | (obtain ⟨rfl, rfl⟩ := h_; simp; done) | omega)
    subst hzz5
    show W p l e _ s m args below meth c H locs _ _ Q (F0 m _ ls (.ref b6 :: [.ref a]))
    refine lv_dup_x1 hx hb dJ2_grow_2_40 rfl rfl ?_
    refine j_put hx hb hts hown hV hH f10 rfl in_J2 tyJ2 tyJ2_ok nmJ2 1 (Nat.le_of_ble_eq_true rfl) q180 (fun _ h => h) rfl rfl rfl (Nat.le_of_ble_eq_true rfl) dJ2_grow_2_41 (fun H locs hH => ?_)
    obtain ⟨V13, eV13⟩ : ∃ V_ : Wl, V_ = up U3 a (t, .inr (10, [.int (iI mo), .ref b6, .int (iI n1)])) := ⟨_, rfl⟩
    have hH := jH_eq hH eV13
    have hs14 : FR (fun T k => T = t ∧ k = 20) U3 V13 := by rw [eV13]; exact FR.one f10 rfl rfl
    have f15 : V13 ar = some (t, arQ E cap g) := hs14.at f11 (k := 4) rfl (by first | exact not_false | (intro q_; simp at q_; done) | omega)
    have f16 : V13 b6 = some (t, arQ E x2.toNat g27) := hs14.at f8 (k := 4) rfl (by first | exact not_false | (intro q_; simp at q_; done) | omega)
    have p17 : AO V13 g := AO.kp p12 hs14
    have p18 : AO V13 g27 := AO.kp p9 hs14
    have f19 : V13 a = some (t, .inr (10, [.int (iI mo), .ref b6, .int (iI n1)])) := by rw [eV13]; exact up_s
    have hk : FR (fun T k => T = t ∧ (k = 20 ∨ k = 4)) w V13 := FR.tr hk hs14 (by intro T k h_; first | exact h_.elim | (obtain ⟨rfl, rfl⟩ := h_; simp; done) | omega)
    exact hret (some b6) V13 hH dJ2_grow_2_44 (Nat.le_of_ble_eq_true rfl) (Nat.le_of_ble_eq_true rfl) (⟨_, _, _, by first | rfl | omega, by assumption, by assumption, by assumption, by omega, fun j q1_ q2_ => hin_37 j q1_ q2_ (by omega), hk⟩)
  · exact absurd c7 (by omega)
set_option maxHeartbeats 4000000 in
theorem m_J2_grow_2k {E : jE} (l : Launch) (w : Wl) (a : Nat) (t : Nat) (mo : Int) (n1 : Int) (n : Int) (h1 : w a = some (t, .inr (10, [.int (iI mo), .ref (E.2.2.2 0), .int (iI n1)]))) (h2 : n = 1) : Met l yJ2_grow_2 (ws_ yJ2_grow_2 cJ2_grow_2 4 (some (.array (.object "java/lang/Object")))) (rmL 4 2 110) (va_Pc [.ref a, .int (iI n)] (jP E w)) (jQq E (fun u : Wl => u) (fun z u => ∃ (b : Nat) (c2 : Nat) (g2 : Int → Option Nat), z = some b ∧ u a = some (t, .inr (10, [.int (iI mo), .ref b, .int (iI n1)])) ∧ u b = some (t, arQ E c2 g2) ∧ (AO u g2) ∧ (1 ≤ (c2 : Int) ∧ c2 ≤ 60) ∧ FR (fun T k => T = t ∧ (k = 20 ∨ k = 4)) w u)) 2 110 (jA E) := by
  refine j_metQ (by decide) (Nat.le_of_ble_eq_true rfl) (Or.inr ⟨_, rfl⟩) ?_
  intro p e s m args below meth c Q hx hb hml hown hnm hts hV hH hret ls hl
  have hl : lv_has ls 4 [(0, .ref a), (1, .int (iI n))] := hl
  have h0 := hH.1.2
  have hR0 := hH.1
  have hk : FR (fun T k => T = t ∧ (k = 20 ∨ k = 4)) w w := FR.rf
  refine lv_aload_n hx hb dJ2_grow_2_0 rfl (lv_at hl 0 rfl) ?_
  refine j_get hx hb hts hown hV hH h1 rfl in_J2 1 (Nat.le_of_ble_eq_true rfl) q180 (fun _ h => h) rfl dJ2_grow_2_1 ?_
  refine j_alenK hx hb hV h0 hH dJ2_grow_2_4 ?_
  refine j_istore_n (lv' := fun x1 => [(2, .int (iI x1)), (0, .ref a), (1, .int (iI n))]) hx hb dJ2_grow_2_5 rfl hl (by decide) (fun _ => rfl) (fun x1 ex1 ls hl => ?_)
  refine lv_iload_n hx hb dJ2_grow_2_6 rfl (lv_at hl 0 rfl) ?_
  refine j_if_gt (tgt := 20) hx hb dJ2_grow_2_7 (by decide) (by omega) (fun c7 => ?_) (fun c7 => ?_)
  · exact absurd c7 (by omega)
  · refine lv_aload_n hx hb dJ2_grow_2_10 rfl (lv_at hl 1 rfl) ?_
    refine j_get hx hb hts hown hV hH h1 rfl in_J2 1 (Nat.le_of_ble_eq_true rfl) q180 (fun _ h => h) rfl dJ2_grow_2_11 ?_
    refine j_getsK hx hb hts hown hV h0 hH q178 (fun _ h => h) dJ2_grow_2_14 ?_
    refine lv_acmp_eq (rx := (some (E.2.2.2 0))) (ry := (some (E.2.2.2 0))) (tgt := 45) hx hb dJ2_grow_2_17 (by decide) (fun c17 => ?_) (fun c17 => ?_)
    · refine lv_aload_n hx hb dJ2_grow_2_45 rfl (lv_at hl 1 rfl) ?_
      refine j_bipush hx hb dJ2_grow_2_46 (by decide) ?_
      refine lv_iload_n hx hb dJ2_grow_2_48 rfl (lv_at hl 2 rfl) ?_
      refine j_callip (va_runS (As := [.int (iI 10), .int (iI n)]) (rest := [.ref a]) ⟨hx, hb, hml, hown, hts⟩ (m_J12_max l _ 10 n (by omega) (by omega)) (cw_J12_max hts q545 (Nat.le_of_ble_eq_true rfl) (Nat.le_of_ble_eq_true rfl)) (j_preS hV hH) rfl rfl hl.1 rfl (lv_room (Nat.le_of_ble_eq_true rfl)) dJ2_grow_2_49 ⟨Nat.le_of_ble_eq_true rfl, Nat.le_of_ble_eq_true rfl⟩) hH (fun H locs hH => ?_)
      refine j_newq hx hb hts hown hV h0 hH q546 (by omega) (Nat.le_of_ble_eq_true rfl) (by show _ ≤ 110; omega) dJ2_grow_2_52 (fun r52 H nr52 hH => ?_)
      refine W.widen (k := 1) (n := 100) (Nat.le_of_ble_eq_true rfl) (by show _ ≤ 100; omega) ?_
      have hH := hH t
      obtain ⟨V2, eV2⟩ : ∃ V_ : Wl, V_ = up w r52 (t, arQ E ((max 10 n).toNat) (fun _ => none)) := ⟨_, rfl⟩
      have hH := jH_eq hH eV2
      have nwr52 : w r52 = none := hk.non_ nr52
      have hs3 : FR (fun _ _ => False) w V2 := by rw [eV2]; exact FR.new1 nr52
      have f4 : V2 a = some (t, .inr (10, [.int (iI mo), .ref (E.2.2.2 0), .int (iI n1)])) := hs3.at h1 (k := 20) rfl (by first | exact not_false | (intro q_; simp at q_; done) | omega)
      have f5 : V2 r52 = some (t, arQ E ((max 10 n).toNat) (fun _ => none)) := by rw [eV2]; exact up_s
      have hk : FR (fun T k => T = t ∧ (k = 20 ∨ k = 4)) w V2 := FR.tr hk hs3 (by intro T k h_; exact h_.elim)
      refine lv_dup_x1 hx hb dJ2_grow_2_55 rfl rfl ?_
      refine j_put hx hb hts hown hV hH f4 rfl in_J2 tyJ2 tyJ2_ok nmJ2 1 (Nat.le_of_ble_eq_true rfl) q180 (fun _ h => h) rfl rfl rfl (Nat.le_of_ble_eq_true rfl) dJ2_grow_2_56 (fun H locs hH => ?_)
      obtain ⟨V6, eV6⟩ : ∃ V_ : Wl, V_ = up V2 a (t, .inr (10, [.int (iI mo), .ref r52, .int (iI n1)])) := ⟨_, rfl⟩
      have hH := jH_eq hH eV6
      have hs7 : FR (fun T k => T = t ∧ k = 20) V2 V6 := by rw [eV6]; exact FR.one f4 rfl rfl
      have f8 : V6 r52 = some (t, arQ E ((max 10 n).toNat) (fun _ => none)) := hs7.at f5 (k := 4) rfl (by first | exact not_false | (intro q_; simp at q_; done) | omega)
      have f9 : V6 a = some (t, .inr (10, [.int (iI mo), .ref r52, .int (iI n1)])) := by rw [eV6]; exact up_s
      have hk : FR (fun T k => T = t ∧ (k = 20 ∨ k = 4)) w V6 := FR.tr hk hs7 (by intro T k h_; first | exact h_.elim | (obtain ⟨rfl, rfl⟩ := h_; simp; done) | omega)
      exact hret (some r52) V6 hH dJ2_grow_2_59 (Nat.le_of_ble_eq_true rfl) (Nat.le_of_ble_eq_true rfl) (⟨r52, _, _, by first | rfl | omega, by assumption, by assumption, AO.emp, by omega, hk⟩)
    · exact absurd rfl c17
theorem cw_J2_grow {R : Room} {s : State} {args : Array Value} {own : String} {index lev mc ms : Nat} (hts : ∀ w ∈ lw_all, w.before args s = true) (hl : Cond.methodLink own index yJ2_grow ∈ lw_all) (hR1 : (rmL lev mc ms).frames + 1 ≤ R.frames) (hR2 : 8 + (1 + 11) + (rmL lev mc ms).locals ≤ R.locals) : CallW R s args own RJ2 index yJ2_grow cJ2_grow 1 (some (.array (.object "java/lang/Object"))) (ws_ yJ2_grow cJ2_grow 1 (some (.array (.object "java/lang/Object")))) (rmL lev mc ms) mc ms 0 :=
  cwV 0 hts (lw_V hl q486 qs1 q112 q487) rfl rfl rfl (by decide +kernel) ⟨hR1, hR2⟩
set_option maxHeartbeats 4000000 in
theorem m_J2_grow_r {E : jE} (l : Launch) (w : Wl) (a : Nat) (ar : Nat) (t : Nat) (mo : Int) (n1 : Int) (cap : Nat) (g : Int → Option Nat) (h1 : w a = some (t, .inr (10, [.int (iI mo), .ref ar, .int (iI n1)]))) (h2 : w ar = some (t, arQ E cap g)) (h3 : AO w g) (h4 : n1 = (cap : Int)) (h5 : 1 ≤ (cap : Int) ∧ (cap : Int) ≤ 40) : Met l yJ2_grow (ws_ yJ2_grow cJ2_grow 1 (some (.array (.object "java/lang/Object")))) (rmL 5 2 110) (va_Pc [.ref a] (jP E w)) (jQq E (fun u : Wl => u) (fun z u => ∃ (b : Nat) (c2 : Nat) (g2 : Int → Option Nat), z = some b ∧ u a = some (t, .inr (10, [.int (iI mo), .ref b, .int (iI n1)])) ∧ u b = some (t, arQ E c2 g2) ∧ (AO u g2) ∧ ((cap : Int) + 1 ≤ (c2 : Int) ∧ c2 ≤ 60) ∧ (∀ j : Int, 0 ≤ j → j < (cap : Int) → g2 j = g j) ∧ FR (fun T k => T = t ∧ (k = 20 ∨ k = 4)) w u)) 2 110 (jA E) := by
  refine j_metQ (by decide) (Nat.le_of_ble_eq_true rfl) (Or.inr ⟨_, rfl⟩) ?_
  intro p e s m args below meth c Q hx hb hml hown hnm hts hV hH hret ls hl
  have hl : lv_has ls 1 [(0, .ref a)] := hl
  have h0 := hH.1.2
  have hR0 := hH.1
  have hk : FR (fun T k => T = t ∧ (k = 20 ∨ k = 4)) w w := FR.rf
  refine lv_aload_n hx hb dJ2_grow_0 rfl (lv_at hl 0 rfl) ?_
  refine lv_aload_n hx hb dJ2_grow_1 rfl (lv_at hl 0 rfl) ?_
  refine j_get hx hb hts hown hV hH h1 rfl in_J2 2 (Nat.le_of_ble_eq_true rfl) q183 (fun _ h => h) rfl dJ2_grow_2 ?_
  refine j_iconst hx hb dJ2_grow_5 ?_
  refine j_iadd hx hb dJ2_grow_6 ?_
  refine j_callq (va_runV (As := [.int (iI (n1 + 1))]) (rest := []) ⟨hx, hb, hml, hown, hts⟩ (m_J2_grow_2r l w a ar t mo n1 cap g (n1 + 1) (h1) (h2) (h3) (by omega) (by omega)) (cw_J2_grow_2 hts q488 (Nat.le_of_ble_eq_true rfl) (Nat.le_of_ble_eq_true rfl)) (j_preV hV hH h1 rfl) rfl rfl hl.1 rfl (lv_room (Nat.le_of_ble_eq_true rfl)) dJ2_grow_7 ⟨Nat.le_of_ble_eq_true rfl, Nat.le_of_ble_eq_true rfl⟩) hH (fun z3 U1 H locs hp hH => ?_)
  obtain ⟨b4, c25, g26, hzz3, f7, f8, p9, hc_7, hin_7, hs2⟩ := hp
  have p10 : AO U1 g := AO.kp h3 hs2
  have hk : FR (fun T k => T = t ∧ (k = 20 ∨ k = 4)) w U1 := FR.tr hk hs2 (by intro T k h_; first | exact h_.elim | (obtain ⟨rfl, rfl⟩ := h_; simp; done) | omega)
  subst hzz3
  show W p l e _ s m args below meth c H locs _ _ Q (F0 m _ ls (.ref b4 :: []))
  exact hret (some b4) U1 hH dJ2_grow_10 (Nat.le_of_ble_eq_true rfl) (Nat.le_of_ble_eq_true rfl) (⟨_, _, _, by first | rfl | omega, by assumption, by assumption, by assumption, hc_7, hin_7, hk⟩)
set_option maxHeartbeats 4000000 in
theorem m_J2_grow_k {E : jE} (l : Launch) (w : Wl) (a : Nat) (t : Nat) (mo : Int) (n1 : Int) (h1 : w a = some (t, .inr (10, [.int (iI mo), .ref (E.2.2.2 0), .int (iI n1)]))) (h2 : n1 = 0) : Met l yJ2_grow (ws_ yJ2_grow cJ2_grow 1 (some (.array (.object "java/lang/Object")))) (rmL 5 2 110) (va_Pc [.ref a] (jP E w)) (jQq E (fun u : Wl => u) (fun z u => ∃ (b : Nat) (c2 : Nat) (g2 : Int → Option Nat), z = some b ∧ u a = some (t, .inr (10, [.int (iI mo), .ref b, .int (iI n1)])) ∧ u b = some (t, arQ E c2 g2) ∧ (AO u g2) ∧ (1 ≤ (c2 : Int) ∧ c2 ≤ 60) ∧ FR (fun T k => T = t ∧ (k = 20 ∨ k = 4)) w u)) 2 110 (jA E) := by
  refine j_metQ (by decide) (Nat.le_of_ble_eq_true rfl) (Or.inr ⟨_, rfl⟩) ?_
  intro p e s m args below meth c Q hx hb hml hown hnm hts hV hH hret ls hl
  have hl : lv_has ls 1 [(0, .ref a)] := hl
  have h0 := hH.1.2
  have hR0 := hH.1
  have hk : FR (fun T k => T = t ∧ (k = 20 ∨ k = 4)) w w := FR.rf
  refine lv_aload_n hx hb dJ2_grow_0 rfl (lv_at hl 0 rfl) ?_
  refine lv_aload_n hx hb dJ2_grow_1 rfl (lv_at hl 0 rfl) ?_
  refine j_get hx hb hts hown hV hH h1 rfl in_J2 2 (Nat.le_of_ble_eq_true rfl) q183 (fun _ h => h) rfl dJ2_grow_2 ?_
  refine j_iconst hx hb dJ2_grow_5 ?_
  refine j_iadd hx hb dJ2_grow_6 ?_
  refine j_callq (va_runV (As := [.int (iI (n1 + 1))]) (rest := []) ⟨hx, hb, hml, hown, hts⟩ (m_J2_grow_2k l w a t mo n1 (n1 + 1) (h1) (by omega)) (cw_J2_grow_2 hts q488 (Nat.le_of_ble_eq_true rfl) (Nat.le_of_ble_eq_true rfl)) (j_preV hV hH h1 rfl) rfl rfl hl.1 rfl (lv_room (Nat.le_of_ble_eq_true rfl)) dJ2_grow_7 ⟨Nat.le_of_ble_eq_true rfl, Nat.le_of_ble_eq_true rfl⟩) hH (fun z3 U1 H locs hp hH => ?_)
  obtain ⟨b4, c25, g26, hzz3, f7, f8, p9, hc_7, hs2⟩ := hp
  have hk : FR (fun T k => T = t ∧ (k = 20 ∨ k = 4)) w U1 := FR.tr hk hs2 (by intro T k h_; first | exact h_.elim | (obtain ⟨rfl, rfl⟩ := h_; simp; done) | omega)
  subst hzz3
  show W p l e _ s m args below meth c H locs _ _ Q (F0 m _ ls (.ref b4 :: []))
  exact hret (some b4) U1 hH dJ2_grow_10 (Nat.le_of_ble_eq_true rfl) (Nat.le_of_ble_eq_true rfl) (⟨_, _, _, by first | rfl | omega, by assumption, by assumption, by assumption, hc_7, hk⟩)
