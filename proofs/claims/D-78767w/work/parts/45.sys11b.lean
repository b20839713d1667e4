/-! THE SYSTEM's METHODS: java.util.ArrayList, adding -/
set_option maxRecDepth 100000
theorem cw_J2_add_2 {R : Room} {s : State} {args : Array Value} {own : String} {index lev mc ms : Nat} (hts : ∀ w ∈ lw_all, w.before args s = true) (hl : Cond.methodLink own index yJ2_add_2 ∈ lw_all) (hR1 : (rmL lev mc ms).frames + 1 ≤ R.frames) (hR2 : 8 + (4 + 11) + (rmL lev mc ms).locals ≤ R.locals) : CallW R s args own RJ2 index yJ2_add_2 cJ2_add_2 4 none (ws_ yJ2_add_2 cJ2_add_2 4 none) (rmL lev mc ms) mc ms 3 :=
  cwV 3 hts (lw_V hl q482 qs0 q112 q483) rfl rfl rfl (by decide +kernel) ⟨hR1, hR2⟩
set_option maxHeartbeats 4000000 in
theorem m_J2_add_2s {E : jE} (l : Launch) (w : Wl) (a : Nat) (ar : Nat) (t : Nat) (mo : Int) (n1 : Int) (cap : Nat) (g : Int → Option Nat) (ob : Nat) (h1 : w a = some (t, .inr (10, [.int (iI mo), .ref ar, .int (iI n1)]))) (h2 : w ar = some (t, arQ E cap g)) (h3 : AO w g) (h4 : OB w ob) (h5 : 0 ≤ n1 ∧ n1 < (cap : Int)) (h6 : (cap : Int) ≤ 60) : Met l yJ2_add_2 (ws_ yJ2_add_2 cJ2_add_2 4 none) (rmL 6 2 110) (va_Pc [.ref a, .ref ob, .ref ar, .int (iI n1)] (jP E w)) (jQv E (fun u : Wl => u) (fun u => ∃ (b : Nat) (c2 : Nat) (g2 : Int → Option Nat), u a = some (t, .inr (10, [.int (iI mo), .ref b, .int (iI (n1 + 1))])) ∧ u b = some (t, arQ E c2 g2) ∧ (AO u g2) ∧ (n1 + 1 ≤ (c2 : Int) ∧ 1 ≤ c2 ∧ c2 ≤ 60) ∧ (∀ j : Int, 0 ≤ j → j < n1 → g2 j = g j) ∧ (g2 n1 = some ob) ∧ FR (fun T k => T = t ∧ (k = 20 ∨ k = 4)) w u)) 2 110 (jA E) := by
  refine j_metV (by decide) (Nat.le_of_ble_eq_true rfl) ?_
  intro p e s m args below meth c Q hx hb hml hown hnm hts hV hH hret ls hl
  have hl : lv_has ls 4 [(0, .ref a), (1, .ref ob), (2, .ref ar), (3, .int (iI n1))] := hl
  have h0 := hH.1.2
  have hR0 := hH.1
  have hk : FR (fun T k => T = t ∧ (k = 20 ∨ k = 4)) w w := FR.rf
  refine lv_iload_n hx hb dJ2_add_2_0 rfl (lv_at hl 3 rfl) ?_
  refine lv_aload_n hx hb dJ2_add_2_1 rfl (lv_at hl 2 rfl) ?_
  refine j_alen (t0 := 3) hx hb hV hH h2 rfl dJ2_add_2_2 ?_
  refine j_top (b := ((cap : Nat) : Int)) rfl ?_
  refine j_icmp_ne (tgt := 11) hx hb dJ2_add_2_3 (by decide) (by omega) (by omega) (fun c3 => ?_) (fun c3 => ?_)
  · refine lv_aload_n hx hb dJ2_add_2_11 rfl (lv_at hl 2 rfl) ?_
    refine lv_iload_n hx hb dJ2_add_2_12 rfl (lv_at hl 3 rfl) ?_
    refine lv_aload_n hx hb dJ2_add_2_13 rfl (lv_at hl 1 rfl) ?_
    refine j_aastA hx hb hV h0 hH h2 (j_anyO hV hH h4) (by omega) (by omega) dJ2_add_2_14 (fun H locs hH => ?_)
    obtain ⟨V1, eV1⟩ : ∃ V_ : Wl, V_ = up w ar (t, arQ E cap (upz g n1 (some ob))) := ⟨_, rfl⟩
    have hH := jH_eq hH eV1
    have hs2 : FR (fun T k => T = t ∧ k = 4) w V1 := by rw [eV1]; exact FR.one h2 rfl rfl
    have f3 : V1 a = some (t, .inr (10, [.int (iI mo), .ref ar, .int (iI n1)])) := hs2.at h1 (k := 20) rfl (by first | exact not_false | (intro q_; simp at q_; done) | omega)
    have p4 : AO V1 g := AO.kp h3 hs2
    have p5 : OB V1 ob := OB.kp h4 hs2
    have f6 : V1 ar = some (t, arQ E cap (upz g n1 (some ob))) := by rw [eV1]; exact up_s
    have hk : FR (fun T k => T = t ∧ (k = 20 ∨ k = 4)) w V1 := FR.tr hk hs2 (by intro T k h_; first | exact h_.elim | (obtain ⟨rfl, rfl⟩ := h_; simp; done) | omega)
    refine lv_aload_n hx hb dJ2_add_2_15 rfl (lv_at hl 0 rfl) ?_
    refine lv_iload_n hx hb dJ2_add_2_16 rfl (lv_at hl 3 rfl) ?_
    refine j_iconst hx hb dJ2_add_2_17 ?_
    refine j_iadd hx hb dJ2_add_2_18 ?_
    refine j_put hx hb hts hown hV hH f3 rfl in_J2 tyJ2 tyJ2_ok nmJ2 2 (Nat.le_of_ble_eq_true rfl) q183 (fun _ h => h) rfl rfl rfl (Nat.le_of_ble_eq_true rfl) dJ2_add_2_19 (fun H locs hH => ?_)
    obtain ⟨V7, eV7⟩ : ∃ V_ : Wl, V_ = up V1 a (t, .inr (10, [.int (iI mo), .ref ar, .int (iI (n1 + 1))])) := ⟨_, rfl⟩
    have hH := jH_eq hH eV7
    have hs8 : FR (fun T k => T = t ∧ k = 20) V1 V7 := by rw [eV7]; exact FR.one f3 rfl rfl
    have f9 : V7 ar = some (t, arQ E cap (upz g n1 (some ob))) := hs8.at f6 (k := 4) rfl (by first | exact not_false | (intro q_; simp at q_; done) | omega)
    have p10 : AO V7 g := AO.kp p4 hs8
    have p11 : OB V7 ob := OB.kp p5 hs8
    have f12 : V7 a = some (t, .inr (10, [.int (iI mo), .ref ar, .int (iI (n1 + 1))])) := by rw [eV7]; exact up_s
    have hk : FR (fun T k => T = t ∧ (k = 20 ∨ k = 4)) w V7 := FR.tr hk hs8 (by intro T k h_; first | exact h_.elim | (obtain ⟨rfl, rfl⟩ := h_; simp; done) | omega)
    exact hret V7 hH dJ2_add_2_22 (Nat.le_of_ble_eq_true rfl) (Nat.le_of_ble_eq_true rfl) (⟨_, _, _, by assumption, by assumption, AO.put p10 (fun y hy => by cases hy; exact p11), by omega, fun j q1_ q2_ => upz_n (by omega), upz_s, hk⟩)
  · exact absurd c3 (by omega)
set_option maxHeartbeats 4000000 in
theorem m_J2_add_2f {E : jE} (l : Launch) (w : Wl) (a : Nat) (ar : Nat) (t : Nat) (mo : Int) (n1 : Int) (cap : Nat) (g : Int → Option Nat) (ob : Nat) (h1 : w a = some (t, .inr (10, [.int (iI mo), .ref ar, .int (iI n1)]))) (h2 : w ar = some (t, arQ E cap g)) (h3 : AO w g) (h4 : OB w ob) (h5 : 1 ≤ n1 ∧ n1 = (cap : Int)) (h6 : (cap : Int) ≤ 40) : Met l yJ2_add_2 (ws_ yJ2_add_2 cJ2_add_2 4 none) (rmL 6 2 110) (va_Pc [.ref a, .ref ob, .ref ar, .int (iI n1)] (jP E w)) (jQv E (fun u : Wl => u) (fun u => ∃ (b : Nat) (c2 : Nat) (g2 : Int → Option Nat), u a = some (t, .inr (10, [.int (iI mo), .ref b, .int (iI (n1 + 1))])) ∧ u b = some (t, arQ E c2 g2) ∧ (AO u g2) ∧ (n1 + 1 ≤ (c2 : Int) ∧ 1 ≤ c2 ∧ c2 ≤ 60) ∧ (∀ j : Int, 0 ≤ j → j < n1 → g2 j = g j) ∧ (g2 n1 = some ob) ∧ FR (fun T k => T = t ∧ (k = 20 ∨ k = 4)) w u)) 2 110 (jA E) := by
  refine j_metV (by decide) (Nat.le_of_ble_eq_true rfl) ?_
  intro p e s m args below meth c Q hx hb hml hown hnm hts hV hH hret ls hl
  have hl : lv_has ls 4 [(0, .ref a), (1, .ref ob), (2, .ref ar), (3, .int (iI n1))] := hl
  have h0 := hH.1.2
  have hR0 := hH.1
  have hk : FR (fun T k => T = t ∧ (k = 20 ∨ k = 4)) w w := FR.rf
  refine lv_iload_n hx hb dJ2_add_2_0 rfl (lv_at hl 3 rfl) ?_
  refine lv_aload_n hx hb dJ2_add_2_1 rfl (lv_at hl 2 rfl) ?_
  refine j_alen (t0 := 3) hx hb hV hH h2 rfl dJ2_add_2_2 ?_
  refine j_top (b := ((cap : Nat) : Int)) rfl ?_
  refine j_icmp_ne (tgt := 11) hx hb dJ2_add_2_3 (by decide) (by omega) (by omega) (fun c3 => ?_) (fun c3 => ?_)
  · exact absurd c3 (by omega)
  · refine lv_aload_n hx hb dJ2_add_2_6 rfl (lv_at hl 0 rfl) ?_
    refine j_callq (va_runV (As := []) (rest := []) ⟨hx, hb, hml, hown, hts⟩ (m_J2_grow_r l w a ar t mo n1 cap g (h1) (h2) (h3) (by omega) (by omega)) (cw_J2_grow hts q484 (Nat.le_of_ble_eq_true rfl) (Nat.le_of_ble_eq_true rfl)) (j_preV hV hH h1 rfl) rfl rfl hl.1 rfl (lv_room (Nat.le_of_ble_eq_true rfl)) dJ2_add_2_7 ⟨Nat.le_of_ble_eq_true rfl, Nat.le_of_ble_eq_true rfl⟩) hH (fun z3 U1 H locs hp hH => ?_)
    obtain ⟨b4, c25, g26, hzz3, f7, f8, p9, hc_7, hin_7, hs2⟩ := hp
    have p10 : AO U1 g := AO.kp h3 hs2
    have p11 : OB U1 ob := OB.kp h4 hs2
    have hk : FR (fun T k => T = t ∧ (k = 20 ∨ k = 4)) w U1 := FR.tr hk hs2 (by intro T k h_; first | exact h_.elim | (obtain ⟨rfl, rfl⟩ := h_; simp; done) | omega)
    subst hzz3
    show W p l e _ s m args below meth c H locs _ _ Q (F0 m _ ls (.ref b4 :: []))
    refine lv_astore_n (lv' := [(2, .ref b4), (0, .ref a), (1, .ref ob), (3, .int (iI n1))]) hx hb dJ2_add_2_10 rfl hl (by decide) rfl (fun ls hl => ?_)
    refine lv_aload_n hx hb dJ2_add_2_11 rfl (lv_at hl 0 rfl) ?_
    refine lv_iload_n hx hb dJ2_add_2_12 rfl (lv_at hl 3 rfl) ?_
    refine lv_aload_n hx hb dJ2_add_2_13 rfl (lv_at hl 2 rfl) ?_
    refine j_aastA hx hb hV h0 hH f8 (j_anyO hV hH p11) (by omega) (by omega) dJ2_add_2_14 (fun H locs hH => ?_)
    obtain ⟨V12, eV12⟩ : ∃ V_ : Wl, V_ = up U1 b4 (t, arQ E c25 (upz g26 n1 (some ob))) := ⟨_, rfl⟩
    have hH := jH_eq hH eV12
    have hs13 : FR (fun T k => T = t ∧ k = 4) U1 V12 := by rw [eV12]; exact FR.one f8 rfl rfl
    have f14 : V12 a = some (t, .inr (10, [.int (iI mo), .ref b4, .int (iI n1)])) := hs13.at f7 (k := 20) rfl (by first | exact not_false | (intro q_; simp at q_; done) | omega)
    have p15 : AO V12 g := AO.kp p10 hs13
    have p16 : OB V12 ob := OB.kp p11 hs13
    have p17 : AO V12 g26 := AO.kp p9 hs13
    have f18 : V12 b4 = some (t, arQ E c25 (upz g26 n1 (some ob))) := by rw [eV12]; exact up_s
    have hk : FR (fun T k => T = t ∧ (k = 20 ∨ k = 4)) w V12 := FR.tr hk hs13 (by intro T k h_; first | exact h_.elim | (obtain ⟨rfl, rfl⟩ := h_; simp; done) | omega)
    refine lv_aload_n hx hb dJ2_add_2_15 rfl (lv_at hl 1 rfl) ?_
    refine lv_iload_n hx hb dJ2_add_2_16 rfl (lv_at hl 3 rfl) ?_
    refine j_iconst hx hb dJ2_add_2_17 ?_
    refine j_iadd hx hb dJ2_add_2_18 ?_
    refine j_put hx hb hts hown hV hH f14 rfl in_J2 tyJ2 tyJ2_ok nmJ2 2 (Nat.le_of_ble_eq_true rfl) q183 (fun _ h => h) rfl rfl rfl (Nat.le_of_ble_eq_true rfl) dJ2_add_2_19 (fun H locs hH => ?_)
    obtain ⟨V19, eV19⟩ : ∃ V_ : Wl, V_ = up V12 a (t, .inr (10, [.int (iI mo), .ref b4, .int (iI (n1 + 1))])) := ⟨_, rfl⟩
    have hH := jH_eq hH eV19
    have hs20 : FR (fun T k => T = t ∧ k = 20) V12 V19 := by rw [eV19]; exact FR.one f14 rfl rfl
    have f21 : V19 b4 = some (t, arQ E c25 (upz g26 n1 (some ob))) := hs20.at f18 (k := 4) rfl (by first | exact not_false | (intro q_; simp at q_; done) | omega)
    have p22 : AO V19 g := AO.kp p15 hs20
    have p23 : OB V19 ob := OB.kp p16 hs20
    have p24 : AO V19 g26 := AO.kp p17 hs20
    have f25 : V19 a = some (t, .inr (10, [.int (iI mo), .ref b4, .int (iI (n1 + 1))])) := by rw [eV19]; exact up_s
    have hk : FR (fun T k => T = t ∧ (k = 20 ∨ k = 4)) w V19 := FR.tr hk hs20 (by intro T k h_; first | exact h_.elim | (obtain ⟨rfl, rfl⟩ := h_; simp; done) | omega)
    exact hret V19 hH dJ2_add_2_22 (Nat.le_of_ble_eq_true rfl) (Nat.le_of_ble_eq_true rfl) (⟨_, _, _, by assumption, by assumption, AO.put p24 (fun y hy => by cases hy; exact p23), by omega, fun j q1_ q2_ => by rw [upz_n (by omega)]; exact hin_7 j q1_ (by omega), upz_s, hk⟩)
set_option maxHeartbeats 4000000 in
theorem m_J2_add_2k {E : jE} (l : Launch) (w : Wl) (a : Nat) (t : Nat) (mo : Int) (n1 : Int) (ob : Nat) (h1 : w a = some (t, .inr (10, [.int (iI mo), .ref (E.2.2.2 0), .int (iI n1)]))) (h2 : OB w ob) (h3 : n1 = 0) : Met l yJ2_add_2 (ws_ yJ2_add_2 cJ2_add_2 4 none) (rmL 6 2 110) (va_Pc [.ref a, .ref ob, .ref (E.2.2.2 0), .int (iI n1)] (jP E w)) (jQv E (fun u : Wl => u) (fun u => ∃ (b : Nat) (c2 : Nat) (g2 : Int → Option Nat), u a = some (t, .inr (10, [.int (iI mo), .ref b, .int (iI (n1 + 1))])) ∧ u b = some (t, arQ E c2 g2) ∧ (AO u g2) ∧ (n1 + 1 ≤ (c2 : Int) ∧ 1 ≤ c2 ∧ c2 ≤ 60) ∧ (g2 n1 = some ob) ∧ FR (fun T k => T = t ∧ (k = 20 ∨ k = 4)) w u)) 2 110 (jA E) := by
  refine j_metV (by decide) (Nat.le_of_ble_eq_true rfl) ?_
  intro p e s m args below meth c Q hx hb hml hown hnm hts hV hH hret ls hl
  have hl : lv_has ls 4 [(0, .ref a), (1, .ref ob), (2, .ref (E.2.2.2 0)), (3, .int (iI n1))] := hl
  have h0 := hH.1.2
  have hR0 := hH.1
  have hk : FR (fun T k => T = t ∧ (k = 20 ∨ k = 4)) w w := FR.rf
  refine lv_iload_n hx hb dJ2_add_2_0 rfl (lv_at hl 3 rfl) ?_
  refine lv_aload_n hx hb dJ2_add_2_1 rfl (lv_at hl 2 rfl) ?_
  refine j_alenK hx hb hV h0 hH dJ2_add_2_2 ?_
  refine j_icmp_ne (tgt := 11) hx hb dJ2_add_2_3 (by decide) (by omega) (by omega) (fun c3 => ?_) (fun c3 => ?_)
  · exact absurd c3 (by omega)
  · refine lv_aload_n hx hb dJ2_add_2_6 rfl (lv_at hl 0 rfl) ?_
    refine j_callq (va_runV (As := []) (rest := []) ⟨hx, hb, hml, hown, hts⟩ (m_J2_grow_k l w a t mo n1 (h1) (by omega)) (cw_J2_grow hts q484 (Nat.le_of_ble_eq_true rfl) (Nat.le_of_ble_eq_true rfl)) (j_preV hV hH h1 rfl) rfl rfl hl.1 rfl (lv_room (Nat.le_of_ble_eq_true rfl)) dJ2_add_2_7 ⟨Nat.le_of_ble_eq_true rfl, Nat.le_of_ble_eq_true rfl⟩) hH (fun z3 U1 H locs hp hH => ?_)
    obtain ⟨b4, c25, g26, hzz3, f7, f8, p9, hc_7, hs2⟩ := hp
    have p10 : OB U1 ob := OB.kp h2 hs2
    have hk : FR (fun T k => T = t ∧ (k = 20 ∨ k = 4)) w U1 := FR.tr hk hs2 (by intro T k h_; first | exact h_.elim | (obtain ⟨rfl, rfl⟩ := h_; simp; done) | omega)
    subst hzz3
    show W p l e _ s m args below meth c H locs _ _ Q (F0 m _ ls (.ref b4 :: []))
    refine lv_astore_n (lv' := [(2, .ref b4), (0, .ref a), (1, .ref ob), (3, .int (iI n1))]) hx hb dJ2_add_2_10 rfl hl (by decide) rfl (fun ls hl => ?_)
    refine lv_aload_n hx hb dJ2_add_2_11 rfl (lv_at hl 0 rfl) ?_
    refine lv_iload_n hx hb dJ2_add_2_12 rfl (lv_at hl 3 rfl) ?_
    refine lv_aload_n hx hb dJ2_add_2_13 rfl (lv_at hl 2 rfl) ?_
    refine j_aastA hx hb hV h0 hH f8 (j_anyO hV hH p10) (by omega) (by omega) dJ2_add_2_14 (fun H locs hH => ?_)
    obtain ⟨V11, eV11⟩ : ∃ V_ : Wl, V_ = up U1 b4 (t, arQ E c25 (upz g26 n1 (some ob))) := ⟨_, rfl⟩
    have hH := jH_eq hH eV11
    have hs12 : FR (fun T k => T = t ∧ k = 4) U1 V11 := by rw [eV11]; exact FR.one f8 rfl rfl
    have f13 : V11 a = some (t, .inr (10, [.int (iI mo), .ref b4, .int (iI n1)])) := hs12.at f7 (k := 20) rfl (by first | exact not_false | (intro q_; simp at q_; done) | omega)
    have p14 : OB V11 ob := OB.kp p10 hs12
    have p15 : AO V11 g26 := AO.kp p9 hs12
    have f16 : V11 b4 = some (t, arQ E c25 (upz g26 n1 (some ob))) := by rw [eV11]; exact up_s
    have hk : FR (fun T k => T = t ∧ (k = 20 ∨ k = 4)) w V11 := FR.tr hk hs12 (by intro T k h_; first | exact h_.elim | (obtain ⟨rfl, rfl⟩ := h_; simp; done) | omega)
    refine lv_aload_n hx hb dJ2_add_2_15 rfl (lv_at hl 1 rfl) ?_
    refine lv_iload_n hx hb dJ2_add_2_16 rfl (lv_at hl 3 rfl) ?_
    refine j_iconst hx hb dJ2_add_2_17 ?_
    refine j_iadd hx hb dJ2_add_2_18 ?_
    refine j_put hx hb hts hown hV hH f13 rfl in_J2 tyJ2 tyJ2_ok nmJ2 2 (Nat.le_of_ble_eq_true rfl) q183 (fun _ h => h) rfl rfl rfl (Nat.le_of_ble_eq_true rfl) dJ2_add_2_19 (fun H locs hH => ?_)
    obtain ⟨V17, eV17⟩ : ∃ V_ : Wl, V_ = up V11 a (t, .inr (10, [.int (iI mo), .ref b4, .int (iI (n1 + 1))])) := ⟨_, rfl⟩
    have hH := jH_eq hH eV17
    have hs18 : FR (fun T k => T = t ∧ k = 20) V11 V17 := by rw [eV17]; exact FR.one f13 rfl rfl
    have f19 : V17 b4 = some (t, arQ E c25 (upz g26 n1 (some ob))) := hs18.at f16 (k := 4) rfl (by first | exact not_false | (intro q_; simp at q_; done) | omega)
    have p20 : OB V17 ob := OB.kp p14 hs18
    have p21 : AO V17 g26 := AO.kp p15 hs18
    have f22 : V17 a = some (t, .inr (10, [.int (iI mo), .ref b4, .int (iI (n1 + 1))])) := by rw [eV17]; exact up_s
    have hk : FR (fun T k => T = t ∧ (k = 20 ∨ k = 4)) w V17 := FR.tr hk hs18 (by intro T k h_; first | exact h_.elim | (obtain ⟨rfl, rfl⟩ := h_; simp; done) | omega)
    exact hret V17 hH dJ2_add_2_22 (Nat.le_of_ble_eq_true rfl) (Nat.le_of_ble_eq_true rfl) (⟨_, _, _, by assumption, by assumption, AO.put p21 (fun y hy => by cases hy; exact p20), by omega, upz_s, hk⟩)
theorem AD.of {E : jE} {w : Wl} {t b c2 : Nat} {n : Int} {G : Int → Nat} {g2 : Int → Option Nat} (h : w b = some (t, arQ E c2 g2)) (hn : 0 ≤ n ∧ n ≤ 40) (hc : n ≤ (c2 : Int) ∧ 1 ≤ c2 ∧ c2 ≤ 60) (ha : AO w g2) (hg : ∀ j : Int, 0 ≤ j → j < n → g2 j = some (G j)) : AD E w t b n G := ⟨hn.1, hn.2, c2, g2, Or.inr ⟨h, hc.1, hc.2.1, hc.2.2⟩, ha, hg⟩
theorem m_J2_add_2 {E : jE} (l : Launch) (w : Wl) (a : Nat) (ar : Nat) (t : Nat) (mo : Int) (n1 : Int) (G : Int → Nat) (ob : Nat) (h1 : w a = some (t, .inr (10, [.int (iI mo), .ref ar, .int (iI n1)]))) (h2 : AD E w t ar n1 G) (h3 : OB w ob) (h4 : n1 ≤ 38) : Met l yJ2_add_2 (ws_ yJ2_add_2 cJ2_add_2 4 none) (rmL 6 2 110) (va_Pc [.ref a, .ref ob, .ref ar, .int (iI n1)] (jP E w)) (jQv E (fun u : Wl => u) (fun u => ∃ (b : Nat), u a = some (t, .inr (10, [.int (iI mo), .ref b, .int (iI (n1 + 1))])) ∧ (AD E u t b (n1 + 1) (upz G n1 ob)) ∧ FR (fun T k => T = t ∧ (k = 20 ∨ k = 4)) w u)) 2 110 (jA E) := by
  obtain ⟨hn0, hn1, cap, g, hd, ha, hg⟩ := h2
  have key : ∀ (u : Wl) (b c2 : Nat) (g2 : Int → Option Nat), u b = some (t, arQ E c2 g2) → AO u g2 → (n1 + 1 ≤ (c2 : Int) ∧ 1 ≤ c2 ∧ c2 ≤ 60) → (∀ j : Int, 0 ≤ j → j < n1 → g2 j = g j) → g2 n1 = some ob → AD E u t b (n1 + 1) (upz G n1 ob) := by
    intro u b c2 g2 k1 k2 k3 k4 k5
    refine AD.of k1 ⟨by omega, by omega⟩ k3 k2 (fun j q1 q2 => ?_)
    by_cases hj : j = n1
    · rw [hj, upz_s, k5]
    · rw [upz_n hj, k4 j q1 (by omega), hg j q1 (by omega)]
  rcases hd with ⟨e1, e2⟩ | ⟨hd, h5, h6, h7⟩
  · subst e1
    refine jQv.imp (m_J2_add_2k l w a t mo n1 ob h1 h3 e2) ?_
    rintro u ⟨b, c2, g2, k1, k2, k3, k4, k5, k6⟩
    exact ⟨b, k1, key u b c2 g2 k2 k3 k4 (fun j q1 q2 => by omega) k5, k6⟩
  · by_cases hf : n1 < (cap : Int)
    · refine jQv.imp (m_J2_add_2s l w a ar t mo n1 cap g ob h1 hd ha h3 (by omega) (by omega)) ?_
      rintro u ⟨b, c2, g2, k1, k2, k3, k4, k5, k6, k7⟩
      exact ⟨b, k1, key u b c2 g2 k2 k3 k4 k5 k6, k7⟩
    · refine jQv.imp (m_J2_add_2f l w a ar t mo n1 cap g ob h1 hd ha h3 (by omega) (by omega)) ?_
      rintro u ⟨b, c2, g2, k1, k2, k3, k4, k5, k6, k7⟩
      exact ⟨b, k1, key u b c2 g2 k2 k3 k4 k5 k6, k7⟩
theorem cw_J2_add {R : Room} {s : State} {args : Array Value} {own : String} {index lev mc ms : Nat} (hts : ∀ w ∈ lw_all, w.before args s = true) (hl : Cond.methodLink own index yJ2_add ∈ lw_all) (hR1 : (rmL lev mc ms).frames + 1 ≤ R.frames) (hR2 : 8 + (2 + 11) + (rmL lev mc ms).locals ≤ R.locals) : CallW R s args own RJ2 index yJ2_add cJ2_add 2 (some .boolean) (ws_ yJ2_add cJ2_add 2 (some .boolean)) (rmL lev mc ms) mc ms 1 :=
  cwV 1 hts (lw_V hl q477 q478 q112 q479) rfl rfl rfl (by decide +kernel) ⟨hR1, hR2⟩
set_option maxHeartbeats 4000000 in
theorem m_J2_add {E : jE} (l : Launch) (w : Wl) (a : Nat) (ar : Nat) (t : Nat) (mo : Int) (n1 : Int) (G : Int → Nat) (ob : Nat) (h1 : w a = some (t, .inr (10, [.int (iI mo), .ref ar, .int (iI n1)]))) (h2 : AD E w t ar n1 G) (h3 : OB w ob) (h4 : n1 ≤ 38) : Met l yJ2_add (ws_ yJ2_add cJ2_add 2 (some .boolean)) (rmL 7 2 110) (va_Pc [.ref a, .ref ob] (jP E w)) (jQi E (fun u : Wl => u) (fun z u => ∃ (b : Nat), z = bI True ∧ u a = some (t, .inr (10, [.int (iI (mo + 1)), .ref b, .int (iI (n1 + 1))])) ∧ (AD E u t b (n1 + 1) (upz G n1 ob)) ∧ FR (fun T k => T = t ∧ (k = 20 ∨ k = 4)) w u)) 2 110 (jA E) := by
  refine j_metZ (by decide) (Nat.le_of_ble_eq_true rfl) ?_
  intro p e s m args below meth c Q hx hb hml hown hnm hts hV hH hret ls hl
  have hl : lv_has ls 2 [(0, .ref a), (1, .ref ob)] := hl
  have h0 := hH.1.2
  have hR0 := hH.1
  have hk : FR (fun T k => T = t ∧ (k = 20 ∨ k = 4)) w w := FR.rf
  refine lv_aload_n hx hb dJ2_add_0 rfl (lv_at hl 0 rfl) ?_
  refine lv_dup hx hb dJ2_add_1 rfl ?_
  refine j_get hx hb hts hown hV hH h1 rfl in_J2 0 (Nat.le_of_ble_eq_true rfl) q189 (u_same (hts _ q186)) rfl dJ2_add_2 ?_
  refine j_iconst hx hb dJ2_add_5 ?_
  refine j_iadd hx hb dJ2_add_6 ?_
  refine j_put hx hb hts hown hV hH h1 rfl in_J2 tyJ2 tyJ2_ok nmJ2 0 (Nat.le_of_ble_eq_true rfl) q189 (u_same (hts _ q186)) rfl rfl rfl (Nat.le_of_ble_eq_true rfl) dJ2_add_7 (fun H locs hH => ?_)
  obtain ⟨V1, eV1⟩ : ∃ V_ : Wl, V_ = up w a (t, .inr (10, [.int (iI (mo + 1)), .ref ar, .int (iI n1)])) := ⟨_, rfl⟩
  have hH := jH_eq hH eV1
  have hs2 : FR (fun T k => T = t ∧ k = 20) w V1 := by rw [eV1]; exact FR.one h1 rfl rfl
  have p3 : AD E V1 t ar n1 G := AD.kp h2 hs2 (by intro T k h_; first | exact h_.elim | (obtain ⟨-, rfl⟩ := h_; simp; done) | omega)
  have p4 : OB V1 ob := OB.kp h3 hs2
  have f5 : V1 a = some (t, .inr (10, [.int (iI (mo + 1)), .ref ar, .int (iI n1)])) := by rw [eV1]; exact up_s
  have hk : FR (fun T k => T = t ∧ (k = 20 ∨ k = 4)) w V1 := FR.tr hk hs2 (by intro T k h_; first | exact h_.elim | (obtain ⟨rfl, rfl⟩ := h_; simp; done) | omega)
  refine lv_aload_n hx hb dJ2_add_10 rfl (lv_at hl 0 rfl) ?_
  refine lv_aload_n hx hb dJ2_add_11 rfl (lv_at hl 1 rfl) ?_
  refine lv_aload_n hx hb dJ2_add_12 rfl (lv_at hl 0 rfl) ?_
  refine j_get hx hb hts hown hV hH f5 rfl in_J2 1 (Nat.le_of_ble_eq_true rfl) q180 (fun _ h => h) rfl dJ2_add_13 ?_
  refine lv_aload_n hx hb dJ2_add_16 rfl (lv_at hl 0 rfl) ?_
  refine j_get hx hb hts hown hV hH f5 rfl in_J2 2 (Nat.le_of_ble_eq_true rfl) q183 (fun _ h => h) rfl dJ2_add_17 ?_
  refine j_callv (va_runV (As := [.ref ob, .ref ar, .int (iI n1)]) (rest := []) ⟨hx, hb, hml, hown, hts⟩ (m_J2_add_2 l V1 a ar t (mo + 1) n1 _ ob (f5) (p3) (p4) (by omega)) (cw_J2_add_2 hts q480 (Nat.le_of_ble_eq_true rfl) (Nat.le_of_ble_eq_true rfl)) (j_preV hV hH f5 rfl) rfl rfl hl.1 rfl (lv_room (Nat.le_of_ble_eq_true rfl)) dJ2_add_20 ⟨Nat.le_of_ble_eq_true rfl, Nat.le_of_ble_eq_true rfl⟩) hH (fun U6 H locs hp hH => ?_)
  obtain ⟨b8, f9, p10, hs7⟩ := hp
  have hk : FR (fun T k => T = t ∧ (k = 20 ∨ k = 4)) w U6 := FR.tr hk hs7 (by intro T k h_; first | exact h_.elim | (obtain ⟨rfl, rfl⟩ := h_; simp; done) | omega)
  refine j_iconst hx hb dJ2_add_23 ?_
  exact hret U6 hH dJ2_add_24 (Nat.le_of_ble_eq_true rfl) (Nat.le_of_ble_eq_true rfl) (by decide) (⟨_, bI_T.symm, by assumption, by assumption, hk⟩)
