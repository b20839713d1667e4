/-! THE SYSTEM's METHODS: java.util.ArrayList, taking out, putting in; the iterator's remove -/
set_option maxRecDepth 100000
/-- a row without the thing at i -/
def delF {α : Type} (G : Int → α) (i : Int) : Int → α := fun j => if j < i then G j else G (j + 1)
/-- a row with one thing more at i -/
def insF {α : Type} (G : Int → α) (i : Int) (x : α) : Int → α := fun j => if j < i then G j else if j = i then x else G (j - 1)
theorem AD.of' {E : jE} {w : Wl} {t b c2 : Nat} {n : Int} {G : Int → Nat} {g2 : Int → Option Nat} (h : w b = some (t, arQ E c2 g2)) (hn : 0 ≤ n ∧ n ≤ 40) (hc : n ≤ (c2 : Int) ∧ 1 ≤ c2 ∧ c2 ≤ 60) (ha : AO w g2) (hg : ∀ j : Int, 0 ≤ j → j < n → g2 j = some (G j)) : AD E w t b n G := ⟨hn.1, hn.2, c2, g2, Or.inr ⟨h, hc.1, hc.2.1, hc.2.2⟩, ha, hg⟩
theorem cw_J2_fastRemove {R : Room} {s : State} {args : Array Value} {own : String} {index lev mc ms : Nat} (hts : ∀ w ∈ lw_all, w.before args s = true) (hl : Cond.methodLink own index yJ2_fastRemove ∈ lw_all) (hR1 : (rmL lev mc ms).frames + 1 ≤ R.frames) (hR2 : 8 + (4 + 11) + (rmL lev mc ms).locals ≤ R.locals) : CallW R s args own RJ2 index yJ2_fastRemove cJ2_fastRemove 4 none (ws_ yJ2_fastRemove cJ2_fastRemove 4 none) (rmL lev mc ms) mc ms 2 :=
  cwV 2 hts (lw_V hl q1481 qs24 q112 q1482) rfl rfl rfl (by decide +kernel) ⟨hR1, hR2⟩
set_option maxHeartbeats 4000000 in
theorem m_J2_fastRemove {E : jE} (l : Launch) (w : Wl) (a : Nat) (ar : Nat) (t : Nat) (mo : Int) (n1 : Int) (cap : Nat) (g : Int → Option Nat) (i1 : Int) (h1 : w a = some (t, .inr (10, [.int (iI mo), .ref ar, .int (iI n1)]))) (h2 : w ar = some (t, arQ E cap g)) (h3 : AO w g) (h4 : 0 ≤ i1 ∧ i1 < n1) (h5 : n1 ≤ (cap : Int) ∧ (cap : Int) ≤ 60) : Met l yJ2_fastRemove (ws_ yJ2_fastRemove cJ2_fastRemove 4 none) (rmL 1 0 0) (va_Pc [.ref a, .ref ar, .int (iI i1)] (jP E w)) (jQv E (fun u : Wl => u) (fun u => ∃ (g2 : Int → Option Nat), u a = some (t, .inr (10, [.int (iI (mo + 1)), .ref ar, .int (iI (n1 - 1))])) ∧ u ar = some (t, arQ E cap g2) ∧ (AO u g2) ∧ (∀ j : Int, 0 ≤ j → j < n1 - 1 → g2 j = delF g i1 j) ∧ FR (fun T k => T = t ∧ (k = 20 ∨ k = 4)) w u)) 0 0 (jA E) := by
  refine j_metV (by decide) (Nat.le_of_ble_eq_true rfl) ?_
  intro p e s m args below meth c Q hx hb hml hown hnm hts hV hH hret ls hl
  have hl : lv_has ls 4 [(0, .ref a), (1, .ref ar), (2, .int (iI i1))] := hl
  have h0 := hH.1.2
  have hR0 := hH.1
  have hk : FR (fun T k => T = t ∧ (k = 20 ∨ k = 4)) w w := FR.rf
  refine lv_aload_n hx hb dJ2_fastRemove_0 rfl (lv_at hl 0 rfl) ?_
  refine lv_dup hx hb dJ2_fastRemove_1 rfl ?_
  refine j_get hx hb hts hown hV hH h1 rfl in_J2 0 (Nat.le_of_ble_eq_true rfl) q189 (u_same (hts _ q186)) rfl dJ2_fastRemove_2 ?_
  refine j_iconst hx hb dJ2_fastRemove_5 ?_
  refine j_iadd hx hb dJ2_fastRemove_6 ?_
  refine j_put hx hb hts hown hV hH h1 rfl in_J2 tyJ2 tyJ2_ok nmJ2 0 (Nat.le_of_ble_eq_true rfl) q189 (u_same (hts _ q186)) rfl rfl rfl (Nat.le_of_ble_eq_true rfl) dJ2_fastRemove_7 (fun H locs hH => ?_)
  obtain ⟨V1, eV1⟩ : ∃ V_ : Wl, V_ = up w a (t, .inr (10, [.int (iI (mo + 1)), .ref ar, .int (iI n1)])) := ⟨_, rfl⟩
  have hH := jH_eq hH eV1
  have hs2 : FR (fun T k => T = t ∧ k = 20) w V1 := by rw [eV1]; exact FR.one h1 rfl rfl
  have f3 : V1 ar = some (t, arQ E cap g) := hs2.at h2 (k := 4) rfl (by first | exact not_false | (intro q_; simp at q_; done) | omega)
  have p4 : AO V1 g := AO.kp h3 hs2
  have f5 : V1 a = some (t, .inr (10, [.int (iI (mo + 1)), .ref ar, .int (iI n1)])) := by rw [eV1]; exact up_s
  have hk : FR (fun T k => T = t ∧ (k = 20 ∨ k = 4)) w V1 := FR.tr hk hs2 (by intro T k h_; first | exact h_.elim | (obtain ⟨rfl, rfl⟩ := h_; simp; done) | omega)
  refine lv_aload_n hx hb dJ2_fastRemove_10 rfl (lv_at hl 0 rfl) ?_
  refine j_get hx hb hts hown hV hH f5 rfl in_J2 2 (Nat.le_of_ble_eq_true rfl) q183 (fun _ h => h) rfl dJ2_fastRemove_11 ?_
  refine j_iconst hx hb dJ2_fastRemove_14 ?_
  refine j_isub hx hb dJ2_fastRemove_15 ?_
  refine lv_dup hx hb dJ2_fastRemove_16 rfl ?_
  refine j_istore_n (lv' := fun x6 => [(3, .int (iI x6)), (0, .ref a), (1, .ref ar), (2, .int (iI i1))]) hx hb dJ2_fastRemove_17 rfl hl (by decide) (fun _ => rfl) (fun x6 ex6 ls hl => ?_)
  refine lv_iload_n hx hb dJ2_fastRemove_18 rfl (lv_at hl 3 rfl) ?_
  refine j_icmp_le (tgt := 34) hx hb dJ2_fastRemove_19 (by decide) (by omega) (by omega) (fun c19 => ?_) (fun c19 => ?_)
  · refine lv_aload_n hx hb dJ2_fastRemove_34 rfl (lv_at hl 2 rfl) ?_
    refine lv_aload_n hx hb dJ2_fastRemove_35 rfl (lv_at hl 1 rfl) ?_
    refine lv_iload_n hx hb dJ2_fastRemove_36 rfl (lv_at hl 0 rfl) ?_
    refine lv_dup_x1 hx hb dJ2_fastRemove_37 rfl rfl ?_
    refine j_put hx hb hts hown hV hH f5 rfl in_J2 tyJ2 tyJ2_ok nmJ2 2 (Nat.le_of_ble_eq_true rfl) q183 (fun _ h => h) rfl rfl rfl (Nat.le_of_ble_eq_true rfl) dJ2_fastRemove_38 (fun H locs hH => ?_)
    obtain ⟨V7, eV7⟩ : ∃ V_ : Wl, V_ = up V1 a (t, .inr (10, [.int (iI (mo + 1)), .ref ar, .int (iI x6)])) := ⟨_, rfl⟩
    have hH := jH_eq hH eV7
    have hs8 : FR (fun T k => T = t ∧ k = 20) V1 V7 := by rw [eV7]; exact FR.one f5 rfl rfl
    have f9 : V7 ar = some (t, arQ E cap g) := hs8.at f3 (k := 4) rfl (by first | exact not_false | (intro q_; simp at q_; done) | omega)
    have p10 : AO V7 g := AO.kp p4 hs8
    have f11 : V7 a = some (t, .inr (10, [.int (iI (mo + 1)), .ref ar, .int (iI x6)])) := by rw [eV7]; exact up_s
    have hk : FR (fun T k => T = t ∧ (k = 20 ∨ k = 4)) w V7 := FR.tr hk hs8 (by intro T k h_; first | exact h_.elim | (obtain ⟨rfl, rfl⟩ := h_; simp; done) | omega)
    refine lv_null hx hb dJ2_fastRemove_41 ?_
    refine j_aastN hx hb hV h0 hH f9 (by omega) (by omega) dJ2_fastRemove_42 (fun H locs hH => ?_)
    obtain ⟨V12, eV12⟩ : ∃ V_ : Wl, V_ = up V7 ar (t, arQ E cap (upz g x6 none)) := ⟨_, rfl⟩
    have hH := jH_eq hH eV12
    have hs13 : FR (fun T k => T = t ∧ k = 4) V7 V12 := by rw [eV12]; exact FR.one f9 rfl rfl
    have f14 : V12 a = some (t, .inr (10, [.int (iI (mo + 1)), .ref ar, .int (iI x6)])) := hs13.at f11 (k := 20) rfl (by first | exact not_false | (intro q_; simp at q_; done) | omega)
    have p15 : AO V12 g := AO.kp p10 hs13
    have f16 : V12 ar = some (t, arQ E cap (upz g x6 none)) := by rw [eV12]; exact up_s
    have hk : FR (fun T k => T = t ∧ (k = 20 ∨ k = 4)) w V12 := FR.tr hk hs13 (by intro T k h_; first | exact h_.elim | (obtain ⟨rfl, rfl⟩ := h_; simp; done) | omega)
    exact hret V12 hH dJ2_fastRemove_43 (Nat.le_of_ble_eq_true rfl) (Nat.le_of_ble_eq_true rfl) (⟨_, by assumption, by assumption, AO.put p15 (fun y hy => by cases hy), fun j q1_ q2_ => by unfold delF; rw [upz_n (by omega)]; first | (rw [if_pos (by omega)]; done) | (by_cases q3_ : j < i1; (rw [if_pos q3_, cpz_out (by omega)]); (rw [if_neg q3_, cpz_in (by omega)]; exact congrArg g (by omega))), hk⟩)
  · refine lv_aload_n hx hb dJ2_fastRemove_22 rfl (lv_at hl 2 rfl) ?_
    refine lv_iload_n hx hb dJ2_fastRemove_23 rfl (lv_at hl 3 rfl) ?_
    refine j_iconst hx hb dJ2_fastRemove_24 ?_
    refine j_iadd hx hb dJ2_fastRemove_25 ?_
    refine lv_aload_n hx hb dJ2_fastRemove_26 rfl (lv_at hl 2 rfl) ?_
    refine lv_iload_n hx hb dJ2_fastRemove_27 rfl (lv_at hl 3 rfl) ?_
    refine lv_iload_n hx hb dJ2_fastRemove_28 rfl (lv_at hl 0 rfl) ?_
    refine lv_iload_n hx hb dJ2_fastRemove_29 rfl (lv_at hl 3 rfl) ?_
    refine j_isub hx hb dJ2_fastRemove_30 ?_
    refine j_copyq hx hb (hml.trans hl.1.symm) hts hown hV h0 hH q1483 q544 q543 q124 f3 f3 (by omega) (by omega) (by omega) (by omega) (by omega) (fun j _ _ y hy => j_anyO hV hH (p4 j y hy)) (Nat.le_of_ble_eq_true rfl) (Nat.le_of_ble_eq_true rfl) dJ2_fastRemove_31 (fun H locs hH => ?_)
    obtain ⟨V17, eV17⟩ : ∃ V_ : Wl, V_ = up V1 ar (t, arQ E cap (cpz g g (i1 + 1) i1 (x6 - i1))) := ⟨_, rfl⟩
    have hH := jH_eq hH eV17
    have hs18 : FR (fun T k => T = t ∧ k = 4) V1 V17 := by rw [eV17]; exact FR.one f3 rfl rfl
    have f19 : V17 a = some (t, .inr (10, [.int (iI (mo + 1)), .ref ar, .int (iI n1)])) := hs18.at f5 (k := 20) rfl (by first | exact not_false | (intro q_; simp at q_; done) | omega)
    have p20 : AO V17 (cpz g g (i1 + 1) i1 (x6 - i1)) := AO.cpy (AO.kp p4 hs18) (AO.kp p4 hs18)
    have f21 : V17 ar = some (t, arQ E cap (cpz g g (i1 + 1) i1 (x6 - i1))) := by rw [eV17]; exact up_s
    have hk : FR (fun T k => T = t ∧ (k = 20 ∨ k = 4)) w V17 := FR.tr hk hs18 (by intro T k h_; first | exact h_.elim | (obtain ⟨rfl, rfl⟩ := h_; simp; done) | omega)
    refine lv_aload_n hx hb dJ2_fastRemove_34 rfl (lv_at hl 2 rfl) ?_
    refine lv_aload_n hx hb dJ2_fastRemove_35 rfl (lv_at hl 1 rfl) ?_
    refine lv_iload_n hx hb dJ2_fastRemove_36 rfl (lv_at hl 0 rfl) ?_
    refine lv_dup_x1 hx hb dJ2_fastRemove_37 rfl rfl ?_
    refine j_put hx hb hts hown hV hH f19 rfl in_J2 tyJ2 tyJ2_ok nmJ2 2 (Nat.le_of_ble_eq_true rfl) q183 (fun _ h => h) rfl rfl rfl (Nat.le_of_ble_eq_true rfl) dJ2_fastRemove_38 (fun H locs hH => ?_)
    obtain ⟨V22, eV22⟩ : ∃ V_ : Wl, V_ = up V17 a (t, .inr (10, [.int (iI (mo + 1)), .ref ar, .int (iI x6)])) := ⟨_, rfl⟩
    have hH := jH_eq hH eV22
    have hs23 : FR (fun T k => T = t ∧ k = 20) V17 V22 := by rw [eV22]; exact FR.one f19 rfl rfl
    have f24 : V22 ar = some (t, arQ E cap (cpz g g (i1 + 1) i1 (x6 - i1))) := hs23.at f21 (k := 4) rfl (by first | exact not_false | (intro q_; simp at q_; done) | omega)
    have p25 : AO V22 (cpz g g (i1 + 1) i1 (x6 - i1)) := AO.kp p20 hs23
    have f26 : V22 a = some (t, .inr (10, [.int (iI (mo + 1)), .ref ar, .int (iI x6)])) := by rw [eV22]; exact up_s
    have hk : FR (fun T k => T = t ∧ (k = 20 ∨ k = 4)) w V22 := FR.tr hk hs23 (by intro T k h_; first | exact h_.elim | (obtain ⟨rfl, rfl⟩ := h_; simp; done) | omega)
    refine lv_null hx hb dJ2_fastRemove_41 ?_
    refine j_aastN hx hb hV h0 hH f24 (by omega) (by omega) dJ2_fastRemove_42 (fun H locs hH => ?_)
    obtain ⟨V27, eV27⟩ : ∃ V_ : Wl, V_ = up V22 ar (t, arQ E cap (upz (cpz g g (i1 + 1) i1 (x6 - i1)) x6 none)) := ⟨_, rfl⟩
    have hH := jH_eq hH eV27
    have hs28 : FR (fun T k => T = t ∧ k = 4) V22 V27 := by rw [eV27]; exact FR.one f24 rfl rfl
    have f29 : V27 a = some (t, .inr (10, [.int (iI (mo + 1)), .ref ar, .int (iI x6)])) := hs28.at f26 (k := 20) rfl (by first | exact not_false | (intro q_; simp at q_; done) | omega)
    have p30 : AO V27 (cpz g g (i1 + 1) i1 (x6 - i1)) := AO.kp p25 hs28
    have f31 : V27 ar = some (t, arQ E cap (upz (cpz g g (i1 + 1) i1 (x6 - i1)) x6 none)) := by rw [eV27]; exact up_s
    have hk : FR (fun T k => T = t ∧ (k = 20 ∨ k = 4)) w V27 := FR.tr hk hs28 (by intro T k h_; first | exact h_.elim | (obtain ⟨rfl, rfl⟩ := h_; simp; done) | omega)
    exact hret V27 hH dJ2_fastRemove_43 (Nat.le_of_ble_eq_true rfl) (Nat.le_of_ble_eq_true rfl) (⟨_, by assumption, by assumption, AO.put p30 (fun y hy => by cases hy), fun j q1_ q2_ => by unfold delF; rw [upz_n (by omega)]; first | (rw [if_pos (by omega)]; done) | (by_cases q3_ : j < i1; (rw [if_pos q3_, cpz_out (by omega)]); (rw [if_neg q3_, cpz_in (by omega)]; exact congrArg g (by omega))), hk⟩)
theorem cw_J2_remove {R : Room} {s : State} {args : Array Value} {own : String} {index lev mc ms : Nat} (hts : ∀ w ∈ lw_all, w.before args s = true) (hl : Cond.methodLink own index yJ2_remove ∈ lw_all) (hR1 : (rmL lev mc ms).frames + 1 ≤ R.frames) (hR2 : 8 + (4 + 11) + (rmL lev mc ms).locals ≤ R.locals) : CallW R s args own RJ2 index yJ2_remove cJ2_remove 4 (some (.object "java/lang/Object")) (ws_ yJ2_remove cJ2_remove 4 (some (.object "java/lang/Object"))) (rmL lev mc ms) mc ms 1 :=
  cwV 1 hts (lw_V hl q1476 q1477 q112 q1478) rfl rfl rfl (by decide +kernel) ⟨hR1, hR2⟩
set_option maxHeartbeats 4000000 in
theorem m_J2_remove {E : jE} (l : Launch) (w : Wl) (a : Nat) (ar : Nat) (t : Nat) (mo : Int) (n1 : Int) (G : Int → Nat) (i1 : Int) (h1 : w a = some (t, .inr (10, [.int (iI mo), .ref ar, .int (iI n1)]))) (h2 : AD E w t ar n1 G) (h3 : 0 ≤ i1 ∧ i1 < n1) : Met l yJ2_remove (ws_ yJ2_remove cJ2_remove 4 (some (.object "java/lang/Object"))) (rmL 3 0 0) (va_Pc [.ref a, .int (iI i1)] (jP E w)) (jQq E (fun u : Wl => u) (fun z u => z = some (G i1) ∧ u a = some (t, .inr (10, [.int (iI (mo + 1)), .ref ar, .int (iI (n1 - 1))])) ∧ (AD E u t ar (n1 - 1) (delF G i1)) ∧ FR (fun T k => T = t ∧ (k = 20 ∨ k = 4)) w u)) 0 0 (jA E) := by
  refine j_metQ (by decide) (Nat.le_of_ble_eq_true rfl) (Or.inl ⟨_, rfl⟩) ?_
  intro p e s m args below meth c Q hx hb hml hown hnm hts hV hH hret ls hl
  have hl : lv_has ls 4 [(0, .ref a), (1, .int (iI i1))] := hl
  have h0 := hH.1.2
  have hR0 := hH.1
  have hk : FR (fun T k => T = t ∧ (k = 20 ∨ k = 4)) w w := FR.rf
  have hn40 := h2.2.1
  obtain ⟨cap, g, hgar, hgn, hg0, hg60, hgo, hgg⟩ := h2.real (by omega)
  have f1 : w ar = some (t, arQ E cap g) := hgar
  have p2 : AO w g := hgo
  refine lv_iload_n hx hb dJ2_remove_0 rfl (lv_at hl 1 rfl) ?_
  refine lv_aload_n hx hb dJ2_remove_1 rfl (lv_at hl 0 rfl) ?_
  refine j_get hx hb hts hown hV hH h1 rfl in_J2 2 (Nat.le_of_ble_eq_true rfl) q183 (fun _ h => h) rfl dJ2_remove_2 ?_
  refine j_callip (va_runS (As := [.int (iI i1), .int (iI n1)]) (rest := []) ⟨hx, hb, hml, hown, hts⟩ (m_J17_checkIndex l _ i1 n1 (by omega) (by omega)) (cw_J17_checkIndex hts q366 (Nat.le_of_ble_eq_true rfl) (Nat.le_of_ble_eq_true rfl)) (j_preS hV hH) rfl rfl hl.1 rfl (lv_room (Nat.le_of_ble_eq_true rfl)) dJ2_remove_5 ⟨Nat.le_of_ble_eq_true rfl, Nat.le_of_ble_eq_true rfl⟩) hH (fun H locs hH => ?_)
  refine lv_pop hx hb dJ2_remove_8 rfl ?_
  refine lv_aload_n hx hb dJ2_remove_9 rfl (lv_at hl 0 rfl) ?_
  refine j_get hx hb hts hown hV hH h1 rfl in_J2 1 (Nat.le_of_ble_eq_true rfl) q180 (fun _ h => h) rfl dJ2_remove_10 ?_
  refine lv_astore_n (lv' := [(2, .ref ar), (0, .ref a), (1, .int (iI i1))]) hx hb dJ2_remove_13 rfl hl (by decide) rfl (fun ls hl => ?_)
  refine lv_aload_n hx hb dJ2_remove_14 rfl (lv_at hl 0 rfl) ?_
  refine lv_iload_n hx hb dJ2_remove_15 rfl (lv_at hl 2 rfl) ?_
  refine j_aald hx hb hV hH f1 (by omega) (by omega) dJ2_remove_16 ?_
  rw [show g i1 = some (G i1) from hgg i1 (by omega) (by omega)]
  refine lv_astore_n (lv' := [(3, .ref (G i1)), (2, .ref ar), (0, .ref a), (1, .int (iI i1))]) hx hb dJ2_remove_17 rfl hl (by decide) rfl (fun ls hl => ?_)
  refine lv_aload_n hx hb dJ2_remove_18 rfl (lv_at hl 2 rfl) ?_
  refine lv_aload_n hx hb dJ2_remove_19 rfl (lv_at hl 1 rfl) ?_
  refine lv_iload_n hx hb dJ2_remove_20 rfl (lv_at hl 3 rfl) ?_
  refine j_callv (va_runV (As := [.ref ar, .int (iI i1)]) (rest := []) ⟨hx, hb, hml, hown, hts⟩ (m_J2_fastRemove l w a ar t mo n1 cap g i1 (h1) (f1) (p2) (by omega) (by omega)) (cw_J2_fastRemove hts q1479 (Nat.le_of_ble_eq_true rfl) (Nat.le_of_ble_eq_true rfl)) (j_preV hV hH h1 rfl) rfl rfl hl.1 rfl (lv_room (Nat.le_of_ble_eq_true rfl)) dJ2_remove_21 ⟨Nat.le_of_ble_eq_true rfl, Nat.le_of_ble_eq_true rfl⟩) hH (fun U3 H locs hp hH => ?_)
  obtain ⟨g25, f6, f7, p8, hin_21, hs4⟩ := hp
  have hk : FR (fun T k => T = t ∧ (k = 20 ∨ k = 4)) w U3 := FR.tr hk hs4 (by intro T k h_; first | exact h_.elim | (obtain ⟨rfl, rfl⟩ := h_; simp; done) | omega)
  refine lv_aload_n hx hb dJ2_remove_24 rfl (lv_at hl 0 rfl) ?_
  exact hret (some (G i1)) U3 hH dJ2_remove_25 (Nat.le_of_ble_eq_true rfl) (Nat.le_of_ble_eq_true rfl) (⟨by first | rfl | omega, by assumption, AD.of' f7 (by omega) (by omega) p8 (fun j q1_ q2_ => by rw [hin_21 j q1_ q2_]; unfold delF; split; exact hgg j (by omega) (by omega); exact hgg (j + 1) (by omega) (by omega)), hk⟩)
theorem cw_J2_rangeCheckForAdd {R : Room} {s : State} {args : Array Value} {own : String} {index lev mc ms : Nat} (hts : ∀ w ∈ lw_all, w.before args s = true) (hl : Cond.methodLink own index yJ2_rangeCheckForAdd ∈ lw_all) (hR1 : (rmL lev mc ms).frames + 1 ≤ R.frames) (hR2 : 8 + (2 + 11) + (rmL lev mc ms).locals ≤ R.locals) : CallW R s args own RJ2 index yJ2_rangeCheckForAdd cJ2_rangeCheckForAdd 2 none (ws_ yJ2_rangeCheckForAdd cJ2_rangeCheckForAdd 2 none) (rmL lev mc ms) mc ms 1 :=
  cwV 1 hts (lw_V hl q1786 qs29 q112 q1787) rfl rfl rfl (by decide +kernel) ⟨hR1, hR2⟩
set_option maxHeartbeats 4000000 in
theorem m_J2_rangeCheckForAdd {E : jE} (l : Launch) (w : Wl) (a : Nat) (ar : Nat) (t : Nat) (mo : Int) (n1 : Int) (i1 : Int) (h1 : w a = some (t, .inr (10, [.int (iI mo), .ref ar, .int (iI n1)]))) (h2 : 0 ≤ i1 ∧ i1 ≤ n1) (h3 : n1 ≤ 1000) : Met l yJ2_rangeCheckForAdd (ws_ yJ2_rangeCheckForAdd cJ2_rangeCheckForAdd 2 none) (rmL 1 0 0) (va_Pc [.ref a, .int (iI i1)] (jP E w)) (jQv E (fun _ : Unit => w) (fun _ => True)) 0 0 (jA E) := by
  refine j_metV (by decide) (Nat.le_of_ble_eq_true rfl) ?_
  intro p e s m args below meth c Q hx hb hml hown hnm hts hV hH hret ls hl
  have hl : lv_has ls 2 [(0, .ref a), (1, .int (iI i1))] := hl
  have h0 := hH.1.2
  refine lv_iload_n hx hb dJ2_rangeCheckForAdd_0 rfl (lv_at hl 1 rfl) ?_
  refine lv_aload_n hx hb dJ2_rangeCheckForAdd_1 rfl (lv_at hl 0 rfl) ?_
  refine j_get hx hb hts hown hV hH h1 rfl in_J2 2 (Nat.le_of_ble_eq_true rfl) q183 (fun _ h => h) rfl dJ2_rangeCheckForAdd_2 ?_
  refine j_icmp_gt (tgt := 12) hx hb dJ2_rangeCheckForAdd_5 (by decide) (by omega) (by omega) (fun c5 => ?_) (fun c5 => ?_)
  · exact absurd c5 (by omega)
  · refine lv_iload_n hx hb dJ2_rangeCheckForAdd_8 rfl (lv_at hl 1 rfl) ?_
    refine j_if_ge (tgt := 25) hx hb dJ2_rangeCheckForAdd_9 (by decide) (by omega) (fun c9 => ?_) (fun c9 => ?_)
    · exact hret () hH dJ2_rangeCheckForAdd_25 (Nat.le_of_ble_eq_true rfl) (Nat.le_of_ble_eq_true rfl) trivial
    · exact absurd c9 (by omega)
theorem cw_J2_add_3 {R : Room} {s : State} {args : Array Value} {own : String} {index lev mc ms : Nat} (hts : ∀ w ∈ lw_all, w.before args s = true) (hl : Cond.methodLink own index yJ2_add_3 ∈ lw_all) (hR1 : (rmL lev mc ms).frames + 1 ≤ R.frames) (hR2 : 8 + (5 + 11) + (rmL lev mc ms).locals ≤ R.locals) : CallW R s args own RJ2 index yJ2_add_3 cJ2_add_3 5 none (ws_ yJ2_add_3 cJ2_add_3 5 none) (rmL lev mc ms) mc ms 2 :=
  cwV 2 hts (lw_V hl q1781 q1782 q112 q1783) rfl rfl rfl (by decide +kernel) ⟨hR1, hR2⟩
set_option maxHeartbeats 4000000 in
theorem m_J2_add_3s {E : jE} (l : Launch) (w : Wl) (a : Nat) (ar : Nat) (t : Nat) (mo : Int) (n1 : Int) (cap : Nat) (g : Int → Option Nat) (i1 : Int) (ob : Nat) (h1 : w a = some (t, .inr (10, [.int (iI mo), .ref ar, .int (iI n1)]))) (h2 : w ar = some (t, arQ E cap g)) (h3 : AO w g) (h4 : OB w ob) (h5 : 0 ≤ i1 ∧ i1 ≤ n1) (h6 : n1 < (cap : Int) ∧ (cap : Int) ≤ 60) : Met l yJ2_add_3 (ws_ yJ2_add_3 cJ2_add_3 5 none) (rmL 7 2 110) (va_Pc [.ref a, .int (iI i1), .ref ob] (jP E w)) (jQv E (fun u : Wl => u) (fun u => ∃ (b : Nat) (c2 : Nat) (g2 : Int → Option Nat), u a = some (t, .inr (10, [.int (iI (mo + 1)), .ref b, .int (iI (n1 + 1))])) ∧ u b = some (t, arQ E c2 g2) ∧ (AO u g2) ∧ (n1 + 1 ≤ (c2 : Int) ∧ 1 ≤ c2 ∧ c2 ≤ 60) ∧ (∀ j : Int, 0 ≤ j → j < n1 + 1 → g2 j = insF g i1 (some ob) j) ∧ FR (fun T k => T = t ∧ (k = 20 ∨ k = 4)) w u)) 2 110 (jA E) := by
  refine j_metV (by decide) (Nat.le_of_ble_eq_true rfl) ?_
  intro p e s m args below meth c Q hx hb hml hown hnm hts hV hH hret ls hl
  have hl : lv_has ls 5 [(0, .ref a), (1, .int (iI i1)), (2, .ref ob)] := hl
  have h0 := hH.1.2
  have hR0 := hH.1
  have hk : FR (fun T k => T = t ∧ (k = 20 ∨ k = 4)) w w := FR.rf
  refine lv_aload_n hx hb dJ2_add_3_0 rfl (lv_at hl 0 rfl) ?_
  refine lv_iload_n hx hb dJ2_add_3_1 rfl (lv_at hl 1 rfl) ?_
  refine j_callvp (va_runV (As := [.int (iI i1)]) (rest := []) ⟨hx, hb, hml, hown, hts⟩ (m_J2_rangeCheckForAdd l _ a ar t mo n1 i1 (h1) (by omega) (by omega)) (cw_J2_rangeCheckForAdd hts q1784 (Nat.le_of_ble_eq_true rfl) (Nat.le_of_ble_eq_true rfl)) (j_preV hV hH h1 rfl) rfl rfl hl.1 rfl (lv_room (Nat.le_of_ble_eq_true rfl)) dJ2_add_3_2 ⟨Nat.le_of_ble_eq_true rfl, Nat.le_of_ble_eq_true rfl⟩) hH (fun H locs hH => ?_)
  refine lv_aload_n hx hb dJ2_add_3_5 rfl (lv_at hl 0 rfl) ?_
  refine lv_dup hx hb dJ2_add_3_6 rfl ?_
  refine j_get hx hb hts hown hV hH h1 rfl in_J2 0 (Nat.le_of_ble_eq_true rfl) q189 (u_same (hts _ q186)) rfl dJ2_add_3_7 ?_
  refine j_iconst hx hb dJ2_add_3_10 ?_
  refine j_iadd hx hb dJ2_add_3_11 ?_
  refine j_put hx hb hts hown hV hH h1 rfl in_J2 tyJ2 tyJ2_ok nmJ2 0 (Nat.le_of_ble_eq_true rfl) q189 (u_same (hts _ q186)) rfl rfl rfl (Nat.le_of_ble_eq_true rfl) dJ2_add_3_12 (fun H locs hH => ?_)
  obtain ⟨V1, eV1⟩ : ∃ V_ : Wl, V_ = up w a (t, .inr (10, [.int (iI (mo + 1)), .ref ar, .int (iI n1)])) := ⟨_, rfl⟩
  have hH := jH_eq hH eV1
  have hs2 : FR (fun T k => T = t ∧ k = 20) w V1 := by rw [eV1]; exact FR.one h1 rfl rfl
  have f3 : V1 ar = some (t, arQ E cap g) := hs2.at h2 (k := 4) rfl (by first | exact not_false | (intro q_; simp at q_; done) | omega)
  have p4 : AO V1 g := AO.kp h3 hs2
  have p5 : OB V1 ob := OB.kp h4 hs2
  have f6 : V1 a = some (t, .inr (10, [.int (iI (mo + 1)), .ref ar, .int (iI n1)])) := by rw [eV1]; exact up_s
  have hk : FR (fun T k => T = t ∧ (k = 20 ∨ k = 4)) w V1 := FR.tr hk hs2 (by intro T k h_; first | exact h_.elim | (obtain ⟨rfl, rfl⟩ := h_; simp; done) | omega)
  refine lv_aload_n hx hb dJ2_add_3_15 rfl (lv_at hl 0 rfl) ?_
  refine j_get hx hb hts hown hV hH f6 rfl in_J2 2 (Nat.le_of_ble_eq_true rfl) q183 (fun _ h => h) rfl dJ2_add_3_16 ?_
  refine lv_dup hx hb dJ2_add_3_19 rfl ?_
  refine j_istore_n (lv' := fun x7 => [(3, .int (iI x7)), (0, .ref a), (1, .int (iI i1)), (2, .ref ob)]) hx hb dJ2_add_3_20 rfl hl (by decide) (fun _ => rfl) (fun x7 ex7 ls hl => ?_)
  refine lv_aload_n hx hb dJ2_add_3_21 rfl (lv_at hl 1 rfl) ?_
  refine j_get hx hb hts hown hV hH f6 rfl in_J2 1 (Nat.le_of_ble_eq_true rfl) q180 (fun _ h => h) rfl dJ2_add_3_22 ?_
  refine lv_dup hx hb dJ2_add_3_25 rfl ?_
  refine lv_astore (lv' := [(4, .ref ar), (3, .int (iI x7)), (0, .ref a), (1, .int (iI i1)), (2, .ref ob)]) hx hb dJ2_add_3_26 hl (by decide) rfl (fun ls hl => ?_)
  refine j_alen (t0 := 3) hx hb hV hH f3 rfl dJ2_add_3_28 ?_
  refine j_top (b := ((cap : Nat) : Int)) rfl ?_
  refine j_icmp_ne (tgt := 38) hx hb dJ2_add_3_29 (by decide) (by omega) (by omega) (fun c29 => ?_) (fun c29 => ?_)
  · refine lv_aload hx hb dJ2_add_3_38 (lv_at hl 0 rfl) ?_
    refine lv_iload_n hx hb dJ2_add_3_40 rfl (lv_at hl 3 rfl) ?_
    refine lv_aload hx hb dJ2_add_3_41 (lv_at hl 0 rfl) ?_
    refine lv_iload_n hx hb dJ2_add_3_43 rfl (lv_at hl 3 rfl) ?_
    refine j_iconst hx hb dJ2_add_3_44 ?_
    refine j_iadd hx hb dJ2_add_3_45 ?_
    refine lv_iload_n hx hb dJ2_add_3_46 rfl (lv_at hl 1 rfl) ?_
    refine lv_iload_n hx hb dJ2_add_3_47 rfl (lv_at hl 3 rfl) ?_
    refine j_isub hx hb dJ2_add_3_48 ?_
    refine j_copyq hx hb (hml.trans hl.1.symm) hts hown hV h0 hH q1483 q544 q543 q124 f3 f3 (by omega) (by omega) (by omega) (by omega) (by omega) (fun j _ _ y hy => j_anyO hV hH (p4 j y hy)) (Nat.le_of_ble_eq_true rfl) (Nat.le_of_ble_eq_true rfl) dJ2_add_3_49 (fun H locs hH => ?_)
    obtain ⟨V8, eV8⟩ : ∃ V_ : Wl, V_ = up V1 ar (t, arQ E cap (cpz g g i1 (i1 + 1) (x7 - i1))) := ⟨_, rfl⟩
    have hH := jH_eq hH eV8
    have hs9 : FR (fun T k => T = t ∧ k = 4) V1 V8 := by rw [eV8]; exact FR.one f3 rfl rfl
    have f10 : V8 a = some (t, .inr (10, [.int (iI (mo + 1)), .ref ar, .int (iI n1)])) := hs9.at f6 (k := 20) rfl (by first | exact not_false | (intro q_; simp at q_; done) | omega)
    have p11 : AO V8 (cpz g g i1 (i1 + 1) (x7 - i1)) := AO.cpy (AO.kp p4 hs9) (AO.kp p4 hs9)
    have p12 : OB V8 ob := OB.kp p5 hs9
    have f13 : V8 ar = some (t, arQ E cap (cpz g g i1 (i1 + 1) (x7 - i1))) := by rw [eV8]; exact up_s
    have hk : FR (fun T k => T = t ∧ (k = 20 ∨ k = 4)) w V8 := FR.tr hk hs9 (by intro T k h_; first | exact h_.elim | (obtain ⟨rfl, rfl⟩ := h_; simp; done) | omega)
    refine lv_aload hx hb dJ2_add_3_52 (lv_at hl 0 rfl) ?_
    refine lv_iload_n hx hb dJ2_add_3_54 rfl (lv_at hl 3 rfl) ?_
    refine lv_aload_n hx hb dJ2_add_3_55 rfl (lv_at hl 4 rfl) ?_
    refine j_aastA hx hb hV h0 hH f13 (j_anyO hV hH p12) (by omega) (by omega) dJ2_add_3_56 (fun H locs hH => ?_)
    obtain ⟨V14, eV14⟩ : ∃ V_ : Wl, V_ = up V8 ar (t, arQ E cap (upz (cpz g g i1 (i1 + 1) (x7 - i1)) i1 (some ob))) := ⟨_, rfl⟩
    have hH := jH_eq hH eV14
    have hs15 : FR (fun T k => T = t ∧ k = 4) V8 V14 := by rw [eV14]; exact FR.one f13 rfl rfl
    have f16 : V14 a = some (t, .inr (10, [.int (iI (mo + 1)), .ref ar, .int (iI n1)])) := hs15.at f10 (k := 20) rfl (by first | exact not_false | (intro q_; simp at q_; done) | omega)
    have p17 : AO V14 (cpz g g i1 (i1 + 1) (x7 - i1)) := AO.kp p11 hs15
    have p18 : OB V14 ob := OB.kp p12 hs15
    have f19 : V14 ar = some (t, arQ E cap (upz (cpz g g i1 (i1 + 1) (x7 - i1)) i1 (some ob))) := by rw [eV14]; exact up_s
    have hk : FR (fun T k => T = t ∧ (k = 20 ∨ k = 4)) w V14 := FR.tr hk hs15 (by intro T k h_; first | exact h_.elim | (obtain ⟨rfl, rfl⟩ := h_; simp; done) | omega)
    refine lv_aload_n hx hb dJ2_add_3_57 rfl (lv_at hl 2 rfl) ?_
    refine lv_iload_n hx hb dJ2_add_3_58 rfl (lv_at hl 1 rfl) ?_
    refine j_iconst hx hb dJ2_add_3_59 ?_
    refine j_iadd hx hb dJ2_add_3_60 ?_
    refine j_put hx hb hts hown hV hH f16 rfl in_J2 tyJ2 tyJ2_ok nmJ2 2 (Nat.le_of_ble_eq_true rfl) q183 (fun _ h => h) rfl rfl rfl (Nat.le_of_ble_eq_true rfl) dJ2_add_3_61 (fun H locs hH => ?_)
    obtain ⟨V20, eV20⟩ : ∃ V_ : Wl, V_ = up V14 a (t, .inr (10, [.int (iI (mo + 1)), .ref ar, .int (iI (x7 + 1))])) := ⟨_, rfl⟩
    have hH := jH_eq hH eV20
    have hs21 : FR (fun T k => T = t ∧ k = 20) V14 V20 := by rw [eV20]; exact FR.one f16 rfl rfl
    have f22 : V20 ar = some (t, arQ E cap (upz (cpz g g i1 (i1 + 1) (x7 - i1)) i1 (some ob))) := hs21.at f19 (k := 4) rfl (by first | exact not_false | (intro q_; simp at q_; done) | omega)
    have p23 : AO V20 (cpz g g i1 (i1 + 1) (x7 - i1)) := AO.kp p17 hs21
    have p24 : OB V20 ob := OB.kp p18 hs21
    have f25 : V20 a = some (t, .inr (10, [.int (iI (mo + 1)), .ref ar, .int (iI (x7 + 1))])) := by rw [eV20]; exact up_s
    have hk : FR (fun T k => T = t ∧ (k = 20 ∨ k = 4)) w V20 := FR.tr hk hs21 (by intro T k h_; first | exact h_.elim | (obtain ⟨rfl, rfl⟩ := h_; simp; done) | omega)
    exact hret V20 hH dJ2_add_3_64 (Nat.le_of_ble_eq_true rfl) (Nat.le_of_ble_eq_true rfl) (⟨_, _, _, by assumption, by assumption, AO.put p23 (fun y hy => by cases hy; exact p24), by omega, fun j q1_ q2_ => by unfold insF; by_cases q3_ : j < i1; (rw [if_pos q3_, upz_n (by omega), cpz_out (by omega)]; rfl); (rw [if_neg q3_]; by_cases q4_ : j = i1; (rw [if_pos q4_, q4_, upz_s]); (rw [if_neg q4_, upz_n q4_, cpz_in (by omega), show i1 + (j - (i1 + 1)) = j - 1 by omega]; rfl)), hk⟩)
  · exact absurd c29 (by omega)
set_option maxHeartbeats 4000000 in
theorem m_J2_add_3f {E : jE} (l : Launch) (w : Wl) (a : Nat) (ar : Nat) (t : Nat) (mo : Int) (n1 : Int) (cap : Nat) (g : Int → Option Nat) (i1 : Int) (ob : Nat) (h1 : w a = some (t, .inr (10, [.int (iI mo), .ref ar, .int (iI n1)]))) (h2 : w ar = some (t, arQ E cap g)) (h3 : AO w g) (h4 : OB w ob) (h5 : 0 ≤ i1 ∧ i1 ≤ n1) (h6 : 1 ≤ n1 ∧ n1 = (cap : Int) ∧ (cap : Int) ≤ 40) : Met l yJ2_add_3 (ws_ yJ2_add_3 cJ2_add_3 5 none) (rmL 7 2 110) (va_Pc [.ref a, .int (iI i1), .ref ob] (jP E w)) (jQv E (fun u : Wl => u) (fun u => ∃ (b : Nat) (c2 : Nat) (g2 : Int → Option Nat), u a = some (t, .inr (10, [.int (iI (mo + 1)), .ref b, .int (iI (n1 + 1))])) ∧ u b = some (t, arQ E c2 g2) ∧ (AO u g2) ∧ (n1 + 1 ≤ (c2 : Int) ∧ 1 ≤ c2 ∧ c2 ≤ 60) ∧ (∀ j : Int, 0 ≤ j → j < n1 + 1 → g2 j = insF g i1 (some ob) j) ∧ FR (fun T k => T = t ∧ (k = 20 ∨ k = 4)) w u)) 2 110 (jA E) := by
  refine j_metV (by decide) (Nat.le_of_ble_eq_true rfl) ?_
  intro p e s m args below meth c Q hx hb hml hown hnm hts hV hH hret ls hl
  have hl : lv_has ls 5 [(0, .ref a), (1, .int (iI i1)), (2, .ref ob)] := hl
  have h0 := hH.1.2
  have hR0 := hH.1
  have hk : FR (fun T k => T = t ∧ (k = 20 ∨ k = 4)) w w := FR.rf
  refine lv_aload_n hx hb dJ2_add_3_0 rfl (lv_at hl 0 rfl) ?_
  refine lv_iload_n hx hb dJ2_add_3_1 rfl (lv_at hl 1 rfl) ?_
  refine j_callvp (va_runV (As := [.int (iI i1)]) (rest := []) ⟨hx, hb, hml, hown, hts⟩ (m_J2_rangeCheckForAdd l _ a ar t mo n1 i1 (h1) (by omega) (by omega)) (cw_J2_rangeCheckForAdd hts q1784 (Nat.le_of_ble_eq_true rfl) (Nat.le_of_ble_eq_true rfl)) (j_preV hV hH h1 rfl) rfl rfl hl.1 rfl (lv_room (Nat.le_of_ble_eq_true rfl)) dJ2_add_3_2 ⟨Nat.le_of_ble_eq_true rfl, Nat.le_of_ble_eq_true rfl⟩) hH (fun H locs hH => ?_)
  refine lv_aload_n hx hb dJ2_add_3_5 rfl (lv_at hl 0 rfl) ?_
  refine lv_dup hx hb dJ2_add_3_6 rfl ?_
  refine j_get hx hb hts hown hV hH h1 rfl in_J2 0 (Nat.le_of_ble_eq_true rfl) q189 (u_same (hts _ q186)) rfl dJ2_add_3_7 ?_
  refine j_iconst hx hb dJ2_add_3_10 ?_
  refine j_iadd hx hb dJ2_add_3_11 ?_
  refine j_put hx hb hts hown hV hH h1 rfl in_J2 tyJ2 tyJ2_ok nmJ2 0 (Nat.le_of_ble_eq_true rfl) q189 (u_same (hts _ q186)) rfl rfl rfl (Nat.le_of_ble_eq_true rfl) dJ2_add_3_12 (fun H locs hH => ?_)
  obtain ⟨V1, eV1⟩ : ∃ V_ : Wl, V_ = up w a (t, .inr (10, [.int (iI (mo + 1)), .ref ar, .int (iI n1)])) := ⟨_, rfl⟩
  have hH := jH_eq hH eV1
  have hs2 : FR (fun T k => T = t ∧ k = 20) w V1 := by rw [eV1]; exact FR.one h1 rfl rfl
  have f3 : V1 ar = some (t, arQ E cap g) := hs2.at h2 (k := 4) rfl (by first | exact not_false | (intro q_; simp at q_; done) | omega)
  have p4 : AO V1 g := AO.kp h3 hs2
  have p5 : OB V1 ob := OB.kp h4 hs2
  have f6 : V1 a = some (t, .inr (10, [.int (iI (mo + 1)), .ref ar, .int (iI n1)])) := by rw [eV1]; exact up_s
  have hk : FR (fun T k => T = t ∧ (k = 20 ∨ k = 4)) w V1 := FR.tr hk hs2 (by intro T k h_; first | exact h_.elim | (obtain ⟨rfl, rfl⟩ := h_; simp; done) | omega)
  refine lv_aload_n hx hb dJ2_add_3_15 rfl (lv_at hl 0 rfl) ?_
  refine j_get hx hb hts hown hV hH f6 rfl in_J2 2 (Nat.le_of_ble_eq_true rfl) q183 (fun _ h => h) rfl dJ2_add_3_16 ?_
  refine lv_dup hx hb dJ2_add_3_19 rfl ?_
  refine j_istore_n (lv' := fun x7 => [(3, .int (iI x7)), (0, .ref a), (1, .int (iI i1)), (2, .ref ob)]) hx hb dJ2_add_3_20 rfl hl (by decide) (fun _ => rfl) (fun x7 ex7 ls hl => ?_)
  refine lv_aload_n hx hb dJ2_add_3_21 rfl (lv_at hl 1 rfl) ?_
  refine j_get hx hb hts hown hV hH f6 rfl in_J2 1 (Nat.le_of_ble_eq_true rfl) q180 (fun _ h => h) rfl dJ2_add_3_22 ?_
  refine lv_dup hx hb dJ2_add_3_25 rfl ?_
  refine lv_astore (lv' := [(4, .ref ar), (3, .int (iI x7)), (0, .ref a), (1, .int (iI i1)), (2, .ref ob)]) hx hb dJ2_add_3_26 hl (by decide) rfl (fun ls hl => ?_)
  refine j_alen (t0 := 3) hx hb hV hH f3 rfl dJ2_add_3_28 ?_
  refine j_top (b := ((cap : Nat) : Int)) rfl ?_
  refine j_icmp_ne (tgt := 38) hx hb dJ2_add_3_29 (by decide) (by omega) (by omega) (fun c29 => ?_) (fun c29 => ?_)
  · exact absurd c29 (by omega)
  · refine lv_aload_n hx hb dJ2_add_3_32 rfl (lv_at hl 2 rfl) ?_
    refine j_callq (va_runV (As := []) (rest := []) ⟨hx, hb, hml, hown, hts⟩ (m_J2_grow_r l V1 a ar t (mo + 1) n1 cap g (f6) (f3) (p4) (by omega) (by omega)) (cw_J2_grow hts q484 (Nat.le_of_ble_eq_true rfl) (Nat.le_of_ble_eq_true rfl)) (j_preV hV hH f6 rfl) rfl rfl hl.1 rfl (lv_room (Nat.le_of_ble_eq_true rfl)) dJ2_add_3_33 ⟨Nat.le_of_ble_eq_true rfl, Nat.le_of_ble_eq_true rfl⟩) hH (fun z10 U8 H locs hp hH => ?_)
    obtain ⟨b11, c212, g213, hzz10, f14, f15, p16, hc_33, hin_33, hs9⟩ := hp
    have p17 : OB U8 ob := OB.kp p5 hs9
    have hk : FR (fun T k => T = t ∧ (k = 20 ∨ k = 4)) w U8 := FR.tr hk hs9 (by intro T k h_; first | exact h_.elim | (obtain ⟨rfl, rfl⟩ := h_; simp; done) | omega)
    subst hzz10
    show W p l e _ s m args below meth c H locs _ _ Q (F0 m _ ls (.ref b11 :: []))
    refine lv_astore (lv' := [(4, .ref b11), (3, .int (iI x7)), (0, .ref a), (1, .int (iI i1)), (2, .ref ob)]) hx hb dJ2_add_3_36 hl (by decide) rfl (fun ls hl => ?_)
    refine lv_aload hx hb dJ2_add_3_38 (lv_at hl 0 rfl) ?_
    refine lv_iload_n hx hb dJ2_add_3_40 rfl (lv_at hl 3 rfl) ?_
    refine lv_aload hx hb dJ2_add_3_41 (lv_at hl 0 rfl) ?_
    refine lv_iload_n hx hb dJ2_add_3_43 rfl (lv_at hl 3 rfl) ?_
    refine j_iconst hx hb dJ2_add_3_44 ?_
    refine j_iadd hx hb dJ2_add_3_45 ?_
    refine lv_iload_n hx hb dJ2_add_3_46 rfl (lv_at hl 1 rfl) ?_
    refine lv_iload_n hx hb dJ2_add_3_47 rfl (lv_at hl 3 rfl) ?_
    refine j_isub hx hb dJ2_add_3_48 ?_
    refine j_copyq hx hb (hml.trans hl.1.symm) hts hown hV h0 hH q1483 q544 q543 q124 f15 f15 (by omega) (by omega) (by omega) (by omega) (by omega) (fun j _ _ y hy => j_anyO hV hH (p16 j y hy)) (Nat.le_of_ble_eq_true rfl) (Nat.le_of_ble_eq_true rfl) dJ2_add_3_49 (fun H locs hH => ?_)
    obtain ⟨V18, eV18⟩ : ∃ V_ : Wl, V_ = up U8 b11 (t, arQ E c212 (cpz g213 g213 i1 (i1 + 1) (x7 - i1))) := ⟨_, rfl⟩
    have hH := jH_eq hH eV18
    have hs19 : FR (fun T k => T = t ∧ k = 4) U8 V18 := by rw [eV18]; exact FR.one f15 rfl rfl
    have f20 : V18 a = some (t, .inr (10, [.int (iI (mo + 1)), .ref b11, .int (iI n1)])) := hs19.at f14 (k := 20) rfl (by first | exact not_false | (intro q_; simp at q_; done) | omega)
    have p21 : OB V18 ob := OB.kp p17 hs19
    have p22 : AO V18 (cpz g213 g213 i1 (i1 + 1) (x7 - i1)) := AO.cpy (AO.kp p16 hs19) (AO.kp p16 hs19)
    have f23 : V18 b11 = some (t, arQ E c212 (cpz g213 g213 i1 (i1 + 1) (x7 - i1))) := by rw [eV18]; exact up_s
    have hk : FR (fun T k => T = t ∧ (k = 20 ∨ k = 4)) w V18 := FR.tr hk hs19 (by intro T k h_; first | exact h_.elim | (obtain ⟨rfl, rfl⟩ := h_; simp; done) | omega)
    refine lv_aload hx hb dJ2_add_3_52 (lv_at hl 0 rfl) ?_
    refine lv_iload_n hx hb dJ2_add_3_54 rfl (lv_at hl 3 rfl) ?_
    refine lv_aload_n hx hb dJ2_add_3_55 rfl (lv_at hl 4 rfl) ?_
    refine j_aastA hx hb hV h0 hH f23 (j_anyO hV hH p21) (by omega) (by omega) dJ2_add_3_56 (fun H locs hH => ?_)
    obtain ⟨V24, eV24⟩ : ∃ V_ : Wl, V_ = up V18 b11 (t, arQ E c212 (upz (cpz g213 g213 i1 (i1 + 1) (x7 - i1)) i1 (some ob))) := ⟨_, rfl⟩
    have hH := jH_eq hH eV24
    have hs25 : FR (fun T k => T = t ∧ k = 4) V18 V24 := by rw [eV24]; exact FR.one f23 rfl rfl
    have f26 : V24 a = some (t, .inr (10, [.int (iI (mo + 1)), .ref b11, .int (iI n1)])) := hs25.at f20 (k := 20) rfl (by first | exact not_false | (intro q_; simp at q_; done) | omega)
    have p27 : OB V24 ob := OB.kp p21 hs25
    have p28 : AO V24 (cpz g213 g213 i1 (i1 + 1) (x7 - i1)) := AO.kp p22 hs25
    have f29 : V24 b11 = some (t, arQ E c212 (upz (cpz g213 g213 i1 (i1 + 1) (x7 - i1)) i1 (some ob))) := by rw [eV24]; exact up_s
    have hk : FR (fun T k => T = t ∧ (k = 20 ∨ k = 4)) w V24 := FR.tr hk hs25 (by intro T k h_; first | exact h_.elim | (obtain ⟨rfl, rfl⟩ := h_; simp; done) | omega)
    refine lv_aload_n hx hb dJ2_add_3_57 rfl (lv_at hl 2 rfl) ?_
    refine lv_iload_n hx hb dJ2_add_3_58 rfl (lv_at hl 1 rfl) ?_
    refine j_iconst hx hb dJ2_add_3_59 ?_
    refine j_iadd hx hb dJ2_add_3_60 ?_
    refine j_put hx hb hts hown hV hH f26 rfl in_J2 tyJ2 tyJ2_ok nmJ2 2 (Nat.le_of_ble_eq_true rfl) q183 (fun _ h => h) rfl rfl rfl (Nat.le_of_ble_eq_true rfl) dJ2_add_3_61 (fun H locs hH => ?_)
    obtain ⟨V30, eV30⟩ : ∃ V_ : Wl, V_ = up V24 a (t, .inr (10, [.int (iI (mo + 1)), .ref b11, .int (iI (x7 + 1))])) := ⟨_, rfl⟩
    have hH := jH_eq hH eV30
    have hs31 : FR (fun T k => T = t ∧ k = 20) V24 V30 := by rw [eV30]; exact FR.one f26 rfl rfl
    have f32 : V30 b11 = some (t, arQ E c212 (upz (cpz g213 g213 i1 (i1 + 1) (x7 - i1)) i1 (some ob))) := hs31.at f29 (k := 4) rfl (by first | exact not_false | (intro q_; simp at q_; done) | omega)
    have p33 : OB V30 ob := OB.kp p27 hs31
    have p34 : AO V30 (cpz g213 g213 i1 (i1 + 1) (x7 - i1)) := AO.kp p28 hs31
    have f35 : V30 a = some (t, .inr (10, [.int (iI (mo + 1)), .ref b11, .int (iI (x7 + 1))])) := by rw [eV30]; exact up_s
    have hk : FR (fun T k => T = t ∧ (k = 20 ∨ k = 4)) w V30 := FR.tr hk hs31 (by intro T k h_; first | exact h_.elim | (obtain ⟨rfl, rfl⟩ := h_; simp; done) | omega)
    exact hret V30 hH dJ2_add_3_64 (Nat.le_of_ble_eq_true rfl) (Nat.le_of_ble_eq_true rfl) (⟨_, _, _, by assumption, by assumption, AO.put p34 (fun y hy => by cases hy; exact p33), by omega, fun j q1_ q2_ => by unfold insF; by_cases q3_ : j < i1; (rw [if_pos q3_, upz_n (by omega), cpz_out (by omega)]; exact hin_33 _ (by omega) (by omega)); (rw [if_neg q3_]; by_cases q4_ : j = i1; (rw [if_pos q4_, q4_, upz_s]); (rw [if_neg q4_, upz_n q4_, cpz_in (by omega), show i1 + (j - (i1 + 1)) = j - 1 by omega]; exact hin_33 _ (by omega) (by omega))), hk⟩)
set_option maxHeartbeats 4000000 in
theorem m_J2_add_3k {E : jE} (l : Launch) (w : Wl) (a : Nat) (t : Nat) (mo : Int) (n1 : Int) (i1 : Int) (ob : Nat) (h1 : w a = some (t, .inr (10, [.int (iI mo), .ref (E.2.2.2 0), .int (iI n1)]))) (h2 : OB w ob) (h3 : i1 = 0) (h4 : n1 = 0) : Met l yJ2_add_3 (ws_ yJ2_add_3 cJ2_add_3 5 none) (rmL 7 2 110) (va_Pc [.ref a, .int (iI i1), .ref ob] (jP E w)) (jQv E (fun u : Wl => u) (fun u => ∃ (b : Nat) (c2 : Nat) (g2 : Int → Option Nat), u a = some (t, .inr (10, [.int (iI (mo + 1)), .ref b, .int (iI (n1 + 1))])) ∧ u b = some (t, arQ E c2 g2) ∧ (AO u g2) ∧ (1 ≤ (c2 : Int) ∧ c2 ≤ 60) ∧ (g2 0 = some ob) ∧ FR (fun T k => T = t ∧ (k = 20 ∨ k = 4)) w u)) 2 110 (jA E) := by
  refine j_metV (by decide) (Nat.le_of_ble_eq_true rfl) ?_
  intro p e s m args below meth c Q hx hb hml hown hnm hts hV hH hret ls hl
  have hl : lv_has ls 5 [(0, .ref a), (1, .int (iI i1)), (2, .ref ob)] := hl
  have h0 := hH.1.2
  have hR0 := hH.1
  have hk : FR (fun T k => T = t ∧ (k = 20 ∨ k = 4)) w w := FR.rf
  refine lv_aload_n hx hb dJ2_add_3_0 rfl (lv_at hl 0 rfl) ?_
  refine lv_iload_n hx hb dJ2_add_3_1 rfl (lv_at hl 1 rfl) ?_
  refine j_callvp (va_runV (As := [.int (iI i1)]) (rest := []) ⟨hx, hb, hml, hown, hts⟩ (m_J2_rangeCheckForAdd l _ a (E.2.2.2 0) t mo n1 i1 (h1) (by omega) (by omega)) (cw_J2_rangeCheckForAdd hts q1784 (Nat.le_of_ble_eq_true rfl) (Nat.le_of_ble_eq_true rfl)) (j_preV hV hH h1 rfl) rfl rfl hl.1 rfl (lv_room (Nat.le_of_ble_eq_true rfl)) dJ2_add_3_2 ⟨Nat.le_of_ble_eq_true rfl, Nat.le_of_ble_eq_true rfl⟩) hH (fun H locs hH => ?_)
  refine lv_aload_n hx hb dJ2_add_3_5 rfl (lv_at hl 0 rfl) ?_
  refine lv_dup hx hb dJ2_add_3_6 rfl ?_
  refine j_get hx hb hts hown hV hH h1 rfl in_J2 0 (Nat.le_of_ble_eq_true rfl) q189 (u_same (hts _ q186)) rfl dJ2_add_3_7 ?_
  refine j_iconst hx hb dJ2_add_3_10 ?_
  refine j_iadd hx hb dJ2_add_3_11 ?_
  refine j_put hx hb hts hown hV hH h1 rfl in_J2 tyJ2 tyJ2_ok nmJ2 0 (Nat.le_of_ble_eq_true rfl) q189 (u_same (hts _ q186)) rfl rfl rfl (Nat.le_of_ble_eq_true rfl) dJ2_add_3_12 (fun H locs hH => ?_)
  obtain ⟨V1, eV1⟩ : ∃ V_ : Wl, V_ = up w a (t, .inr (10, [.int (iI (mo + 1)), .ref (E.2.2.2 0), .int (iI n1)])) := ⟨_, rfl⟩
  have hH := jH_eq hH eV1
  have hs2 : FR (fun T k => T = t ∧ k = 20) w V1 := by rw [eV1]; exact FR.one h1 rfl rfl
  have p3 : OB V1 ob := OB.kp h2 hs2
  have f4 : V1 a = some (t, .inr (10, [.int (iI (mo + 1)), .ref (E.2.2.2 0), .int (iI n1)])) := by rw [eV1]; exact up_s
  have hk : FR (fun T k => T = t ∧ (k = 20 ∨ k = 4)) w V1 := FR.tr hk hs2 (by intro T k h_; first | exact h_.elim | (obtain ⟨rfl, rfl⟩ := h_; simp; done) | omega)
  refine lv_aload_n hx hb dJ2_add_3_15 rfl (lv_at hl 0 rfl) ?_
  refine j_get hx hb hts hown hV hH f4 rfl in_J2 2 (Nat.le_of_ble_eq_true rfl) q183 (fun _ h => h) rfl dJ2_add_3_16 ?_
  refine lv_dup hx hb dJ2_add_3_19 rfl ?_
  refine j_istore_n (lv' := fun x5 => [(3, .int (iI x5)), (0, .ref a), (1, .int (iI i1)), (2, .ref ob)]) hx hb dJ2_add_3_20 rfl hl (by decide) (fun _ => rfl) (fun x5 ex5 ls hl => ?_)
  refine lv_aload_n hx hb dJ2_add_3_21 rfl (lv_at hl 1 rfl) ?_
  refine j_get hx hb hts hown hV hH f4 rfl in_J2 1 (Nat.le_of_ble_eq_true rfl) q180 (fun _ h => h) rfl dJ2_add_3_22 ?_
  refine lv_dup hx hb dJ2_add_3_25 rfl ?_
  refine lv_astore (lv' := [(4, .ref (E.2.2.2 0)), (3, .int (iI x5)), (0, .ref a), (1, .int (iI i1)), (2, .ref ob)]) hx hb dJ2_add_3_26 hl (by decide) rfl (fun ls hl => ?_)
  refine j_alenK hx hb hV h0 hH dJ2_add_3_28 ?_
  refine j_icmp_ne (tgt := 38) hx hb dJ2_add_3_29 (by decide) (by omega) (by omega) (fun c29 => ?_) (fun c29 => ?_)
  · exact absurd c29 (by omega)
  · refine lv_aload_n hx hb dJ2_add_3_32 rfl (lv_at hl 2 rfl) ?_
    refine j_callq (va_runV (As := []) (rest := []) ⟨hx, hb, hml, hown, hts⟩ (m_J2_grow_k l V1 a t (mo + 1) n1 (f4) (by omega)) (cw_J2_grow hts q484 (Nat.le_of_ble_eq_true rfl) (Nat.le_of_ble_eq_true rfl)) (j_preV hV hH f4 rfl) rfl rfl hl.1 rfl (lv_room (Nat.le_of_ble_eq_true rfl)) dJ2_add_3_33 ⟨Nat.le_of_ble_eq_true rfl, Nat.le_of_ble_eq_true rfl⟩) hH (fun z8 U6 H locs hp hH => ?_)
    obtain ⟨b9, c210, g211, hzz8, f12, f13, p14, hc_33, hs7⟩ := hp
    have p15 : OB U6 ob := OB.kp p3 hs7
    have hk : FR (fun T k => T = t ∧ (k = 20 ∨ k = 4)) w U6 := FR.tr hk hs7 (by intro T k h_; first | exact h_.elim | (obtain ⟨rfl, rfl⟩ := h_; simp; done) | omega)
    subst hzz8
    show W p l e _ s m args below meth c H locs _ _ Q (F0 m _ ls (.ref b9 :: []))
    refine lv_astore (lv' := [(4, .ref b9), (3, .int (iI x5)), (0, .ref a), (1, .int (iI i1)), (2, .ref ob)]) hx hb dJ2_add_3_36 hl (by decide) rfl (fun ls hl => ?_)
    refine lv_aload hx hb dJ2_add_3_38 (lv_at hl 0 rfl) ?_
    refine lv_iload_n hx hb dJ2_add_3_40 rfl (lv_at hl 3 rfl) ?_
    refine lv_aload hx hb dJ2_add_3_41 (lv_at hl 0 rfl) ?_
    refine lv_iload_n hx hb dJ2_add_3_43 rfl (lv_at hl 3 rfl) ?_
    refine j_iconst hx hb dJ2_add_3_44 ?_
    refine j_iadd hx hb dJ2_add_3_45 ?_
    refine lv_iload_n hx hb dJ2_add_3_46 rfl (lv_at hl 1 rfl) ?_
    refine lv_iload_n hx hb dJ2_add_3_47 rfl (lv_at hl 3 rfl) ?_
    refine j_isub hx hb dJ2_add_3_48 ?_
    refine j_copyq hx hb (hml.trans hl.1.symm) hts hown hV h0 hH q1483 q544 q543 q124 f13 f13 (by omega) (by omega) (by omega) (by omega) (by omega) (fun j _ _ y hy => j_anyO hV hH (p14 j y hy)) (Nat.le_of_ble_eq_true rfl) (Nat.le_of_ble_eq_true rfl) dJ2_add_3_49 (fun H locs hH => ?_)
    obtain ⟨V16, eV16⟩ : ∃ V_ : Wl, V_ = up U6 b9 (t, arQ E c210 (cpz g211 g211 i1 (i1 + 1) (x5 - i1))) := ⟨_, rfl⟩
    have hH := jH_eq hH eV16
    have hs17 : FR (fun T k => T = t ∧ k = 4) U6 V16 := by rw [eV16]; exact FR.one f13 rfl rfl
    have f18 : V16 a = some (t, .inr (10, [.int (iI (mo + 1)), .ref b9, .int (iI n1)])) := hs17.at f12 (k := 20) rfl (by first | exact not_false | (intro q_; simp at q_; done) | omega)
    have p19 : OB V16 ob := OB.kp p15 hs17
    have p20 : AO V16 (cpz g211 g211 i1 (i1 + 1) (x5 - i1)) := AO.cpy (AO.kp p14 hs17) (AO.kp p14 hs17)
    have f21 : V16 b9 = some (t, arQ E c210 (cpz g211 g211 i1 (i1 + 1) (x5 - i1))) := by rw [eV16]; exact up_s
    have hk : FR (fun T k => T = t ∧ (k = 20 ∨ k = 4)) w V16 := FR.tr hk hs17 (by intro T k h_; first | exact h_.elim | (obtain ⟨rfl, rfl⟩ := h_; simp; done) | omega)
    refine lv_aload hx hb dJ2_add_3_52 (lv_at hl 0 rfl) ?_
    refine lv_iload_n hx hb dJ2_add_3_54 rfl (lv_at hl 3 rfl) ?_
    refine lv_aload_n hx hb dJ2_add_3_55 rfl (lv_at hl 4 rfl) ?_
    refine j_aastA hx hb hV h0 hH f21 (j_anyO hV hH p19) (by omega) (by omega) dJ2_add_3_56 (fun H locs hH => ?_)
    obtain ⟨V22, eV22⟩ : ∃ V_ : Wl, V_ = up V16 b9 (t, arQ E c210 (upz (cpz g211 g211 i1 (i1 + 1) (x5 - i1)) i1 (some ob))) := ⟨_, rfl⟩
    have hH := jH_eq hH eV22
    have hs23 : FR (fun T k => T = t ∧ k = 4) V16 V22 := by rw [eV22]; exact FR.one f21 rfl rfl
    have f24 : V22 a = some (t, .inr (10, [.int (iI (mo + 1)), .ref b9, .int (iI n1)])) := hs23.at f18 (k := 20) rfl (by first | exact not_false | (intro q_; simp at q_; done) | omega)
    have p25 : OB V22 ob := OB.kp p19 hs23
    have p26 : AO V22 (cpz g211 g211 i1 (i1 + 1) (x5 - i1)) := AO.kp p20 hs23
    have f27 : V22 b9 = some (t, arQ E c210 (upz (cpz g211 g211 i1 (i1 + 1) (x5 - i1)) i1 (some ob))) := by rw [eV22]; exact up_s
    have hk : FR (fun T k => T = t ∧ (k = 20 ∨ k = 4)) w V22 := FR.tr hk hs23 (by intro T k h_; first | exact h_.elim | (obtain ⟨rfl, rfl⟩ := h_; simp; done) | omega)
    refine lv_aload_n hx hb dJ2_add_3_57 rfl (lv_at hl 2 rfl) ?_
    refine lv_iload_n hx hb dJ2_add_3_58 rfl (lv_at hl 1 rfl) ?_
    refine j_iconst hx hb dJ2_add_3_59 ?_
    refine j_iadd hx hb dJ2_add_3_60 ?_
    refine j_put hx hb hts hown hV hH f24 rfl in_J2 tyJ2 tyJ2_ok nmJ2 2 (Nat.le_of_ble_eq_true rfl) q183 (fun _ h => h) rfl rfl rfl (Nat.le_of_ble_eq_true rfl) dJ2_add_3_61 (fun H locs hH => ?_)
    obtain ⟨V28, eV28⟩ : ∃ V_ : Wl, V_ = up V22 a (t, .inr (10, [.int (iI (mo + 1)), .ref b9, .int (iI (x5 + 1))])) := ⟨_, rfl⟩
    have hH := jH_eq hH eV28
    have hs29 : FR (fun T k => T = t ∧ k = 20) V22 V28 := by rw [eV28]; exact FR.one f24 rfl rfl
    have f30 : V28 b9 = some (t, arQ E c210 (upz (cpz g211 g211 i1 (i1 + 1) (x5 - i1)) i1 (some ob))) := hs29.at f27 (k := 4) rfl (by first | exact not_false | (intro q_; simp at q_; done) | omega)
    have p31 : OB V28 ob := OB.kp p25 hs29
    have p32 : AO V28 (cpz g211 g211 i1 (i1 + 1) (x5 - i1)) := AO.kp p26 hs29
    have f33 : V28 a = some (t, .inr (10, [.int (iI (mo + 1)), .ref b9, .int (iI (x5 + 1))])) := by rw [eV28]; exact up_s
    have hk : FR (fun T k => T = t ∧ (k = 20 ∨ k = 4)) w V28 := FR.tr hk hs29 (by intro T k h_; first | exact h_.elim | (obtain ⟨rfl, rfl⟩ := h_; simp; done) | omega)
    exact hret V28 hH dJ2_add_3_64 (Nat.le_of_ble_eq_true rfl) (Nat.le_of_ble_eq_true rfl) (⟨_, _, _, by assumption, by assumption, AO.put p32 (fun y hy => by cases hy; exact p31), by omega, by rw [show (0 : Int) = i1 by omega]; exact upz_s, hk⟩)
theorem m_J2_add_3 {E : jE} (l : Launch) (w : Wl) (a : Nat) (ar : Nat) (t : Nat) (mo : Int) (n1 : Int) (G : Int → Nat) (i1 : Int) (ob : Nat) (h1 : w a = some (t, .inr (10, [.int (iI mo), .ref ar, .int (iI n1)]))) (h2 : AD E w t ar n1 G) (h3 : OB w ob) (h4 : 0 ≤ i1 ∧ i1 ≤ n1) (h5 : n1 ≤ 38) : Met l yJ2_add_3 (ws_ yJ2_add_3 cJ2_add_3 5 none) (rmL 7 2 110) (va_Pc [.ref a, .int (iI i1), .ref ob] (jP E w)) (jQv E (fun u : Wl => u) (fun u => ∃ (b : Nat), u a = some (t, .inr (10, [.int (iI (mo + 1)), .ref b, .int (iI (n1 + 1))])) ∧ (AD E u t b (n1 + 1) (insF G i1 ob)) ∧ FR (fun T k => T = t ∧ (k = 20 ∨ k = 4)) w u)) 2 110 (jA E) := by
  obtain ⟨hn0, hn1, cap, g, hd, ha, hg⟩ := h2
  have key : ∀ (u : Wl) (b c2 : Nat) (g2 : Int → Option Nat), u b = some (t, arQ E c2 g2) → AO u g2 → (n1 + 1 ≤ (c2 : Int) ∧ 1 ≤ c2 ∧ c2 ≤ 60) → (∀ j : Int, 0 ≤ j → j < n1 + 1 → g2 j = insF g i1 (some ob) j) → AD E u t b (n1 + 1) (insF G i1 ob) := by
    intro u b c2 g2 k1 k2 k3 k4
    refine AD.of' k1 ⟨by omega, by omega⟩ k3 k2 (fun j q1 q2 => ?_)
    rw [k4 j q1 q2]
    unfold insF
    split
    · exact hg j q1 (by omega)
    · split
      · rfl
      · exact hg (j - 1) (by omega) (by omega)
  rcases hd with ⟨e1, e2⟩ | ⟨hd, h5', h6, h7⟩
  · subst e1
    refine jQv.imp (m_J2_add_3k l w a t mo n1 i1 ob h1 h3 (by omega) e2) ?_
    rintro u ⟨b, c2, g2, k1, k2, k3, k4, k5, k6⟩
    refine ⟨b, k1, key u b c2 g2 k2 k3 (by omega) (fun j q1 q2 => ?_), k6⟩
    rw [show j = 0 by omega, k5]
    unfold insF
    rw [if_neg (by omega), if_pos (by omega)]
  · by_cases hf : n1 < (cap : Int)
    · refine jQv.imp (m_J2_add_3s l w a ar t mo n1 cap g i1 ob h1 hd ha h3 h4 ⟨hf, by omega⟩) ?_
      rintro u ⟨b, c2, g2, k1, k2, k3, k4, k5, k6⟩
      exact ⟨b, k1, key u b c2 g2 k2 k3 k4 k5, k6⟩
    · refine jQv.imp (m_J2_add_3f l w a ar t mo n1 cap g i1 ob h1 hd ha h3 h4 (by omega)) ?_
      rintro u ⟨b, c2, g2, k1, k2, k3, k4, k5, k6⟩
      exact ⟨b, k1, key u b c2 g2 k2 k3 k4 k5, k6⟩
