/-! THE SYSTEM's METHODS: nodes are added, 2 -/
set_option maxRecDepth 100000
theorem jH_tag {E : jE} {H0 H : Heap} {w : Wl} {locs : List Loc} {a t : Nat} {e : va_E} (t2 : Nat) (h : jH E H0 w H locs) (ha : w a = some (t, e)) : jH E H0 (up w a (t2, e)) H locs := h.to (fun b t' e' hb => by
  by_cases hba : b = a
  · subst hba
    rw [up_s] at hb
    cases hb
    exact ⟨t, ha⟩
  · rw [up_n hba] at hb
    exact ⟨t', hb⟩)
/-- the stage's rest: scenes, settings, title -/
def RST (E : jE) (w : Wl) (t : Nat) (P : Int → Int) (sl stt : Nat) (tlo : Option Nat) : Prop := ∃ (mo2 : Int) (ch se : Int → Nat), w sl = some (t, .inr (12, [.int (iI mo2), .int (iI (P 3)), va_rf (hdO (P 3) ch 0), va_rf (prO ch (P 3))])) ∧ LQ w t (P 3) ch se ∧ ScO w P se ∧ w stt = some (t, arI E 4 (sg4 P)) ∧ titO w P tlo
theorem RST.kp {E : jE} {C : Nat → Nat → Prop} {w u : Wl} {t : Nat} {P : Int → Int} {sl stt : Nat} {tlo : Option Nat} (h : RST E w t P sl stt tlo) (k : FR C w u) (hC : ∀ T k : Nat, C T k → ¬ (T = t ∧ (k = 22 ∨ k = 23 ∨ k = 0)) ∧ T ≠ 1) : RST E u t P sl stt tlo := by
  obtain ⟨mo2, ch, se, h1, h2, h3, h4, h5⟩ := h
  exact ⟨mo2, ch, se, k.at h1 rfl (fun q => (hC _ _ q).1 ⟨rfl, Or.inl rfl⟩), h2.kp k (fun T k q e => (hC T k q).1 ⟨e.1, Or.inr (Or.inl e.2)⟩), h3.kp k (fun T k q e => (hC T k q).2 e.1), k.at h4 rfl (fun q => (hC _ _ q).1 ⟨rfl, Or.inr (Or.inr rfl)⟩), h5.kp k (fun T k q e => (hC T k q).2 e.1)⟩
theorem RST.ag {E : jE} {w : Wl} {t : Nat} {P P' : Int → Int} {sl stt : Nat} {tlo : Option Nat} (h : RST E w t P sl stt tlo) (ho : ∀ b : Int, (3 ≤ b ∧ b < 14) ∨ 174 ≤ b → P' b = P b) : RST E w t P' sl stt tlo := by
  obtain ⟨mo2, ch, se, h1, h2, h3, h4, h5⟩ := h
  have h3' := ho 3 (by omega)
  refine ⟨mo2, ch, se, by rw [h3']; exact h1, by rw [h3']; exact h2, h3.ag h3' (fun s k p q p2 q2 => ho _ (by omega)), ?_, h5.ag (ho 11 (by omega)) (ho 12 (by omega)) (ho 13 (by omega))⟩
  rw [h4]
  have e : sg4 P = sg4 P' := funext (sg4_ex (ho 7 (by omega)) (ho 8 (by omega)) (ho 9 (by omega)) (ho 10 (by omega)))
  rw [e]
theorem StA.mk2 {E : jE} {w : Wl} {t a nl sl stt ar : Nat} {P : Int → Int} {f : Int → Nat} {sh : Int → Int} {tlo : Option Nat} {mo x0 x1 x2 x4 x5 x6 : Int}
    (h1 : w a = some (t, .inr (1, [.int (iI x0), .int (iI x1), .ref nl, .ref sl, .ref stt, va_rf tlo, .int (iI x4), .int (iI x5), .int (iI x6)]))) (h2 : w nl = some (t, .inr (10, [.int (iI mo), .ref ar, .int (iI x2)]))) (h3 : AD E w t ar x2 f) (h4 : TRE w t P f sh) (h5 : RST E w t P sl stt tlo)
    (e0 : x0 = P 0) (e1 : x1 = P 1) (e2 : x2 = P 2) (e4 : x4 = P 4) (e5 : x5 = P 5) (e6 : x6 = P 6) : StA E w t a P f sh := by
  subst e0 e1 e2 e4 e5 e6
  obtain ⟨mo2, ch, se, q1, q2, q3, q4, q5⟩ := h5
  exact ⟨nl, sl, stt, ar, tlo, mo, mo2, ch, se, h1, h2, h3, h4, q1, q2, q3, q4, q5⟩
theorem cwu_X4_groupsAround_X2_111_X5 {R : Room} {s : State} {args : Array Value} {k : Nat} (hts : ∀ w ∈ lw_all, w.before args s = true) (hR1 : k + 1 ≤ R.frames) (hR2 : 8 + (1 + 11) + 96 * k ≤ R.locals) : va_CU R s args "EyeStage$Stage" RX5 "EyeStage$Part" 111 ⟨"EyeStage$Part", "groupsAround", "()I"⟩ yX4_groupsAround cX4_groupsAround 1 (some .int) (ws_ yX4_groupsAround cX4_groupsAround 1 (some .int)) (rmL k 0 0) 0 0 0 :=
  va_cwU 0 hts (lw_U q1280 q1282 q1283 q1281 q131 q1285) rfl rfl rfl rfl (by decide +kernel) ⟨hR1, hR2⟩
theorem cw_X2_add {R : Room} {s : State} {args : Array Value} {own : String} {index lev mc ms : Nat} (hts : ∀ w ∈ lw_all, w.before args s = true) (hl : Cond.methodLink own index yX2_add ∈ lw_all) (hR1 : (rmL lev mc ms).frames + 1 ≤ R.frames) (hR2 : 8 + (6 + 11) + (rmL lev mc ms).locals ≤ R.locals) : CallW R s args own RX2 index yX2_add cX2_add 6 (some .int) (ws_ yX2_add cX2_add 6 (some .int)) (rmL lev mc ms) mc ms 4 :=
  cwV 4 hts (lw_V hl q1278 qs19 q109 q1279) rfl rfl rfl (by decide +kernel) ⟨hR1, hR2⟩
set_option maxHeartbeats 4000000 in
theorem m_X2_add_X5 {E : jE} (l : Launch) (w : Wl) (t : Nat) (a : Nat) (T : Int) (P : Int → Int) (f : Int → Nat) (sh : Int → Int) (pa : Int) (m0 : Int) (e1_ : Int) (e2_ : Int) (e3_ : Int) (w1 : Int) (v1 : Int) (nb : Nat) (dx : Int) (dy : Int) (dz : Int) (h1 : PWF T P) (h2 : StA E w t a P f sh) (h3 : T ≤ 900000000) (h4 : 3 ≤ t) (h5 : w nb = some (2, .inr (3, [.int (iI m0), va_rf (if pa = -1000 then none else some (f pa)), .int (iI e1_), .int (iI e2_), .int (iI e3_), .int (iI w1), .int (iI v1), .int (iI 8), .int (iI 0)]))) (h6 : pa = -1000 ∨ (0 ≤ pa ∧ pa < P 2 ∧ nd P pa 4 = 0)) (h7 : gaO P pa ≤ 5) (h8 : P 2 < 20) (h9 : 0 < w1) (h10 : PWF T (addP P pa dx dy dz w1 v1)) : Met l yX2_add (ws_ yX2_add cX2_add 6 (some .int)) (rmL 23 2 110) (va_Pc [.ref a, .ref nb, .int (iI dx), .int (iI dy), .int (iI dz)] (jP E w)) (jQi E (fun u : Wl => u) (fun z u => z = P 2 ∧ (StA E u t a (addP P pa dx dy dz w1 v1) (upz f (P 2) nb) (upz sh (P 2) 0)) ∧ FR (fun T k => T = t ∨ T = 2) w u)) 2 110 (jA E) := by
  refine j_metI (by decide) (Nat.le_of_ble_eq_true rfl) ?_
  intro p e s m args below meth c Q hx hb hml hown hnm hts hV hH hret ls hl
  have hl : lv_has ls 6 [(0, .ref a), (1, .ref nb), (2, .int (iI dx)), (3, .int (iI dy)), (4, .int (iI dz))] := hl
  have h0 := hH.1.2
  have hR0 := hH.1
  have hk : FR (fun T k => T = t ∨ T = 2) w w := FR.rf
  have hP := h1
  have hS := h2
  obtain ⟨nl, sl, stt, ar, tlo, mo, mo2, ch, se, ha, hnl, hAD, hT, hsl, hLQ, hSc, hst, hti⟩ := id hS
  have hRS : RST E w t P sl stt tlo := ⟨mo2, ch, se, hsl, hLQ, hSc, hst, hti⟩
  have hA := hP.A
  have f1 : w a = some (t, .inr (1, [.int (iI (P 0)), .int (iI (P 1)), .ref nl, .ref sl, .ref stt, va_rf tlo, .int (iI (P 4)), .int (iI (P 5)), .int (iI (P 6))])) := ha
  have f2 : w nl = some (t, .inr (10, [.int (iI mo), .ref ar, .int (iI (P 2))])) := hnl
  have p3 : AD E w t ar (P 2) f := hAD
  have p4 : TRE w t P f sh := hT
  have p5 : RST E w t P sl stt tlo := hRS
  have f6 : w nb = some (2, .inr (3, [.int (iI m0), va_rf (if pa = -1000 then none else some (f pa)), .int (iI e1_), .int (iI e2_), .int (iI e3_), .int (iI w1), .int (iI v1), .int (iI 8), .int (iI 0)])) := h5
  have hPn := h10
  have hgb := gaO_b hP pa
  refine lv_aload_n hx hb dX2_add_0 rfl (lv_at hl 0 rfl) ?_
  refine j_get hx hb hts hown hV hH f1 rfl in_X2 2 (Nat.le_of_ble_eq_true rfl) q224 (fun _ h => h) rfl dX2_add_1 ?_
  refine j_callip (va_runV (As := []) (rest := []) ⟨hx, hb, hml, hown, hts⟩ (m_J2_size l _ nl ar t mo (P 2) (f2)) (cw_J2_size hts q1010 (Nat.le_of_ble_eq_true rfl) (Nat.le_of_ble_eq_true rfl)) (j_preV hV hH f2 rfl) rfl rfl hl.1 rfl (lv_room (Nat.le_of_ble_eq_true rfl)) dX2_add_4 ⟨Nat.le_of_ble_eq_true rfl, Nat.le_of_ble_eq_true rfl⟩) hH (fun H locs hH => ?_)
  refine j_bipush hx hb dX2_add_7 (by decide) ?_
  refine j_icmp_ge (tgt := 24) hx hb dX2_add_9 (by decide) (by omega) (by omega) (fun c9 => ?_) (fun c9 => ?_)
  · exact absurd c9 (by omega)
  · refine lv_aload_n hx hb dX2_add_12 rfl (lv_at hl 1 rfl) ?_
    refine j_callip (va_runU (As := []) (rest := []) ⟨hx, hb, hml, hown, hts⟩ (m_X4_groupsAround_X5 l _ _ _ _ _ _ _ _ pa _ _ _ _ _ _ _ _ f6 hP p4 (by omega)) (cwu_X4_groupsAround_X2_111_X5 hts (Nat.le_of_ble_eq_true rfl) (Nat.le_of_ble_eq_true rfl)) (j_preV hV hH f6 rfl) rfl rfl hl.1 rfl (lv_room (Nat.le_of_ble_eq_true rfl)) dX2_add_13 ⟨Nat.le_of_ble_eq_true rfl, Nat.le_of_ble_eq_true rfl⟩) hH (fun H locs hH => ?_)
    refine j_iconst hx hb dX2_add_16 ?_
    refine j_icmp_gt (tgt := 24) hx hb dX2_add_17 (by decide) (by omega) (by omega) (fun c17 => ?_) (fun c17 => ?_)
    · exact absurd c17 (by omega)
    · refine j_iconst hx hb dX2_add_20 ?_
      refine lv_goto (tgt := 25) hx hb dX2_add_21 (by decide) ?_
      refine va_ldcS hx hb hown (hV.2.2.2.2.2.1 _ (List.mem_of_getElem? (i := 30) rfl)) dX2_add_25 ?_
      refine j_callvp (va_runSN (As := [.int (iI (bI True)), .ref (E.2.2.2 (1 + 27))]) (rest := []) ⟨hx, hb, hml, hown, hts⟩ (m_X1_requireState l _ True (E.2.2.2 (1 + 27)) (trivial)) ⟨va_cnB 2 hts (lw_meth q1293) rfl rfl rfl (hV.2.1 _ q1291 rfl) (hts _ q108) (by decide +kernel) ⟨(Nat.le_of_ble_eq_true rfl), (Nat.le_of_ble_eq_true rfl)⟩, hts _ q1292, trivial⟩ (j_preS hV hH) rfl rfl hl.1 (by simp only [bI_T, bI_F]; rfl) (lv_room (Nat.le_of_ble_eq_true rfl)) dX2_add_27 ⟨Nat.le_of_ble_eq_true rfl, Nat.le_of_ble_eq_true rfl⟩) hH (fun H locs hH => ?_)
      refine lv_aload_n hx hb dX2_add_30 rfl (lv_at hl 1 rfl) ?_
      refine lv_aload_n hx hb dX2_add_31 rfl (lv_at hl 0 rfl) ?_
      refine j_get hx hb hts hown hV hH f1 rfl in_X2 2 (Nat.le_of_ble_eq_true rfl) q224 (fun _ h => h) rfl dX2_add_32 ?_
      refine j_callip (va_runV (As := []) (rest := [.ref nb]) ⟨hx, hb, hml, hown, hts⟩ (m_J2_size l _ nl ar t mo (P 2) (f2)) (cw_J2_size hts q1010 (Nat.le_of_ble_eq_true rfl) (Nat.le_of_ble_eq_true rfl)) (j_preV hV hH f2 rfl) rfl rfl hl.1 rfl (lv_room (Nat.le_of_ble_eq_true rfl)) dX2_add_35 ⟨Nat.le_of_ble_eq_true rfl, Nat.le_of_ble_eq_true rfl⟩) hH (fun H locs hH => ?_)
      refine j_put hx hb hts hown hV hH f6 rfl in_X5 tyX5 tyX5_ok nmX5 0 (Nat.le_of_ble_eq_true rfl) q409 (fun _ h => h) rfl rfl rfl (Nat.le_of_ble_eq_true rfl) dX2_add_38 (fun H locs hH => ?_)
      obtain ⟨V7, eV7⟩ : ∃ V_ : Wl, V_ = up w nb (2, .inr (3, [.int (iI (P 2)), va_rf (if pa = -1000 then none else some (f pa)), .int (iI e1_), .int (iI e2_), .int (iI e3_), .int (iI w1), .int (iI v1), .int (iI 8), .int (iI 0)])) := ⟨_, rfl⟩
      have hH := jH_eq hH eV7
      have hs8 : FR (fun T k => T = 2 ∧ k = 13) w V7 := by rw [eV7]; exact FR.one f6 rfl rfl
      have f9 : V7 a = some (t, .inr (1, [.int (iI (P 0)), .int (iI (P 1)), .ref nl, .ref sl, .ref stt, va_rf tlo, .int (iI (P 4)), .int (iI (P 5)), .int (iI (P 6))])) := hs8.at f1 (k := 11) rfl (by first | exact not_false | (intro q_; simp at q_; done) | omega)
      have f10 : V7 nl = some (t, .inr (10, [.int (iI mo), .ref ar, .int (iI (P 2))])) := hs8.at f2 (k := 20) rfl (by first | exact not_false | (intro q_; simp at q_; done) | omega)
      have p11 : AD E V7 t ar (P 2) f := AD.kp p3 hs8 (by intro T k h_; first | exact h_.elim | (obtain ⟨-, rfl⟩ := h_; simp; done) | omega)
      have p12 : TRE V7 t P f sh := TRE.kp p4 hs8 (by intro T k h_; first | exact h_.elim | (obtain ⟨-, rfl⟩ := h_; simp; done) | omega)
      have p13 : RST E V7 t P sl stt tlo := RST.kp p5 hs8 (by intro T k h_; first | exact h_.elim | (obtain ⟨-, rfl⟩ := h_; simp; done) | omega)
      have f14 : V7 nb = some (2, .inr (3, [.int (iI (P 2)), va_rf (if pa = -1000 then none else some (f pa)), .int (iI e1_), .int (iI e2_), .int (iI e3_), .int (iI w1), .int (iI v1), .int (iI 8), .int (iI 0)])) := by rw [eV7]; exact up_s
      have hk : FR (fun T k => T = t ∨ T = 2) w V7 := FR.tr hk hs8 (by intro T k h_; first | exact h_.elim | (obtain ⟨rfl, rfl⟩ := h_; simp; done) | omega)
      refine lv_aload_n hx hb dX2_add_41 rfl (lv_at hl 1 rfl) ?_
      refine lv_iload_n hx hb dX2_add_42 rfl (lv_at hl 2 rfl) ?_
      refine lv_iload_n hx hb dX2_add_43 rfl (lv_at hl 3 rfl) ?_
      refine lv_iload hx hb dX2_add_44 (lv_at hl 4 rfl) ?_
      refine j_callvp (va_runU (As := [.int (iI dx), .int (iI dy), .int (iI dz)]) (rest := []) ⟨hx, hb, hml, hown, hts⟩ (m_X4_place_X5 l _ _ _ _ _ _ _ _ _ _ _ _ dx dy dz (f14)) (cwu0_X4_place_X2_120_X5 hts (Nat.le_of_ble_eq_true rfl) (Nat.le_of_ble_eq_true rfl)) (j_preV hV hH f14 rfl) rfl rfl hl.1 rfl (lv_room (Nat.le_of_ble_eq_true rfl)) dX2_add_46 ⟨Nat.le_of_ble_eq_true rfl, Nat.le_of_ble_eq_true rfl⟩) hH (fun H locs hH => ?_)
      obtain ⟨V15, eV15⟩ : ∃ V_ : Wl, V_ = up V7 nb (2, .inr (3, [.int (iI (P 2)), va_rf (if pa = -1000 then none else some (f pa)), .int (iI dx), .int (iI dy), .int (iI dz), .int (iI w1), .int (iI v1), .int (iI 8), .int (iI 0)])) := ⟨_, rfl⟩
      have hH := jH_eq hH eV15
      have hs16 : FR (fun T k => T = 2 ∧ k = 13) V7 V15 := by rw [eV15]; exact FR.one f14 rfl rfl
      have f17 : V15 a = some (t, .inr (1, [.int (iI (P 0)), .int (iI (P 1)), .ref nl, .ref sl, .ref stt, va_rf tlo, .int (iI (P 4)), .int (iI (P 5)), .int (iI (P 6))])) := hs16.at f9 (k := 11) rfl (by first | exact not_false | (intro q_; simp at q_; done) | omega)
      have f18 : V15 nl = some (t, .inr (10, [.int (iI mo), .ref ar, .int (iI (P 2))])) := hs16.at f10 (k := 20) rfl (by first | exact not_false | (intro q_; simp at q_; done) | omega)
      have p19 : AD E V15 t ar (P 2) f := AD.kp p11 hs16 (by intro T k h_; first | exact h_.elim | (obtain ⟨-, rfl⟩ := h_; simp; done) | omega)
      have p20 : TRE V15 t P f sh := TRE.kp p12 hs16 (by intro T k h_; first | exact h_.elim | (obtain ⟨-, rfl⟩ := h_; simp; done) | omega)
      have p21 : RST E V15 t P sl stt tlo := RST.kp p13 hs16 (by intro T k h_; first | exact h_.elim | (obtain ⟨-, rfl⟩ := h_; simp; done) | omega)
      have f22 : V15 nb = some (2, .inr (3, [.int (iI (P 2)), va_rf (if pa = -1000 then none else some (f pa)), .int (iI dx), .int (iI dy), .int (iI dz), .int (iI w1), .int (iI v1), .int (iI 8), .int (iI 0)])) := by rw [eV15]; exact up_s
      have hk : FR (fun T k => T = t ∨ T = 2) w V15 := FR.tr hk hs16 (by intro T k h_; first | exact h_.elim | (obtain ⟨rfl, rfl⟩ := h_; simp; done) | omega)
      refine lv_aload_n hx hb dX2_add_49 rfl (lv_at hl 0 rfl) ?_
      refine j_get hx hb hts hown hV hH f17 rfl in_X2 2 (Nat.le_of_ble_eq_true rfl) q224 (fun _ h => h) rfl dX2_add_50 ?_
      refine lv_aload_n hx hb dX2_add_53 rfl (lv_at hl 1 rfl) ?_
      have p23 : OB V15 nb := OB.of f22 (by omega)
      refine j_calli (va_runV (As := [.ref nb]) (rest := []) ⟨hx, hb, hml, hown, hts⟩ (m_J2_add l V15 nl ar t mo (P 2) f nb (f18) (p19) (p23) (by omega)) (cw_J2_add hts q476 (Nat.le_of_ble_eq_true rfl) (Nat.le_of_ble_eq_true rfl)) (j_preV hV hH f18 rfl) rfl rfl hl.1 rfl (lv_room (Nat.le_of_ble_eq_true rfl)) dX2_add_54 ⟨Nat.le_of_ble_eq_true rfl, Nat.le_of_ble_eq_true rfl⟩) hH (fun z26 U24 H locs hp hH => ?_)
      obtain ⟨b27, hzz26, f28, p29, hs25⟩ := hp
      have f30 : U24 a = some (t, .inr (1, [.int (iI (P 0)), .int (iI (P 1)), .ref nl, .ref sl, .ref stt, va_rf tlo, .int (iI (P 4)), .int (iI (P 5)), .int (iI (P 6))])) := hs25.at f17 (k := 11) rfl (by first | exact not_false | (intro q_; simp at q_; done) | omega)
      have f31 : U24 nb = some (2, .inr (3, [.int (iI (P 2)), va_rf (if pa = -1000 then none else some (f pa)), .int (iI dx), .int (iI dy), .int (iI dz), .int (iI w1), .int (iI v1), .int (iI 8), .int (iI 0)])) := hs25.at f22 (k := 13) rfl (by first | exact not_false | (intro q_; simp at q_; done) | omega)
      have p32 : TRE U24 t P f sh := TRE.kp p20 hs25 (by intro T k h_; first | exact h_.elim | (obtain ⟨-, rfl⟩ := h_; simp; done) | omega)
      have p33 : RST E U24 t P sl stt tlo := RST.kp p21 hs25 (by intro T k h_; first | exact h_.elim | (obtain ⟨-, rfl⟩ := h_; simp; done) | omega)
      have p34 : OB U24 nb := OB.kp p23 hs25
      have hk : FR (fun T k => T = t ∨ T = 2) w U24 := FR.tr hk hs25 (by intro T k h_; first | exact h_.elim | (obtain ⟨rfl, rfl⟩ := h_; simp; done) | omega)
      subst hzz26
      refine lv_istore (lv' := [(5, .int (iI (bI True))), (0, .ref a), (1, .ref nb), (2, .int (iI dx)), (3, .int (iI dy)), (4, .int (iI dz))]) hx hb dX2_add_57 hl (by decide) rfl (fun ls hl => ?_)
      refine lv_aload_n hx hb dX2_add_59 rfl (lv_at hl 2 rfl) ?_
      refine j_get hx hb hts hown hV hH f31 rfl in_X5 0 (Nat.le_of_ble_eq_true rfl) q409 (fun _ h => h) rfl dX2_add_60 ?_
      obtain ⟨V35, eV35⟩ : ∃ V_ : Wl, V_ = up U24 nb (t, .inr (3, [.int (iI (P 2)), va_rf (if pa = -1000 then none else some (f pa)), .int (iI dx), .int (iI dy), .int (iI dz), .int (iI w1), .int (iI v1), .int (iI 8), .int (iI 0)])) := ⟨_, rfl⟩
      have hH := jH_eq (jH_tag t hH f31) eV35
      have hs36 : FR (fun T k => T = 2 ∧ k = 13) U24 V35 := by rw [eV35]; exact FR.one f31 rfl rfl
      have f37 : V35 a = some (t, .inr (1, [.int (iI (P 0)), .int (iI (P 1)), .ref nl, .ref sl, .ref stt, va_rf tlo, .int (iI (P 4)), .int (iI (P 5)), .int (iI (P 6))])) := hs36.at f30 (k := 11) rfl (by first | exact not_false | (intro q_; simp at q_; done) | omega)
      have f38 : V35 nl = some (t, .inr (10, [.int (iI (mo + 1)), .ref b27, .int (iI ((P 2) + 1))])) := hs36.at f28 (k := 20) rfl (by first | exact not_false | (intro q_; simp at q_; done) | omega)
      have p39 : TRE V35 t P f sh := TRE.kp p32 hs36 (by intro T k h_; first | exact h_.elim | (obtain ⟨-, rfl⟩ := h_; simp; done) | omega)
      have p40 : RST E V35 t P sl stt tlo := RST.kp p33 hs36 (by intro T k h_; first | exact h_.elim | (obtain ⟨-, rfl⟩ := h_; simp; done) | omega)
      have p41 : OB V35 nb := OB.kp p34 hs36
      have p42 : AD E V35 t b27 ((P 2) + 1) (upz f (P 2) nb) := AD.kp p29 hs36 (by intro T k h_; first | exact h_.elim | (obtain ⟨-, rfl⟩ := h_; simp; done) | omega)
      have f43 : V35 nb = some (t, .inr (3, [.int (iI (P 2)), va_rf (if pa = -1000 then none else some (f pa)), .int (iI dx), .int (iI dy), .int (iI dz), .int (iI w1), .int (iI v1), .int (iI 8), .int (iI 0)])) := by rw [eV35]; exact up_s
      have hk : FR (fun T k => T = t ∨ T = 2) w V35 := FR.tr hk hs36 (by intro T k h_; first | exact h_.elim | (obtain ⟨rfl, rfl⟩ := h_; simp; done) | omega)
      exact hret V35 hH dX2_add_63 (Nat.le_of_ble_eq_true rfl) (Nat.le_of_ble_eq_true rfl) (⟨by omega, StA.mk2 f37 f38 p42 (TRE.addn hPn (by omega) p39 f43 (fun q_ => by first | rfl | (exfalso; omega)) (fun q_ => by first | rfl | (exfalso; omega))) (p40.ag (fun b hb_ => addP_out (by omega) (by omega))) (addP_out (by omega) (by omega)).symm (addP_out (by omega) (by omega)).symm upz_s.symm (addP_out (by omega) (by omega)).symm (addP_out (by omega) (by omega)).symm (addP_out (by omega) (by omega)).symm, hk⟩)
