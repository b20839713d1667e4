/-! THE SYSTEM's METHODS: the stage's state, and what it is asked -/
set_option maxRecDepth 100000
/-- the settings -/
def sg4 (P : Int → Int) : Int → Int := fun j => if 0 ≤ j ∧ j < 4 then P (7 + j) else 0
/-- a page's scenes in the heap -/
def ScO (w : Wl) (P : Int → Int) (se : Int → Nat) : Prop := ∀ s : Int, 0 ≤ s → s < P 3 → w (se s) = some (1, .inr (5, [.int (iI (sc P s 0)), .int (iI (sc P s 1)), .int (iI (sc P s 2))]))
/-- a page's title in the heap -/
def titO (w : Wl) (P : Int → Int) (tlo : Option Nat) : Prop := (P 13 = 0 ∧ tlo = none) ∨ (0 < P 13 ∧ ∃ r : Nat, tlo = some r ∧ w r = some (1, .inr (6, [.int (iI (P 11)), .int (iI (P 12)), .int (iI (P 13))])))
theorem TRE.kp {C : Nat → Nat → Prop} {w u : Wl} {t : Nat} {P : Int → Int} {f : Int → Nat} {sh : Int → Int} (h : TRE w t P f sh) (k : FR C w u) (hC : ∀ T k : Nat, C T k → ¬ (T = t ∧ (k = 13 ∨ k = 14))) : TRE u t P f sh := fun n p q =>
  ⟨fun r => k.at ((h n p q).1 r) (k := 13) rfl (fun e => hC _ _ e ⟨rfl, Or.inl rfl⟩), fun r => k.at ((h n p q).2 r) (k := 14) rfl (fun e => hC _ _ e ⟨rfl, Or.inr rfl⟩)⟩
theorem ScO.kp {C : Nat → Nat → Prop} {w u : Wl} {P : Int → Int} {se : Int → Nat} (h : ScO w P se) (k : FR C w u) (hC : ∀ T k : Nat, C T k → ¬ (T = 1 ∧ k = 15)) : ScO u P se := fun s p q => k.at (h s p q) (k := 15) rfl (fun e => hC _ _ e ⟨rfl, rfl⟩)
theorem titO.kp {C : Nat → Nat → Prop} {w u : Wl} {P : Int → Int} {tlo : Option Nat} (h : titO w P tlo) (k : FR C w u) (hC : ∀ T k : Nat, C T k → ¬ (T = 1 ∧ k = 16)) : titO u P tlo := by
  rcases h with h | ⟨h1, r, h2, h3⟩
  · exact Or.inl h
  · exact Or.inr ⟨h1, r, h2, k.at h3 (k := 16) rfl (fun e => hC _ _ e ⟨rfl, rfl⟩)⟩
theorem titO.s {w : Wl} {P : Int → Int} {tlo : Option Nat} {r : Nat} (h : titO w P tlo) (hq : tlo = some r) : 0 < P 13 ∧ w r = some (1, .inr (6, [.int (iI (P 11)), .int (iI (P 12)), .int (iI (P 13))])) := by
  rcases h with ⟨-, h⟩ | ⟨h1, r2, h2, h3⟩
  · rw [hq] at h; cases h
  · rw [hq] at h2; cases h2; exact ⟨h1, h3⟩
theorem titO.n {w : Wl} {P : Int → Int} {tlo : Option Nat} (h : titO w P tlo) (hq : tlo = none) : P 13 = 0 := by
  rcases h with ⟨h, -⟩ | ⟨h1, r2, h2, h3⟩
  · exact h
  · rw [hq] at h2; cases h2
theorem TRE.num {w : Wl} {t : Nat} {P : Int → Int} {f : Int → Nat} {sh : Int → Int} (h : TRE w t P f sh) (hP : P 2 ≤ 20) {n m : Int} (hn : 0 ≤ n) (hn2 : n < P 2) (hm : 0 ≤ m) (hm2 : m < P 2) (e : f n = f m) : n = m := by
  have key : ∀ k : Int, 0 ≤ k → k < P 2 → ∃ (c : va_E) (fs : List Value) (ci : Nat), w (f k) = some (t, c) ∧ c = .inr (ci, .int (iI k) :: fs) := by
    intro k p q
    by_cases hb : 0 < nd P k 4
    · exact ⟨_, _, _, (h k p q).1 hb, rfl⟩
    · exact ⟨_, _, _, (h k p q).2 hb, rfl⟩
  obtain ⟨c1, f1, i1, a1, b1⟩ := key n hn hn2
  obtain ⟨c2, f2, i2, a2, b2⟩ := key m hm hm2
  rw [e, a2] at a1
  cases a1
  rw [b2] at b1
  simp only [Sum.inr.injEq, Prod.mk.injEq, List.cons.injEq, Value.int.injEq] at b1
  have e2 := b1.2.1
  first | exact ((iI_eq (a := m) (b := n) (by omega) (by omega)).mp e2).symm | exact (iI_eq (a := n) (b := m) (by omega) (by omega)).mp e2
/-- the stage at a: all its cells have the tag t -/
def StA (E : jE) (w : Wl) (t a : Nat) (P : Int → Int) (f : Int → Nat) (sh : Int → Int) : Prop := ∃ (nl sl stt ar : Nat) (tlo : Option Nat) (mo mo2 : Int) (ch se : Int → Nat), w a = some (t, .inr (1, [.int (iI (P 0)), .int (iI (P 1)), .ref nl, .ref sl, .ref stt, va_rf tlo, .int (iI (P 4)), .int (iI (P 5)), .int (iI (P 6))])) ∧ w nl = some (t, .inr (10, [.int (iI mo), .ref ar, .int (iI (P 2))])) ∧ AD E w t ar (P 2) f ∧ TRE w t P f sh ∧ w sl = some (t, .inr (12, [.int (iI mo2), .int (iI (P 3)), va_rf (hdO (P 3) ch 0), va_rf (prO ch (P 3))])) ∧ LQ w t (P 3) ch se ∧ ScO w P se ∧ w stt = some (t, arI E 4 (sg4 P)) ∧ titO w P tlo
theorem StA.kp {E : jE} {C : Nat → Nat → Prop} {w u : Wl} {t a : Nat} {P : Int → Int} {f : Int → Nat} {sh : Int → Int} (h : StA E w t a P f sh) (k : FR C w u) (hC : ∀ T k : Nat, C T k → T ≠ t ∧ T ≠ 1) : StA E u t a P f sh := by
  obtain ⟨nl, sl, stt, ar, tlo, mo, mo2, ch, se, h1, h2, h3, h4, h5, h6, h7, h8, h9⟩ := h
  have hT : ∀ T k : Nat, C T k → T ≠ t := fun T k q => (hC T k q).1
  have h1' : ∀ T k : Nat, C T k → T ≠ 1 := fun T k q => (hC T k q).2
  exact ⟨nl, sl, stt, ar, tlo, mo, mo2, ch, se, k.at h1 rfl (fun q => hT _ _ q rfl), k.at h2 rfl (fun q => hT _ _ q rfl), h3.kp k (fun T k q e => hT T k q e.1), h4.kp k (fun T k q e => hT T k q e.1), k.at h5 rfl (fun q => hT _ _ q rfl), h6.kp k (fun T k q e => hT T k q e.1), h7.kp k (fun T k q e => h1' T k q e.1), k.at h8 rfl (fun q => hT _ _ q rfl), h9.kp k (fun T k q e => h1' T k q e.1)⟩
theorem StA.mk {E : jE} {w : Wl} {t a nl sl stt ar : Nat} {P : Int → Int} {f : Int → Nat} {sh : Int → Int} {tlo : Option Nat} {mo mo2 x0 x1 x2 x3 x4 x5 x6 : Int} {ch se : Int → Nat} {g : Int → Int}
    (h1 : w a = some (t, .inr (1, [.int (iI x0), .int (iI x1), .ref nl, .ref sl, .ref stt, va_rf tlo, .int (iI x4), .int (iI x5), .int (iI x6)]))) (h2 : w nl = some (t, .inr (10, [.int (iI mo), .ref ar, .int (iI x2)]))) (h3 : AD E w t ar x2 f) (h4 : TRE w t P f sh) (h5 : w sl = some (t, .inr (12, [.int (iI mo2), .int (iI x3), va_rf (hdO x3 ch 0), va_rf (prO ch x3)]))) (h6 : LQ w t x3 ch se) (h7 : ScO w P se) (h8 : w stt = some (t, arI E 4 g)) (h9 : titO w P tlo)
    (e0 : x0 = P 0) (e1 : x1 = P 1) (e2 : x2 = P 2) (e3 : x3 = P 3) (e4 : x4 = P 4) (e5 : x5 = P 5) (e6 : x6 = P 6) (eg : ∀ j : Int, g j = sg4 P j) : StA E w t a P f sh := by
  subst e0 e1 e2 e3 e4 e5 e6
  obtain rfl : g = sg4 P := funext eg
  exact ⟨nl, sl, stt, ar, tlo, mo, mo2, ch, se, h1, h2, h3, h4, h5, h6, h7, h8, h9⟩
/-- another page that says the same of the nodes, of the scenes, of the title -/
theorem TRE.ag {w : Wl} {t : Nat} {P P' : Int → Int} {f : Int → Nat} {sh : Int → Int} (h : TRE w t P f sh) (h2 : P' 2 = P 2) (hn : ∀ n k : Int, 0 ≤ n → n < P 2 → 0 ≤ k → k < 7 → nd P' n k = nd P n k) : TRE w t P' f sh := fun n p q => by
  rw [h2] at q
  have hp : paO P' f n = paO P f n := by unfold paO; rw [hn n 0 p q (by omega) (by omega)]
  have hb : ndB P' f sh n = ndB P f sh n := by unfold ndB; rw [hp, hn n 1 p q (by omega) (by omega), hn n 2 p q (by omega) (by omega), hn n 3 p q (by omega) (by omega), hn n 4 p q (by omega) (by omega), hn n 5 p q (by omega) (by omega), hn n 6 p q (by omega) (by omega)]
  have hg : ndG P' f n = ndG P f n := by unfold ndG; rw [hp, hn n 1 p q (by omega) (by omega), hn n 2 p q (by omega) (by omega), hn n 3 p q (by omega) (by omega)]
  rw [hb, hg, hn n 4 p q (by omega) (by omega)]
  exact h n p q
theorem ScO.ag {w : Wl} {P P' : Int → Int} {se : Int → Nat} (h : ScO w P se) (h3 : P' 3 = P 3) (hn : ∀ s k : Int, 0 ≤ s → s < P 3 → 0 ≤ k → k < 3 → sc P' s k = sc P s k) : ScO w P' se := fun s p q => by
  rw [h3] at q
  rw [hn s 0 p q (by omega) (by omega), hn s 1 p q (by omega) (by omega), hn s 2 p q (by omega) (by omega)]
  exact h s p q
theorem titO.ag {w : Wl} {P P' : Int → Int} {tlo : Option Nat} (h : titO w P tlo) (h1 : P' 11 = P 11) (h2 : P' 12 = P 12) (h3 : P' 13 = P 13) : titO w P' tlo := by
  unfold titO
  rw [h1, h2, h3]
  exact h
/-- the present scene, found from the first on -/
def prsO (P : Int → Int) (k p : Int) : Prop := (k = 0 ∧ p = -1000) ∨ (0 ≤ p ∧ p < k ∧ begO P p ≤ P 4 ∧ (p = k - 1 ∨ P 4 < begO P (p + 1)))
theorem cw_X2_titleLength {R : Room} {s : State} {args : Array Value} {own : String} {index lev mc ms : Nat} (hts : ∀ w ∈ lw_all, w.before args s = true) (hl : Cond.methodLink own index yX2_titleLength ∈ lw_all) (hR1 : (rmL lev mc ms).frames + 1 ≤ R.frames) (hR2 : 8 + (1 + 11) + (rmL lev mc ms).locals ≤ R.locals) : CallW R s args own RX2 index yX2_titleLength cX2_titleLength 1 (some .int) (ws_ yX2_titleLength cX2_titleLength 1 (some .int)) (rmL lev mc ms) mc ms 0 :=
  cwV 0 hts (lw_V hl q939 q940 q109 q941) rfl rfl rfl (by decide +kernel) ⟨hR1, hR2⟩
set_option maxHeartbeats 4000000 in
theorem m_X2_titleLength {E : jE} (l : Launch) (w : Wl) (t : Nat) (a : Nat) (T : Int) (P : Int → Int) (f : Int → Nat) (sh : Int → Int) (h1 : PWF T P) (h2 : StA E w t a P f sh) (h3 : T ≤ 1000000000) : Met l yX2_titleLength (ws_ yX2_titleLength cX2_titleLength 1 (some .int)) (rmL 1 0 0) (va_Pc [.ref a] (jP E w)) (jQi E (fun _ : Unit => w) (fun z _ => z = P 13)) 0 0 (jA E) := by
  refine j_metI (by decide) (Nat.le_of_ble_eq_true rfl) ?_
  intro p e s m args below meth c Q hx hb hml hown hnm hts hV hH hret ls hl
  have hl : lv_has ls 1 [(0, .ref a)] := hl
  have h0 := hH.1.2
  have hP := h1
  have hS := h2
  have hS0 := h2
  obtain ⟨nl, sl, stt, ar, tlo, mo, mo2, ch, se, ha, hnl, hAD, hT, hsl, hLQ, hSc, hst, hti⟩ := hS0
  have hA := hP.A
  have hB := hP.B
  have hC := hP.C
  have hT0 := h3
  refine lv_aload_n hx hb dX2_titleLength_0 rfl (lv_at hl 0 rfl) ?_
  refine j_get hx hb hts hown hV hH ha rfl in_X2 5 (Nat.le_of_ble_eq_true rfl) q234 (fun _ h => h) rfl dX2_titleLength_1 ?_
  rcases hq4 : tlo with _ | r4
  · refine lv_ifnonnullN hx hb dX2_titleLength_4 ?_
    rw [hq4] at ha
    have ht13 := hti.n hq4
    refine j_iconst hx hb dX2_titleLength_7 ?_
    refine lv_goto (tgt := 18) hx hb dX2_titleLength_8 (by decide) ?_
    exact hret () hH dX2_titleLength_18 (Nat.le_of_ble_eq_true rfl) (Nat.le_of_ble_eq_true rfl) (by first | rfl | omega)
  · refine lv_ifnonnull (tgt := 11) hx hb dX2_titleLength_4 (by decide) ?_
    rw [hq4] at ha
    obtain ⟨ht13, htt⟩ := hti.s hq4
    have f1 : w r4 = some (1, .inr (6, [.int (iI (P 11)), .int (iI (P 12)), .int (iI (P 13))])) := htt
    refine lv_aload_n hx hb dX2_titleLength_11 rfl (lv_at hl 0 rfl) ?_
    refine j_get hx hb hts hown hV hH ha rfl in_X2 5 (Nat.le_of_ble_eq_true rfl) q234 (fun _ h => h) rfl dX2_titleLength_12 ?_
    refine j_getN hx hb hts hown hV hH f1 rfl in_X8 2 (Nat.le_of_ble_eq_true rfl) (hV.2.1 _ q1370 rfl) (fun _ h => h) rfl dX2_titleLength_15 ?_
    exact hret () hH dX2_titleLength_18 (Nat.le_of_ble_eq_true rfl) (Nat.le_of_ble_eq_true rfl) (by first | rfl | omega)
theorem cw_X2_begins {R : Room} {s : State} {args : Array Value} {own : String} {index lev mc ms : Nat} (hts : ∀ w ∈ lw_all, w.before args s = true) (hl : Cond.methodLink own index yX2_begins ∈ lw_all) (hR1 : (rmL lev mc ms).frames + 1 ≤ R.frames) (hR2 : 8 + (4 + 11) + (rmL lev mc ms).locals ≤ R.locals) : CallW R s args own RX2 index yX2_begins cX2_begins 4 (some .int) (ws_ yX2_begins cX2_begins 4 (some .int)) (rmL lev mc ms) mc ms 1 :=
  cwV 1 hts (lw_V hl q1941 q1942 q109 q1943) rfl rfl rfl (by decide +kernel) ⟨hR1, hR2⟩
set_option maxHeartbeats 4000000 in
theorem m_X2_begins {E : jE} (l : Launch) (w : Wl) (t : Nat) (a : Nat) (T : Int) (P : Int → Int) (f : Int → Nat) (sh : Int → Int) (s1 : Int) (h1 : PWF T P) (h2 : StA E w t a P f sh) (h3 : T ≤ 1000000000) (h4 : 0 ≤ s1 ∧ s1 ≤ P 3) : Met l yX2_begins (ws_ yX2_begins cX2_begins 4 (some .int)) (rmL 4 0 0) (va_Pc [.ref a, .int (iI s1)] (jP E w)) (jQi E (fun _ : Unit => w) (fun z _ => z = begO P s1)) 0 0 (jA E) := by
  refine j_metI (by decide) (Nat.le_of_ble_eq_true rfl) ?_
  intro p e s m args below meth c Q hx hb hml hown hnm hts hV hH hret ls hl
  have hl : lv_has ls 4 [(0, .ref a), (1, .int (iI s1))] := hl
  have h0 := hH.1.2
  have hP := h1
  have hS := h2
  have hS0 := h2
  obtain ⟨nl, sl, stt, ar, tlo, mo, mo2, ch, se, ha, hnl, hAD, hT, hsl, hLQ, hSc, hst, hti⟩ := hS0
  have hA := hP.A
  have hB := hP.B
  have hC := hP.C
  have hT0 := h3
  refine j_iconst hx hb dX2_begins_0 ?_
  refine j_istore_n (lv' := fun x1 => [(2, .int (iI x1)), (0, .ref a), (1, .int (iI s1))]) hx hb dX2_begins_1 rfl hl (by decide) (fun _ => rfl) (fun x1 ex1 ls hl => ?_)
  refine j_iconst hx hb dX2_begins_2 ?_
  refine j_istore_n (lv' := fun x2 => [(3, .int (iI x2)), (2, .int (iI x1)), (0, .ref a), (1, .int (iI s1))]) hx hb dX2_begins_3 rfl hl (by decide) (fun _ => rfl) (fun x2 ex2 ls hl => ?_)
  have L4 : ∀ (n_ : Nat), ∀ (b : Int) (k : Int) (hm_ : s1 - k < (n_ : Int)) (hk0 : 0 ≤ k ∧ k ≤ s1) (hb0 : b = begO P k) (H : Heap) (locs : List Loc), jH E s.heap w H locs → ∀ ls : Array Slot, lv_has ls 4 [(0, .ref a), (1, .int (iI s1)), (2, .int (iI b)), (3, .int (iI k))] → W p l e (rmL 4 0 0) s m args below meth c H locs 0 0 Q (F0 m 4 ls []) := by
    intro n_
    induction n_ with
    | zero =>
      intro b k hm_ hk0 hb0 H locs hH ls hl
      exact absurd hm_ (by omega)
    | succ n_ ih_4 =>
      intro b k hm_ hk0 hb0 H locs hH ls hl
      have hbb := begO_b hP (s := k) (by omega) (by omega)
      refine lv_iload_n hx hb dX2_begins_4 rfl (lv_at hl 3 rfl) ?_
      refine lv_iload_n hx hb dX2_begins_5 rfl (lv_at hl 1 rfl) ?_
      refine j_icmp_ge (tgt := 32) hx hb dX2_begins_6 (by decide) (by omega) (by omega) (fun c6 => ?_) (fun c6 => ?_)
      · refine lv_iload_n hx hb dX2_begins_32 rfl (lv_at hl 2 rfl) ?_
        exact hret () hH dX2_begins_33 (Nat.le_of_ble_eq_true rfl) (Nat.le_of_ble_eq_true rfl) (by rw [hb0, show k = s1 by omega])
      · refine lv_iload_n hx hb dX2_begins_9 rfl (lv_at hl 2 rfl) ?_
        refine lv_aload_n hx hb dX2_begins_10 rfl (lv_at hl 0 rfl) ?_
        refine j_get hx hb hts hown hV hH ha rfl in_X2 3 (Nat.le_of_ble_eq_true rfl) q227 (fun _ h => h) rfl dX2_begins_11 ?_
        refine lv_iload_n hx hb dX2_begins_14 rfl (lv_at hl 3 rfl) ?_
        refine j_callqp (va_runV (As := [.int (iI k)]) (rest := [.int (iI b)]) ⟨hx, hb, hml, hown, hts⟩ (m_J4_get l _ sl t mo2 (P 3) ch se k (hsl) (by assumption) (by omega)) (cw_J4_get hts q1511 (Nat.le_of_ble_eq_true rfl) (Nat.le_of_ble_eq_true rfl)) (j_preV hV hH hsl rfl) rfl rfl hl.1 rfl (lv_room (Nat.le_of_ble_eq_true rfl)) dX2_begins_15 ⟨Nat.le_of_ble_eq_true rfl, Nat.le_of_ble_eq_true rfl⟩) hH (fun H locs hH => ?_)
        have f3 : w (se k) = some (1, .inr (5, [.int (iI (sc P k 0)), .int (iI (sc P k 1)), .int (iI (sc P k 2))])) := hSc k (by omega) (by omega)
        refine j_castS hx hb hts hown hV hH f3 rfl q1322 dX2_begins_18 ?_
        refine j_getN hx hb hts hown hV hH f3 rfl in_X7 2 (Nat.le_of_ble_eq_true rfl) (hV.2.1 _ q1335 rfl) (fun _ h => h) rfl dX2_begins_21 ?_
        refine j_iadd hx hb dX2_begins_24 ?_
        refine j_istore_n (lv' := fun x4 => [(2, .int (iI x4)), (0, .ref a), (1, .int (iI s1)), (3, .int (iI k))]) hx hb dX2_begins_25 rfl hl (by decide) (fun _ => rfl) (fun x4 ex4 ls hl => ?_)
        refine j_iinc (k := 3) (lv' := fun x5 => [(3, .int (iI x5)), (2, .int (iI x4)), (0, .ref a), (1, .int (iI s1))]) hx hb dX2_begins_26 hl rfl (by decide) (fun _ => rfl) (fun x5 ex5 ls hl => ?_)
        refine lv_goto (tgt := 4) hx hb dX2_begins_29 (by decide) ?_
        exact ih_4 x4 x5 (by omega) (by first | assumption | omega) (by first | (rw [ex4, ex5]; exact (begO_0 P).symm) | (rw [ex4, ex5, begO_s P (by omega)]; omega)) _ _ hH ls (lv_sub hl [2, 3, 1, 0] rfl)
  exact L4 ((s1 - x2).toNat + 1) x1 x2 (by omega) (by first | assumption | omega) (by first | (rw [ex1, ex2]; exact (begO_0 P).symm) | (rw [ex1, ex2, begO_s P (by omega)]; omega)) _ _ hH ls (lv_sub hl [2, 3, 1, 0] rfl)
theorem cw_X2_presentScene {R : Room} {s : State} {args : Array Value} {own : String} {index lev mc ms : Nat} (hts : ∀ w ∈ lw_all, w.before args s = true) (hl : Cond.methodLink own index yX2_presentScene ∈ lw_all) (hR1 : (rmL lev mc ms).frames + 1 ≤ R.frames) (hR2 : 8 + (4 + 11) + (rmL lev mc ms).locals ≤ R.locals) : CallW R s args own RX2 index yX2_presentScene cX2_presentScene 4 (some .int) (ws_ yX2_presentScene cX2_presentScene 4 (some .int)) (rmL lev mc ms) mc ms 0 :=
  cwV 0 hts (lw_V hl q1508 q1509 q109 q1510) rfl rfl rfl (by decide +kernel) ⟨hR1, hR2⟩
set_option maxHeartbeats 4000000 in
theorem m_X2_presentScene {E : jE} (l : Launch) (w : Wl) (t : Nat) (a : Nat) (T : Int) (P : Int → Int) (f : Int → Nat) (sh : Int → Int) (h1 : PWF T P) (h2 : StA E w t a P f sh) (h3 : T ≤ 1000000000) : Met l yX2_presentScene (ws_ yX2_presentScene cX2_presentScene 4 (some .int)) (rmL 4 0 0) (va_Pc [.ref a] (jP E w)) (jQi E (fun _ : Unit => w) (fun z _ => z = nowO P)) 0 0 (jA E) := by
  refine j_metI (by decide) (Nat.le_of_ble_eq_true rfl) ?_
  intro p e s m args below meth c Q hx hb hml hown hnm hts hV hH hret ls hl
  have hl : lv_has ls 4 [(0, .ref a)] := hl
  have h0 := hH.1.2
  have hP := h1
  have hS := h2
  have hS0 := h2
  obtain ⟨nl, sl, stt, ar, tlo, mo, mo2, ch, se, ha, hnl, hAD, hT, hsl, hLQ, hSc, hst, hti⟩ := hS0
  have hA := hP.A
  have hB := hP.B
  have hC := hP.C
  have hT0 := h3
  refine j_iconst hx hb dX2_presentScene_0 ?_
  refine j_istore_n (lv' := fun x1 => [(1, .int (iI x1)), (0, .ref a)]) hx hb dX2_presentScene_1 rfl hl (by decide) (fun _ => rfl) (fun x1 ex1 ls hl => ?_)
  refine j_sipush hx hb dX2_presentScene_2 (by decide) ?_
  refine j_istore_n (lv' := fun x2 => [(2, .int (iI x2)), (1, .int (iI x1)), (0, .ref a)]) hx hb dX2_presentScene_5 rfl hl (by decide) (fun _ => rfl) (fun x2 ex2 ls hl => ?_)
  refine j_iconst hx hb dX2_presentScene_6 ?_
  refine j_istore_n (lv' := fun x3 => [(3, .int (iI x3)), (2, .int (iI x2)), (1, .int (iI x1)), (0, .ref a)]) hx hb dX2_presentScene_7 rfl hl (by decide) (fun _ => rfl) (fun x3 ex3 ls hl => ?_)
  have L8 : ∀ (n_ : Nat), ∀ (b : Int) (p2 : Int) (k : Int) (hm_ : P 3 - k < (n_ : Int)) (hk0 : 0 ≤ k ∧ k ≤ P 3) (hb0 : b = begO P k) (hp0 : prsO P k p2) (H : Heap) (locs : List Loc), jH E s.heap w H locs → ∀ ls : Array Slot, lv_has ls 4 [(0, .ref a), (1, .int (iI b)), (2, .int (iI p2)), (3, .int (iI k))] → W p l e (rmL 4 0 0) s m args below meth c H locs 0 0 Q (F0 m 8 ls []) := by
    intro n_
    induction n_ with
    | zero =>
      intro b p2 k hm_ hk0 hb0 hp0 H locs hH ls hl
      exact absurd hm_ (by omega)
    | succ n_ ih_8 =>
      intro b p2 k hm_ hk0 hb0 hp0 H locs hH ls hl
      have hbb := begO_b hP (s := k) (by omega) (by omega)
      have hpp : p2 = -1000 ∨ (0 ≤ p2 ∧ p2 < k) := by unfold prsO at hp0; omega
      refine lv_iload_n hx hb dX2_presentScene_8 rfl (lv_at hl 3 rfl) ?_
      refine lv_aload_n hx hb dX2_presentScene_9 rfl (lv_at hl 0 rfl) ?_
      refine j_get hx hb hts hown hV hH ha rfl in_X2 3 (Nat.le_of_ble_eq_true rfl) q227 (fun _ h => h) rfl dX2_presentScene_10 ?_
      refine j_callip (va_runV (As := []) (rest := [.int (iI k)]) ⟨hx, hb, hml, hown, hts⟩ (m_J4_size l _ sl t mo2 (P 3) (hdO (P 3) ch 0) (prO ch (P 3)) (hsl)) (cw_J4_size hts q1317 (Nat.le_of_ble_eq_true rfl) (Nat.le_of_ble_eq_true rfl)) (j_preV hV hH hsl rfl) rfl rfl hl.1 rfl (lv_room (Nat.le_of_ble_eq_true rfl)) dX2_presentScene_13 ⟨Nat.le_of_ble_eq_true rfl, Nat.le_of_ble_eq_true rfl⟩) hH (fun H locs hH => ?_)
      refine j_icmp_ge (tgt := 56) hx hb dX2_presentScene_16 (by decide) (by omega) (by omega) (fun c16 => ?_) (fun c16 => ?_)
      · refine lv_iload_n hx hb dX2_presentScene_56 rfl (lv_at hl 2 rfl) ?_
        exact hret () hH dX2_presentScene_57 (Nat.le_of_ble_eq_true rfl) (Nat.le_of_ble_eq_true rfl) (by have hk3 : k = P 3 := (by omega); unfold prsO at hp0; refine nowO_of hP ?_; unfold isNow; rw [hk3] at hp0; rcases hp0 with q | ⟨q1, q2, q3, q4⟩; exact Or.inl ⟨q.1, q.2⟩; exact Or.inr ⟨q1, q2, q3, q4⟩)
      · refine lv_aload_n hx hb dX2_presentScene_19 rfl (lv_at hl 0 rfl) ?_
        refine j_get hx hb hts hown hV hH ha rfl in_X2 6 (Nat.le_of_ble_eq_true rfl) q235 (fun _ h => h) rfl dX2_presentScene_20 ?_
        refine lv_iload_n hx hb dX2_presentScene_23 rfl (lv_at hl 1 rfl) ?_
        refine j_icmp_lt (tgt := 31) hx hb dX2_presentScene_24 (by decide) (by omega) (by omega) (fun c24 => ?_) (fun c24 => ?_)
        · refine lv_iload_n hx hb dX2_presentScene_31 rfl (lv_at hl 2 rfl) ?_
          refine j_istore_n (lv' := fun x4 => [(2, .int (iI x4)), (0, .ref a), (1, .int (iI b)), (3, .int (iI k))]) hx hb dX2_presentScene_32 rfl hl (by decide) (fun _ => rfl) (fun x4 ex4 ls hl => ?_)
          refine lv_iload_n hx hb dX2_presentScene_33 rfl (lv_at hl 2 rfl) ?_
          refine lv_aload_n hx hb dX2_presentScene_34 rfl (lv_at hl 1 rfl) ?_
          refine j_get hx hb hts hown hV hH ha rfl in_X2 3 (Nat.le_of_ble_eq_true rfl) q227 (fun _ h => h) rfl dX2_presentScene_35 ?_
          refine lv_iload_n hx hb dX2_presentScene_38 rfl (lv_at hl 3 rfl) ?_
          refine j_callqp (va_runV (As := [.int (iI k)]) (rest := [.int (iI b)]) ⟨hx, hb, hml, hown, hts⟩ (m_J4_get l _ sl t mo2 (P 3) ch se k (hsl) (by assumption) (by omega)) (cw_J4_get hts q1511 (Nat.le_of_ble_eq_true rfl) (Nat.le_of_ble_eq_true rfl)) (j_preV hV hH hsl rfl) rfl rfl hl.1 rfl (lv_room (Nat.le_of_ble_eq_true rfl)) dX2_presentScene_39 ⟨Nat.le_of_ble_eq_true rfl, Nat.le_of_ble_eq_true rfl⟩) hH (fun H locs hH => ?_)
          have f5 : w (se k) = some (1, .inr (5, [.int (iI (sc P k 0)), .int (iI (sc P k 1)), .int (iI (sc P k 2))])) := hSc k (by omega) (by omega)
          refine j_castS hx hb hts hown hV hH f5 rfl q1322 dX2_presentScene_42 ?_
          refine j_getN hx hb hts hown hV hH f5 rfl in_X7 2 (Nat.le_of_ble_eq_true rfl) (hV.2.1 _ q1335 rfl) (fun _ h => h) rfl dX2_presentScene_45 ?_
          refine j_iadd hx hb dX2_presentScene_48 ?_
          refine j_istore_n (lv' := fun x6 => [(1, .int (iI x6)), (2, .int (iI x4)), (0, .ref a), (3, .int (iI k))]) hx hb dX2_presentScene_49 rfl hl (by decide) (fun _ => rfl) (fun x6 ex6 ls hl => ?_)
          refine j_iinc (k := 3) (lv' := fun x7 => [(3, .int (iI x7)), (1, .int (iI x6)), (2, .int (iI x4)), (0, .ref a)]) hx hb dX2_presentScene_50 hl rfl (by decide) (fun _ => rfl) (fun x7 ex7 ls hl => ?_)
          refine lv_goto (tgt := 8) hx hb dX2_presentScene_53 (by decide) ?_
          exact ih_8 x6 x4 x7 (by omega) (by first | assumption | omega) (by first | (rw [ex6, ex7]; exact (begO_0 P).symm) | (rw [ex6, ex7, begO_s P (by omega)]; omega)) (by first | exact Or.inl ⟨by omega, by omega⟩ | (unfold prsO at hp0 ⊢; rw [ex4, ex7]; first | (refine Or.inr ⟨by omega, by omega, by omega, Or.inl (by omega)⟩) | (rcases hp0 with hp0 | ⟨q1, q2, q3, q4⟩; (exact absurd c24 (by rw [hb0, hp0.1, begO_0]; omega)); (refine Or.inr ⟨q1, by omega, q3, Or.inr ?_⟩; rcases q4 with q4 | q4; (rw [q4, show k - 1 + 1 = k by omega]; omega); exact q4)))) _ _ hH ls (lv_sub hl [3, 1, 2, 0] rfl)
        · refine lv_iload_n hx hb dX2_presentScene_27 rfl (lv_at hl 3 rfl) ?_
          refine lv_goto (tgt := 32) hx hb dX2_presentScene_28 (by decide) ?_
          refine j_istore_n (lv' := fun x8 => [(2, .int (iI x8)), (0, .ref a), (1, .int (iI b)), (3, .int (iI k))]) hx hb dX2_presentScene_32 rfl hl (by decide) (fun _ => rfl) (fun x8 ex8 ls hl => ?_)
          refine lv_iload_n hx hb dX2_presentScene_33 rfl (lv_at hl 2 rfl) ?_
          refine lv_aload_n hx hb dX2_presentScene_34 rfl (lv_at hl 1 rfl) ?_
          refine j_get hx hb hts hown hV hH ha rfl in_X2 3 (Nat.le_of_ble_eq_true rfl) q227 (fun _ h => h) rfl dX2_presentScene_35 ?_
          refine lv_iload_n hx hb dX2_presentScene_38 rfl (lv_at hl 3 rfl) ?_
          refine j_callqp (va_runV (As := [.int (iI k)]) (rest := [.int (iI b)]) ⟨hx, hb, hml, hown, hts⟩ (m_J4_get l _ sl t mo2 (P 3) ch se k (hsl) (by assumption) (by omega)) (cw_J4_get hts q1511 (Nat.le_of_ble_eq_true rfl) (Nat.le_of_ble_eq_true rfl)) (j_preV hV hH hsl rfl) rfl rfl hl.1 rfl (lv_room (Nat.le_of_ble_eq_true rfl)) dX2_presentScene_39 ⟨Nat.le_of_ble_eq_true rfl, Nat.le_of_ble_eq_true rfl⟩) hH (fun H locs hH => ?_)
          have f9 : w (se k) = some (1, .inr (5, [.int (iI (sc P k 0)), .int (iI (sc P k 1)), .int (iI (sc P k 2))])) := hSc k (by omega) (by omega)
          refine j_castS hx hb hts hown hV hH f9 rfl q1322 dX2_presentScene_42 ?_
          refine j_getN hx hb hts hown hV hH f9 rfl in_X7 2 (Nat.le_of_ble_eq_true rfl) (hV.2.1 _ q1335 rfl) (fun _ h => h) rfl dX2_presentScene_45 ?_
          refine j_iadd hx hb dX2_presentScene_48 ?_
          refine j_istore_n (lv' := fun x10 => [(1, .int (iI x10)), (2, .int (iI x8)), (0, .ref a), (3, .int (iI k))]) hx hb dX2_presentScene_49 rfl hl (by decide) (fun _ => rfl) (fun x10 ex10 ls hl => ?_)
          refine j_iinc (k := 3) (lv' := fun x11 => [(3, .int (iI x11)), (1, .int (iI x10)), (2, .int (iI x8)), (0, .ref a)]) hx hb dX2_presentScene_50 hl rfl (by decide) (fun _ => rfl) (fun x11 ex11 ls hl => ?_)
          refine lv_goto (tgt := 8) hx hb dX2_presentScene_53 (by decide) ?_
          exact ih_8 x10 x8 x11 (by omega) (by first | assumption | omega) (by first | (rw [ex10, ex11]; exact (begO_0 P).symm) | (rw [ex10, ex11, begO_s P (by omega)]; omega)) (by first | exact Or.inl ⟨by omega, by omega⟩ | (unfold prsO at hp0 ⊢; rw [ex8, ex11]; first | (refine Or.inr ⟨by omega, by omega, by omega, Or.inl (by omega)⟩) | (rcases hp0 with hp0 | ⟨q1, q2, q3, q4⟩; (exact absurd c24 (by rw [hb0, hp0.1, begO_0]; omega)); (refine Or.inr ⟨q1, by omega, q3, Or.inr ?_⟩; rcases q4 with q4 | q4; (rw [q4, show k - 1 + 1 = k by omega]; omega); exact q4)))) _ _ hH ls (lv_sub hl [3, 1, 2, 0] rfl)
  exact L8 ((P 3 - x3).toNat + 1) x1 x2 x3 (by omega) (by first | assumption | omega) (by first | (rw [ex1, ex3]; exact (begO_0 P).symm) | (rw [ex1, ex3, begO_s P (by omega)]; omega)) (by first | exact Or.inl ⟨by omega, by omega⟩ | (unfold prsO at hp0 ⊢; rw [ex2, ex3]; first | (refine Or.inr ⟨by omega, by omega, by omega, Or.inl (by omega)⟩) | (rcases hp0 with hp0 | ⟨q1, q2, q3, q4⟩; (exact absurd c24 (by rw [hb0, hp0.1, begO_0]; omega)); (refine Or.inr ⟨q1, by omega, q3, Or.inr ?_⟩; rcases q4 with q4 | q4; (rw [q4, show k - 1 + 1 = k by omega]; omega); exact q4)))) _ _ hH ls (lv_sub hl [3, 2, 1, 0] rfl)
