/-! THE SYSTEM's METHODS: a stage is copied -/
set_option maxRecDepth 100000
section JCOPY
variable {p : Program} {l : Launch} {e : Env} {R : Room} {s : State} {m : MethodId} {args : Array Value} {below : List Frame} {meth : Method} {c : Code} {H : Heap} {locs : List Loc} {cells slots : Nat} {Q : State → Prop}
variable {cc : ByteArray} {pc : Nat} {ls : Array Slot} {rest : List Value} {E : jE} {w : Wl} {H0 : Heap}
theorem j_castAi {a0 t n index : Nat} {g : Int → Int} {own : String} (hx : p.tables.exec = Jvm.exec) (hb : c.code = cc) (hts : ∀ w ∈ lw_all, w.before args s = true) (hown : s.vm.findClass own = some m.cls) (hV : jV E s) (hH : jH E H0 w H locs) (hw : w a0 = some (t, arI E n g)) (hlink : Cond.classLink own index "[I" ∈ lw_all) (d : decode cc pc = .ok (.checkcast index, 3)) (kk : W p l e R s m args below meth c H locs cells slots Q (F0 m (pc + 3) ls (.ref a0 :: rest))) : W p l e R s m args below meth c H locs cells slots Q (F0 m pc ls (.ref a0 :: rest)) := by
  have h := (hH.1.1 a0 t _ hw).1
  have hP : va_P E.1 vwCl [(a0, arI E n g)] H := by
    intro k q hk
    cases k with
    | zero => cases hk; exact h
    | succ k => simp at hk
  exact va_castA hx hb hown (hts _ hlink) hP 0 rfl (hV.1.2 0 (E.2.1 0, .int) rfl).2 d kk
end JCOPY
theorem TREk.tre {w : Wl} {t : Nat} {P : Int → Int} {f : Int → Nat} {sh : Int → Int} {N : Int} (h : TREk w t P f sh N) (e : N = P 2) : TRE w t P f sh := by subst e; exact h
theorem cw_X2_copy {R : Room} {s : State} {args : Array Value} {own : String} {index lev mc ms : Nat} (hts : ∀ w ∈ lw_all, w.before args s = true) (hl : Cond.methodLink own index yX2_copy ∈ lw_all) (hR1 : (rmL lev mc ms).frames + 1 ≤ R.frames) (hR2 : 8 + (6 + 11) + (rmL lev mc ms).locals ≤ R.locals) : CallW R s args own RX2 index yX2_copy cX2_copy 6 (some (.object "EyeStage$Stage")) (ws_ yX2_copy cX2_copy 6 (some (.object "EyeStage$Stage"))) (rmL lev mc ms) mc ms 0 :=
  cwV 0 hts (lw_V hl q303 q304 q109 q305) rfl rfl rfl (by decide +kernel) ⟨hR1, hR2⟩
set_option maxHeartbeats 4000000 in
theorem m_X2_copy {E : jE} (l : Launch) (w : Wl) (t : Nat) (a : Nat) (T : Int) (P : Int → Int) (f : Int → Nat) (sh : Int → Int) (tg : Nat) (h1 : PWF T P) (h2 : StA E w t a P f sh) (h3 : T ≤ 900000000) (h4 : 3 ≤ t) (h5 : tg ≠ t ∧ tg ≠ 1 ∧ tg ≠ 2) : Met l yX2_copy (ws_ yX2_copy cX2_copy 6 (some (.object "EyeStage$Stage"))) (rmL 9 120 2700) (va_Pc [.ref a] (jP E w)) (jQq E (fun u : Wl => u) (fun z u => ∃ (b : Nat) (f2 : Int → Nat), z = some b ∧ (StA E u tg b P f2 (fun _ => 0)) ∧ (w b = none) ∧ FR (fun T k => T = tg ∨ T = 2) w u)) 120 2700 (jA E) := by
  refine j_metQ (by decide) (Nat.le_of_ble_eq_true rfl) (Or.inl ⟨_, rfl⟩) ?_
  intro p e s m args below meth c Q hx hb hml hown hnm hts hV hH hret ls hl
  have hl : lv_has ls 6 [(0, .ref a)] := hl
  have h0 := hH.1.2
  have hR0 := hH.1
  have hk : FR (fun T k => T = tg ∨ T = 2) w w := FR.rf
  have hP := h1
  have hS := h2
  have hS0 := h2
  obtain ⟨nl, sl, stt, ar, tlo, mo, mo2, ch, se, ha, hnl, hAD, hT, hsl, hLQ, hSc, hst, hti⟩ := hS0
  have hA := hP.A
  have hB := hP.B
  have hC := hP.C
  have hT0 := h3
  have f1 : w a = some (t, .inr (1, [.int (iI (P 0)), .int (iI (P 1)), .ref nl, .ref sl, .ref stt, va_rf tlo, .int (iI (P 4)), .int (iI (P 5)), .int (iI (P 6))])) := ha
  have f2 : w nl = some (t, .inr (10, [.int (iI mo), .ref ar, .int (iI (P 2))])) := hnl
  have f3 : w sl = some (t, .inr (12, [.int (iI mo2), .int (iI (P 3)), va_rf (hdO (P 3) ch 0), va_rf (prO ch (P 3))])) := hsl
  have f4 : w stt = some (t, arI E 4 (sg4 P)) := hst
  have p5 : AD E w t ar (P 2) f := hAD
  have p6 : TRE w t P f sh := hT
  have p7 : LQ w t (P 3) ch se := hLQ
  have p8 : ScO w P se := hSc
  have p9 : titO w P tlo := hti
  refine j_new (ci := 1) hx hb hts hown hV hH rfl in_X2 tyX2 tyX2_ok q306 q161 q109 [.int (iI 0), .int (iI 0), .null, .null, .null, .null, .int (iI 0), .int (iI 0), .int (iI 0)] (fun j hj => by rcases j with _ | _ | _ | _ | _ | _ | _ | _ | _ | j <;> first | rfl | omega) (Nat.le_of_ble_eq_true rfl) (Nat.le_of_ble_eq_true rfl) dX2_copy_0 (fun r0 H er0 zr0 nr0 hH => ?_)
  have hH := hH tg
  obtain ⟨V10, eV10⟩ : ∃ V_ : Wl, V_ = up w r0 (tg, .inr (1, [.int (iI 0), .int (iI 0), .null, .null, .null, .null, .int (iI 0), .int (iI 0), .int (iI 0)])) := ⟨_, rfl⟩
  have hH := jH_eq hH eV10
  have nwr0 : w r0 = none := hk.non_ nr0
  have ne12 : a ≠ r0 := ne_fr f1 nr0
  have hs11 : FR (fun _ _ => False) w V10 := by rw [eV10]; exact FR.new1 nr0
  have f13 : V10 a = some (t, .inr (1, [.int (iI (P 0)), .int (iI (P 1)), .ref nl, .ref sl, .ref stt, va_rf tlo, .int (iI (P 4)), .int (iI (P 5)), .int (iI (P 6))])) := hs11.at f1 (k := 11) rfl (by first | exact not_false | (intro q_; simp at q_; done) | omega)
  have f14 : V10 nl = some (t, .inr (10, [.int (iI mo), .ref ar, .int (iI (P 2))])) := hs11.at f2 (k := 20) rfl (by first | exact not_false | (intro q_; simp at q_; done) | omega)
  have f15 : V10 sl = some (t, .inr (12, [.int (iI mo2), .int (iI (P 3)), va_rf (hdO (P 3) ch 0), va_rf (prO ch (P 3))])) := hs11.at f3 (k := 22) rfl (by first | exact not_false | (intro q_; simp at q_; done) | omega)
  have f16 : V10 stt = some (t, arI E 4 (sg4 P)) := hs11.at f4 (k := 0) rfl (by first | exact not_false | (intro q_; simp at q_; done) | omega)
  have p17 : AD E V10 t ar (P 2) f := AD.kp p5 hs11 (by intro T k h_; first | exact h_.elim | (obtain ⟨-, rfl⟩ := h_; simp; done) | omega)
  have p18 : TRE V10 t P f sh := TRE.kp p6 hs11 (by intro T k h_; first | exact h_.elim | (obtain ⟨-, rfl⟩ := h_; simp; done) | omega)
  have p19 : LQ V10 t (P 3) ch se := LQ.kp p7 hs11 (by intro T k h_; first | exact h_.elim | (obtain ⟨-, rfl⟩ := h_; simp; done) | omega)
  have p20 : ScO V10 P se := ScO.kp p8 hs11 (by intro T k h_; first | exact h_.elim | (obtain ⟨-, rfl⟩ := h_; simp; done) | omega)
  have p21 : titO V10 P tlo := titO.kp p9 hs11 (by intro T k h_; first | exact h_.elim | (obtain ⟨-, rfl⟩ := h_; simp; done) | omega)
  have f22 : V10 r0 = some (tg, .inr (1, [.int (iI 0), .int (iI 0), .null, .null, .null, .null, .int (iI 0), .int (iI 0), .int (iI 0)])) := by rw [eV10]; exact up_s
  have hk : FR (fun T k => T = tg ∨ T = 2) w V10 := FR.tr hk hs11 (by intro T k h_; exact h_.elim)
  refine lv_dup hx hb dX2_copy_3 rfl ?_
  refine lv_aload_n hx hb dX2_copy_4 rfl (lv_at hl 0 rfl) ?_
  refine j_get hx hb hts hown hV hH f13 rfl in_X2 0 (Nat.le_of_ble_eq_true rfl) q218 (fun _ h => h) rfl dX2_copy_5 ?_
  refine lv_aload_n hx hb dX2_copy_8 rfl (lv_at hl 0 rfl) ?_
  refine j_get hx hb hts hown hV hH f13 rfl in_X2 1 (Nat.le_of_ble_eq_true rfl) q221 (fun _ h => h) rfl dX2_copy_9 ?_
  refine lv_aload_n hx hb dX2_copy_12 rfl (lv_at hl 0 rfl) ?_
  refine j_get hx hb hts hown hV hH f13 rfl in_X2 4 (Nat.le_of_ble_eq_true rfl) q230 (fun _ h => h) rfl dX2_copy_13 ?_
  refine j_clonei hx hb (hml.trans hl.1.symm) hts hown hV h0 hH q307 q308 q309 q310 q311 (hV.2.1 _ q312 rfl) f16 (Nat.le_of_ble_eq_true rfl) (Nat.le_of_ble_eq_true rfl) (Nat.le_of_ble_eq_true rfl) (Nat.le_of_ble_eq_true rfl) dX2_copy_16 (fun r16 H nr16 hH => ?_)
  have hH := hH tg
  obtain ⟨V23, eV23⟩ : ∃ V_ : Wl, V_ = up V10 r16 (tg, arI E 4 (sg4 P)) := ⟨_, rfl⟩
  have hH := jH_eq hH eV23
  have nwr16 : w r16 = none := hk.non_ nr16
  have ne25 : stt ≠ r16 := ne_fr f16 nr16
  have hs24 : FR (fun _ _ => False) V10 V23 := by rw [eV23]; exact FR.new1 nr16
  have f26 : V23 a = some (t, .inr (1, [.int (iI (P 0)), .int (iI (P 1)), .ref nl, .ref sl, .ref stt, va_rf tlo, .int (iI (P 4)), .int (iI (P 5)), .int (iI (P 6))])) := hs24.at f13 (k := 11) rfl (by first | exact not_false | (intro q_; simp at q_; done) | omega)
  have f27 : V23 nl = some (t, .inr (10, [.int (iI mo), .ref ar, .int (iI (P 2))])) := hs24.at f14 (k := 20) rfl (by first | exact not_false | (intro q_; simp at q_; done) | omega)
  have f28 : V23 sl = some (t, .inr (12, [.int (iI mo2), .int (iI (P 3)), va_rf (hdO (P 3) ch 0), va_rf (prO ch (P 3))])) := hs24.at f15 (k := 22) rfl (by first | exact not_false | (intro q_; simp at q_; done) | omega)
  have f29 : V23 stt = some (t, arI E 4 (sg4 P)) := hs24.at f16 (k := 0) rfl (by first | exact not_false | (intro q_; simp at q_; done) | omega)
  have f30 : V23 r0 = some (tg, .inr (1, [.int (iI 0), .int (iI 0), .null, .null, .null, .null, .int (iI 0), .int (iI 0), .int (iI 0)])) := hs24.at f22 (k := 11) rfl (by first | exact not_false | (intro q_; simp at q_; done) | omega)
  have p31 : AD E V23 t ar (P 2) f := AD.kp p17 hs24 (by intro T k h_; first | exact h_.elim | (obtain ⟨-, rfl⟩ := h_; simp; done) | omega)
  have p32 : TRE V23 t P f sh := TRE.kp p18 hs24 (by intro T k h_; first | exact h_.elim | (obtain ⟨-, rfl⟩ := h_; simp; done) | omega)
  have p33 : LQ V23 t (P 3) ch se := LQ.kp p19 hs24 (by intro T k h_; first | exact h_.elim | (obtain ⟨-, rfl⟩ := h_; simp; done) | omega)
  have p34 : ScO V23 P se := ScO.kp p20 hs24 (by intro T k h_; first | exact h_.elim | (obtain ⟨-, rfl⟩ := h_; simp; done) | omega)
  have p35 : titO V23 P tlo := titO.kp p21 hs24 (by intro T k h_; first | exact h_.elim | (obtain ⟨-, rfl⟩ := h_; simp; done) | omega)
  have f36 : V23 r16 = some (tg, arI E 4 (sg4 P)) := by rw [eV23]; exact up_s
  have hk : FR (fun T k => T = tg ∨ T = 2) w V23 := FR.tr hk hs24 (by intro T k h_; exact h_.elim)
  refine j_castAi hx hb hts hown hV hH f36 q313 dX2_copy_19 ?_
  refine j_callv (va_runI (As := [.int (iI (P 0)), .int (iI (P 1)), .ref r16]) (rest := [.ref r0]) ⟨hx, hb, hml, hown, hts⟩ (m_X2_init l V23 r0 tg (.int (iI 0)) (.int (iI 0)) .null .null .null .null (.int (iI 0)) (.int (iI 0)) (.int (iI 0)) (P 0) (P 1) r16 (f30)) (cw_X2_init hts q314 (Nat.le_of_ble_eq_true rfl) (Nat.le_of_ble_eq_true rfl)) (j_preS hV hH) rfl rfl hl.1 rfl (lv_room (Nat.le_of_ble_eq_true rfl)) dX2_copy_22 ⟨Nat.le_of_ble_eq_true rfl, Nat.le_of_ble_eq_true rfl⟩) hH (fun U37 H locs hp hH => ?_)
  obtain ⟨nl39, sl40, f41, f42, f43, hs38⟩ := hp
  have f44 : U37 a = some (t, .inr (1, [.int (iI (P 0)), .int (iI (P 1)), .ref nl, .ref sl, .ref stt, va_rf tlo, .int (iI (P 4)), .int (iI (P 5)), .int (iI (P 6))])) := hs38.at f26 (k := 11) rfl (by first | exact not_false | (intro q_; simp at q_; done) | omega)
  have f45 : U37 nl = some (t, .inr (10, [.int (iI mo), .ref ar, .int (iI (P 2))])) := hs38.at f27 (k := 20) rfl (by first | exact not_false | (intro q_; simp at q_; done) | omega)
  have f46 : U37 sl = some (t, .inr (12, [.int (iI mo2), .int (iI (P 3)), va_rf (hdO (P 3) ch 0), va_rf (prO ch (P 3))])) := hs38.at f28 (k := 22) rfl (by first | exact not_false | (intro q_; simp at q_; done) | omega)
  have f47 : U37 stt = some (t, arI E 4 (sg4 P)) := hs38.at f29 (k := 0) rfl (by first | exact not_false | (intro q_; simp at q_; done) | omega)
  have f48 : U37 r16 = some (tg, arI E 4 (sg4 P)) := hs38.at f36 (k := 0) rfl (by first | exact not_false | (intro q_; simp at q_; done) | omega)
  have p49 : AD E U37 t ar (P 2) f := AD.kp p31 hs38 (by intro T k h_; first | exact h_.elim | (obtain ⟨-, rfl⟩ := h_; simp; done) | omega)
  have p50 : TRE U37 t P f sh := TRE.kp p32 hs38 (by intro T k h_; first | exact h_.elim | (obtain ⟨-, rfl⟩ := h_; simp; done) | omega)
  have p51 : LQ U37 t (P 3) ch se := LQ.kp p33 hs38 (by intro T k h_; first | exact h_.elim | (obtain ⟨-, rfl⟩ := h_; simp; done) | omega)
  have p52 : ScO U37 P se := ScO.kp p34 hs38 (by intro T k h_; first | exact h_.elim | (obtain ⟨-, rfl⟩ := h_; simp; done) | omega)
  have p53 : titO U37 P tlo := titO.kp p35 hs38 (by intro T k h_; first | exact h_.elim | (obtain ⟨-, rfl⟩ := h_; simp; done) | omega)
  have hk : FR (fun T k => T = tg ∨ T = 2) w U37 := FR.tr hk hs38 (by intro T k h_; first | exact h_.elim | (obtain ⟨rfl, rfl⟩ := h_; simp; done) | omega)
  refine lv_astore_n (lv' := [(1, .ref r0), (0, .ref a)]) hx hb dX2_copy_25 rfl hl (by decide) rfl (fun ls hl => ?_)
  refine lv_aload_n hx hb dX2_copy_26 rfl (lv_at hl 1 rfl) ?_
  refine j_get hx hb hts hown hV hH f44 rfl in_X2 2 (Nat.le_of_ble_eq_true rfl) q224 (fun _ h => h) rfl dX2_copy_27 ?_
  refine j_callq (va_runV (As := []) (rest := []) ⟨hx, hb, hml, hown, hts⟩ (m_J2_iterator l U37 nl ar t mo (P 2) (f45)) (cw_J2_iterator hts q315 (Nat.le_of_ble_eq_true rfl) (Nat.le_of_ble_eq_true rfl)) (j_preV hV hH f45 rfl) rfl rfl hl.1 rfl (lv_room (Nat.le_of_ble_eq_true rfl)) dX2_copy_30 ⟨Nat.le_of_ble_eq_true rfl, Nat.le_of_ble_eq_true rfl⟩) hH (fun z56 U54 H locs hp hH => ?_)
  obtain ⟨it57, hzz56, f58, hit_30, hs55⟩ := hp
  have f59 : U54 a = some (t, .inr (1, [.int (iI (P 0)), .int (iI (P 1)), .ref nl, .ref sl, .ref stt, va_rf tlo, .int (iI (P 4)), .int (iI (P 5)), .int (iI (P 6))])) := hs55.at f44 (k := 11) rfl (by first | exact not_false | (intro q_; simp at q_; done) | omega)
  have f60 : U54 nl = some (t, .inr (10, [.int (iI mo), .ref ar, .int (iI (P 2))])) := hs55.at f45 (k := 20) rfl (by first | exact not_false | (intro q_; simp at q_; done) | omega)
  have f61 : U54 sl = some (t, .inr (12, [.int (iI mo2), .int (iI (P 3)), va_rf (hdO (P 3) ch 0), va_rf (prO ch (P 3))])) := hs55.at f46 (k := 22) rfl (by first | exact not_false | (intro q_; simp at q_; done) | omega)
  have f62 : U54 stt = some (t, arI E 4 (sg4 P)) := hs55.at f47 (k := 0) rfl (by first | exact not_false | (intro q_; simp at q_; done) | omega)
  have f63 : U54 r16 = some (tg, arI E 4 (sg4 P)) := hs55.at f48 (k := 0) rfl (by first | exact not_false | (intro q_; simp at q_; done) | omega)
  have f64 : U54 r0 = some (tg, .inr (1, [.int (iI (P 0)), .int (iI (P 1)), .ref nl39, .ref sl40, .ref r16, .null, .int (iI 0), .int (iI (-5)), .int (iI 5)])) := hs55.at f41 (k := 11) rfl (by first | exact not_false | (intro q_; simp at q_; done) | omega)
  have f65 : U54 nl39 = some (tg, .inr (10, [.int (iI 0), .ref (E.2.2.2 0), .int (iI 0)])) := hs55.at f42 (k := 20) rfl (by first | exact not_false | (intro q_; simp at q_; done) | omega)
  have f66 : U54 sl40 = some (tg, .inr (12, [.int (iI 0), .int (iI 0), .null, .null])) := hs55.at f43 (k := 22) rfl (by first | exact not_false | (intro q_; simp at q_; done) | omega)
  have p67 : AD E U54 t ar (P 2) f := AD.kp p49 hs55 (by intro T k h_; first | exact h_.elim | (obtain ⟨-, rfl⟩ := h_; simp; done) | omega)
  have p68 : TRE U54 t P f sh := TRE.kp p50 hs55 (by intro T k h_; first | exact h_.elim | (obtain ⟨-, rfl⟩ := h_; simp; done) | omega)
  have p69 : LQ U54 t (P 3) ch se := LQ.kp p51 hs55 (by intro T k h_; first | exact h_.elim | (obtain ⟨-, rfl⟩ := h_; simp; done) | omega)
  have p70 : ScO U54 P se := ScO.kp p52 hs55 (by intro T k h_; first | exact h_.elim | (obtain ⟨-, rfl⟩ := h_; simp; done) | omega)
  have p71 : titO U54 P tlo := titO.kp p53 hs55 (by intro T k h_; first | exact h_.elim | (obtain ⟨-, rfl⟩ := h_; simp; done) | omega)
  have hk : FR (fun T k => T = tg ∨ T = 2) w U54 := FR.tr hk hs55 (by intro T k h_; first | exact h_.elim | (obtain ⟨rfl, rfl⟩ := h_; simp; done) | omega)
  subst hzz56
  show W p l e _ s m args below meth c H locs _ _ Q (F0 m _ ls (.ref it57 :: []))
  refine lv_astore_n (lv' := [(2, .ref it57), (1, .ref r0), (0, .ref a)]) hx hb dX2_copy_33 rfl hl (by decide) rfl (fun ls hl => ?_)
  have L34 : ∀ (n_ : Nat), ∀ (k : Int) (mo9 : Int) (ar9 : Nat) (f9 : Int → Nat) (lr : Int) (cl_ : Nat) (sl_ : Nat) (W_ : Wl) (hm_ : P 2 - k < (n_ : Int)) (fa : W_ a = some (t, .inr (1, [.int (iI (P 0)), .int (iI (P 1)), .ref nl, .ref sl, .ref stt, va_rf tlo, .int (iI (P 4)), .int (iI (P 5)), .int (iI (P 6))]))) (fnl : W_ nl = some (t, .inr (10, [.int (iI mo), .ref ar, .int (iI (P 2))]))) (fsl : W_ sl = some (t, .inr (12, [.int (iI mo2), .int (iI (P 3)), va_rf (hdO (P 3) ch 0), va_rf (prO ch (P 3))]))) (fr0 : W_ r0 = some (tg, .inr (1, [.int (iI (P 0)), .int (iI (P 1)), .ref nl39, .ref sl40, .ref r16, .null, .int (iI 0), .int (iI (-5)), .int (iI 5)]))) (fn9 : W_ nl39 = some (tg, .inr (10, [.int (iI mo9), .ref ar9, .int (iI k)]))) (fs9 : W_ sl40 = some (tg, .inr (12, [.int (iI 0), .int (iI 0), .null, .null]))) (f16 : W_ r16 = some (tg, arI E 4 (sg4 P))) (fit : W_ it57 = some (2, .inr (11, [.int (iI k), .int (iI lr), .int (iI mo), .ref nl]))) (had : AD E W_ t ar (P 2) f) (htr : TRE W_ t P f sh) (hlq : LQ W_ t (P 3) ch se) (hsc : ScO W_ P se) (htit : titO W_ P tlo) (had9 : AD E W_ tg ar9 k f9) (htk : TREk W_ tg P f9 (fun _ => 0) k) (hk : FR (fun T k => T = tg ∨ T = 2) w W_) (hk0 : 0 ≤ k ∧ k ≤ P 2) (hcl : cl_ ≤ 5 + 3 * k.toNat ∧ sl_ ≤ 24 + 119 * k.toNat) (H : Heap) (locs : List Loc), jH E s.heap W_ H locs → ∀ ls : Array Slot, lv_has ls 6 [(0, .ref a), (1, .ref r0), (2, .ref it57)] → W p l e (rmL 9 120 2700) s m args below meth c H locs cl_ sl_ Q (F0 m 34 ls []) := by
    intro n_
    induction n_ with
    | zero =>
      intro k mo9 ar9 f9 lr cl_ sl_ W_ hm_ fa fnl fsl fr0 fn9 fs9 f16 fit had htr hlq hsc htit had9 htk hk hk0 hcl H locs hH ls hl
      exact absurd hm_ (by omega)
    | succ n_ ih_34 =>
      intro k mo9 ar9 f9 lr cl_ sl_ W_ hm_ fa fnl fsl fr0 fn9 fs9 f16 fit had htr hlq hsc htit had9 htk hk hk0 hcl H locs hH ls hl
      refine lv_aload_n hx hb dX2_copy_34 rfl (lv_at hl 2 rfl) ?_
      refine jF_callip (va_runF (hV.1.1 11 _ rfl).2 (As := []) (rest := []) ⟨hx, hb, hml, hown, hts⟩ (m_J16_hasNext l _ _ _ _ _ _ _ _ _ _ (fit) (fnl) (by omega) (by omega)) (va_cwF (x := ⟨"java/util/Iterator", "hasNext", "()Z"⟩) 0 hts (lw_F q339 q343 q345 q128 q347) rfl rfl rfl (hV.2.2.2.2.2.2.2.2.2.2 _ (List.mem_of_getElem? (i := 2) rfl)) (by decide +kernel) ⟨(Nat.le_of_ble_eq_true rfl), (Nat.le_of_ble_eq_true rfl)⟩) (j_preV hV hH fit rfl) rfl rfl hl.1 rfl (lv_room (Nat.le_of_ble_eq_true rfl)) dX2_copy_35 ⟨(by show _ ≤ 120; omega), (by show _ ≤ 2700; omega)⟩) hH (fun H locs hH => ?_)
      refine j_ifeq_b (tgt := 101) hx hb dX2_copy_40 (by decide) (fun c40 => ?_) (fun c40 => ?_)
      · refine lv_aload_n hx hb dX2_copy_101 rfl (lv_at hl 1 rfl) ?_
        refine j_get hx hb hts hown hV hH fr0 rfl in_X2 3 (Nat.le_of_ble_eq_true rfl) q227 (fun _ h => h) rfl dX2_copy_102 ?_
        refine lv_aload_n hx hb dX2_copy_105 rfl (lv_at hl 0 rfl) ?_
        refine j_get hx hb hts hown hV hH fa rfl in_X2 3 (Nat.le_of_ble_eq_true rfl) q227 (fun _ h => h) rfl dX2_copy_106 ?_
        refine j_calli (va_runV (As := [.ref sl]) (rest := []) ⟨hx, hb, hml, hown, hts⟩ (m_J4_addAll l W_ sl40 tg 0 t mo2 (P 3) ch se sl (fs9) (fsl) (hlq) (by omega)) (cw_J4_addAll hts q547 (Nat.le_of_ble_eq_true rfl) (Nat.le_of_ble_eq_true rfl)) (j_preV hV hH fs9 rfl) rfl rfl hl.1 rfl (lv_room (Nat.le_of_ble_eq_true rfl)) dX2_copy_109 ⟨(by show _ ≤ 120; omega), (by show _ ≤ 2700; omega)⟩) hH (fun z74 U72 H locs hp hH => ?_)
        obtain ⟨mo375, ch276, hzz74, f77, p78, hs73⟩ := hp
        have f79 : U72 a = some (t, .inr (1, [.int (iI (P 0)), .int (iI (P 1)), .ref nl, .ref sl, .ref stt, va_rf tlo, .int (iI (P 4)), .int (iI (P 5)), .int (iI (P 6))])) := hs73.at fa (k := 11) rfl (by first | exact not_false | (intro q_; simp at q_; done) | omega)
        have f80 : U72 nl = some (t, .inr (10, [.int (iI mo), .ref ar, .int (iI (P 2))])) := hs73.at fnl (k := 20) rfl (by first | exact not_false | (intro q_; simp at q_; done) | omega)
        have f81 : U72 sl = some (t, .inr (12, [.int (iI mo2), .int (iI (P 3)), va_rf (hdO (P 3) ch 0), va_rf (prO ch (P 3))])) := hs73.at fsl (k := 22) rfl (by first | exact not_false | (intro q_; simp at q_; done) | omega)
        have f82 : U72 r0 = some (tg, .inr (1, [.int (iI (P 0)), .int (iI (P 1)), .ref nl39, .ref sl40, .ref r16, .null, .int (iI 0), .int (iI (-5)), .int (iI 5)])) := hs73.at fr0 (k := 11) rfl (by first | exact not_false | (intro q_; simp at q_; done) | omega)
        have f83 : U72 nl39 = some (tg, .inr (10, [.int (iI mo9), .ref ar9, .int (iI k)])) := hs73.at fn9 (k := 20) rfl (by first | exact not_false | (intro q_; simp at q_; done) | omega)
        have f84 : U72 r16 = some (tg, arI E 4 (sg4 P)) := hs73.at f16 (k := 0) rfl (by first | exact not_false | (intro q_; simp at q_; done) | omega)
        have f85 : U72 it57 = some (2, .inr (11, [.int (iI k), .int (iI lr), .int (iI mo), .ref nl])) := hs73.at fit (k := 21) rfl (by first | exact not_false | (intro q_; simp at q_; done) | omega)
        have p86 : AD E U72 t ar (P 2) f := AD.kp had hs73 (by intro T k h_; first | exact h_.elim | (obtain ⟨-, rfl⟩ := h_; simp; done) | omega)
        have p87 : TRE U72 t P f sh := TRE.kp htr hs73 (by intro T k h_; first | exact h_.elim | (obtain ⟨-, rfl⟩ := h_; simp; done) | omega)
        have p88 : LQ U72 t (P 3) ch se := LQ.kp hlq hs73 (by intro T k h_; first | exact h_.elim | (obtain ⟨-, rfl⟩ := h_; simp; done) | omega)
        have p89 : ScO U72 P se := ScO.kp hsc hs73 (by intro T k h_; first | exact h_.elim | (obtain ⟨-, rfl⟩ := h_; simp; done) | omega)
        have p90 : titO U72 P tlo := titO.kp htit hs73 (by intro T k h_; first | exact h_.elim | (obtain ⟨-, rfl⟩ := h_; simp; done) | omega)
        have p91 : AD E U72 tg ar9 k f9 := AD.kp had9 hs73 (by intro T k h_; first | exact h_.elim | (obtain ⟨-, rfl⟩ := h_; simp; done) | omega)
        have p92 : TREk U72 tg P f9 (fun _ => 0) k := TREk.kp htk hs73 (by intro T k h_; first | exact h_.elim | (obtain ⟨-, rfl⟩ := h_; simp; done) | omega)
        have hk : FR (fun T k => T = tg ∨ T = 2) w U72 := FR.tr hk hs73 (by intro T k h_; first | exact h_.elim | (obtain ⟨rfl, rfl⟩ := h_; simp; done) | omega)
        subst hzz74
        refine lv_istore_n (lv' := [(2, .int (iI (bI (0 < (P 3))))), (0, .ref a), (1, .ref r0)]) hx hb dX2_copy_112 rfl hl (by decide) rfl (fun ls hl => ?_)
        refine lv_aload_n hx hb dX2_copy_113 rfl (lv_at hl 2 rfl) ?_
        refine lv_aload_n hx hb dX2_copy_114 rfl (lv_at hl 1 rfl) ?_
        refine j_get hx hb hts hown hV hH f79 rfl in_X2 5 (Nat.le_of_ble_eq_true rfl) q234 (fun _ h => h) rfl dX2_copy_115 ?_
        refine j_put hx hb hts hown hV hH f82 rfl in_X2 tyX2 tyX2_ok nmX2 5 (Nat.le_of_ble_eq_true rfl) q234 (fun _ h => h) rfl (by cases tlo <;> rfl) (by cases tlo <;> rfl) (Nat.le_of_ble_eq_true rfl) dX2_copy_118 (fun H locs hH => ?_)
        obtain ⟨V93, eV93⟩ : ∃ V_ : Wl, V_ = up U72 r0 (tg, .inr (1, [.int (iI (P 0)), .int (iI (P 1)), .ref nl39, .ref sl40, .ref r16, va_rf tlo, .int (iI 0), .int (iI (-5)), .int (iI 5)])) := ⟨_, rfl⟩
        have hH := jH_eq hH eV93
        have hs94 : FR (fun T k => T = tg ∧ k = 11) U72 V93 := by rw [eV93]; exact FR.one f82 rfl rfl
        have f95 : V93 a = some (t, .inr (1, [.int (iI (P 0)), .int (iI (P 1)), .ref nl, .ref sl, .ref stt, va_rf tlo, .int (iI (P 4)), .int (iI (P 5)), .int (iI (P 6))])) := by rw [eV93]; exact up_k f79 (ne12)
        have f96 : V93 nl = some (t, .inr (10, [.int (iI mo), .ref ar, .int (iI (P 2))])) := hs94.at f80 (k := 20) rfl (by first | exact not_false | (intro q_; simp at q_; done) | omega)
        have f97 : V93 sl = some (t, .inr (12, [.int (iI mo2), .int (iI (P 3)), va_rf (hdO (P 3) ch 0), va_rf (prO ch (P 3))])) := hs94.at f81 (k := 22) rfl (by first | exact not_false | (intro q_; simp at q_; done) | omega)
        have f98 : V93 nl39 = some (tg, .inr (10, [.int (iI mo9), .ref ar9, .int (iI k)])) := hs94.at f83 (k := 20) rfl (by first | exact not_false | (intro q_; simp at q_; done) | omega)
        have f99 : V93 r16 = some (tg, arI E 4 (sg4 P)) := hs94.at f84 (k := 0) rfl (by first | exact not_false | (intro q_; simp at q_; done) | omega)
        have f100 : V93 it57 = some (2, .inr (11, [.int (iI k), .int (iI lr), .int (iI mo), .ref nl])) := hs94.at f85 (k := 21) rfl (by first | exact not_false | (intro q_; simp at q_; done) | omega)
        have f101 : V93 sl40 = some (tg, .inr (12, [.int (iI mo375), .int (iI (P 3)), va_rf (hdO (P 3) ch276 0), va_rf (prO ch276 (P 3))])) := hs94.at f77 (k := 22) rfl (by first | exact not_false | (intro q_; simp at q_; done) | omega)
        have p102 : AD E V93 t ar (P 2) f := AD.kp p86 hs94 (by intro T k h_; first | exact h_.elim | (obtain ⟨-, rfl⟩ := h_; simp; done) | omega)
        have p103 : TRE V93 t P f sh := TRE.kp p87 hs94 (by intro T k h_; first | exact h_.elim | (obtain ⟨-, rfl⟩ := h_; simp; done) | omega)
        have p104 : LQ V93 t (P 3) ch se := LQ.kp p88 hs94 (by intro T k h_; first | exact h_.elim | (obtain ⟨-, rfl⟩ := h_; simp; done) | omega)
        have p105 : ScO V93 P se := ScO.kp p89 hs94 (by intro T k h_; first | exact h_.elim | (obtain ⟨-, rfl⟩ := h_; simp; done) | omega)
        have p106 : titO V93 P tlo := titO.kp p90 hs94 (by intro T k h_; first | exact h_.elim | (obtain ⟨-, rfl⟩ := h_; simp; done) | omega)
        have p107 : AD E V93 tg ar9 k f9 := AD.kp p91 hs94 (by intro T k h_; first | exact h_.elim | (obtain ⟨-, rfl⟩ := h_; simp; done) | omega)
        have p108 : TREk V93 tg P f9 (fun _ => 0) k := TREk.kp p92 hs94 (by intro T k h_; first | exact h_.elim | (obtain ⟨-, rfl⟩ := h_; simp; done) | omega)
        have p109 : LQ V93 tg (P 3) ch276 se := LQ.kp p78 hs94 (by intro T k h_; first | exact h_.elim | (obtain ⟨-, rfl⟩ := h_; simp; done) | omega)
        have f110 : V93 r0 = some (tg, .inr (1, [.int (iI (P 0)), .int (iI (P 1)), .ref nl39, .ref sl40, .ref r16, va_rf tlo, .int (iI 0), .int (iI (-5)), .int (iI 5)])) := by rw [eV93]; exact up_s
        have hk : FR (fun T k => T = tg ∨ T = 2) w V93 := by rw [eV93]; exact FR.putF hk nwr0
        refine lv_aload_n hx hb dX2_copy_121 rfl (lv_at hl 2 rfl) ?_
        refine lv_aload_n hx hb dX2_copy_122 rfl (lv_at hl 1 rfl) ?_
        refine j_get hx hb hts hown hV hH f95 rfl in_X2 6 (Nat.le_of_ble_eq_true rfl) q235 (fun _ h => h) rfl dX2_copy_123 ?_
        refine j_put hx hb hts hown hV hH f110 rfl in_X2 tyX2 tyX2_ok nmX2 6 (Nat.le_of_ble_eq_true rfl) q235 (fun _ h => h) rfl rfl rfl (Nat.le_of_ble_eq_true rfl) dX2_copy_126 (fun H locs hH => ?_)
        obtain ⟨V111, eV111⟩ : ∃ V_ : Wl, V_ = up V93 r0 (tg, .inr (1, [.int (iI (P 0)), .int (iI (P 1)), .ref nl39, .ref sl40, .ref r16, va_rf tlo, .int (iI (P 4)), .int (iI (-5)), .int (iI 5)])) := ⟨_, rfl⟩
        have hH := jH_eq hH eV111
        have hs112 : FR (fun T k => T = tg ∧ k = 11) V93 V111 := by rw [eV111]; exact FR.one f110 rfl rfl
        have f113 : V111 a = some (t, .inr (1, [.int (iI (P 0)), .int (iI (P 1)), .ref nl, .ref sl, .ref stt, va_rf tlo, .int (iI (P 4)), .int (iI (P 5)), .int (iI (P 6))])) := by rw [eV111]; exact up_k f95 (ne12)
        have f114 : V111 nl = some (t, .inr (10, [.int (iI mo), .ref ar, .int (iI (P 2))])) := hs112.at f96 (k := 20) rfl (by first | exact not_false | (intro q_; simp at q_; done) | omega)
        have f115 : V111 sl = some (t, .inr (12, [.int (iI mo2), .int (iI (P 3)), va_rf (hdO (P 3) ch 0), va_rf (prO ch (P 3))])) := hs112.at f97 (k := 22) rfl (by first | exact not_false | (intro q_; simp at q_; done) | omega)
        have f116 : V111 nl39 = some (tg, .inr (10, [.int (iI mo9), .ref ar9, .int (iI k)])) := hs112.at f98 (k := 20) rfl (by first | exact not_false | (intro q_; simp at q_; done) | omega)
        have f117 : V111 r16 = some (tg, arI E 4 (sg4 P)) := hs112.at f99 (k := 0) rfl (by first | exact not_false | (intro q_; simp at q_; done) | omega)
        have f118 : V111 it57 = some (2, .inr (11, [.int (iI k), .int (iI lr), .int (iI mo), .ref nl])) := hs112.at f100 (k := 21) rfl (by first | exact not_false | (intro q_; simp at q_; done) | omega)
        have f119 : V111 sl40 = some (tg, .inr (12, [.int (iI mo375), .int (iI (P 3)), va_rf (hdO (P 3) ch276 0), va_rf (prO ch276 (P 3))])) := hs112.at f101 (k := 22) rfl (by first | exact not_false | (intro q_; simp at q_; done) | omega)
        have p120 : AD E V111 t ar (P 2) f := AD.kp p102 hs112 (by intro T k h_; first | exact h_.elim | (obtain ⟨-, rfl⟩ := h_; simp; done) | omega)
        have p121 : TRE V111 t P f sh := TRE.kp p103 hs112 (by intro T k h_; first | exact h_.elim | (obtain ⟨-, rfl⟩ := h_; simp; done) | omega)
        have p122 : LQ V111 t (P 3) ch se := LQ.kp p104 hs112 (by intro T k h_; first | exact h_.elim | (obtain ⟨-, rfl⟩ := h_; simp; done) | omega)
        have p123 : ScO V111 P se := ScO.kp p105 hs112 (by intro T k h_; first | exact h_.elim | (obtain ⟨-, rfl⟩ := h_; simp; done) | omega)
        have p124 : titO V111 P tlo := titO.kp p106 hs112 (by intro T k h_; first | exact h_.elim | (obtain ⟨-, rfl⟩ := h_; simp; done) | omega)
        have p125 : AD E V111 tg ar9 k f9 := AD.kp p107 hs112 (by intro T k h_; first | exact h_.elim | (obtain ⟨-, rfl⟩ := h_; simp; done) | omega)
        have p126 : TREk V111 tg P f9 (fun _ => 0) k := TREk.kp p108 hs112 (by intro T k h_; first | exact h_.elim | (obtain ⟨-, rfl⟩ := h_; simp; done) | omega)
        have p127 : LQ V111 tg (P 3) ch276 se := LQ.kp p109 hs112 (by intro T k h_; first | exact h_.elim | (obtain ⟨-, rfl⟩ := h_; simp; done) | omega)
        have f128 : V111 r0 = some (tg, .inr (1, [.int (iI (P 0)), .int (iI (P 1)), .ref nl39, .ref sl40, .ref r16, va_rf tlo, .int (iI (P 4)), .int (iI (-5)), .int (iI 5)])) := by rw [eV111]; exact up_s
        have hk : FR (fun T k => T = tg ∨ T = 2) w V111 := by rw [eV111]; exact FR.putF hk nwr0
        refine lv_aload_n hx hb dX2_copy_129 rfl (lv_at hl 2 rfl) ?_
        refine lv_aload_n hx hb dX2_copy_130 rfl (lv_at hl 1 rfl) ?_
        refine j_get hx hb hts hown hV hH f113 rfl in_X2 7 (Nat.le_of_ble_eq_true rfl) q238 (fun _ h => h) rfl dX2_copy_131 ?_
        refine j_put hx hb hts hown hV hH f128 rfl in_X2 tyX2 tyX2_ok nmX2 7 (Nat.le_of_ble_eq_true rfl) q238 (fun _ h => h) rfl rfl rfl (Nat.le_of_ble_eq_true rfl) dX2_copy_134 (fun H locs hH => ?_)
        obtain ⟨V129, eV129⟩ : ∃ V_ : Wl, V_ = up V111 r0 (tg, .inr (1, [.int (iI (P 0)), .int (iI (P 1)), .ref nl39, .ref sl40, .ref r16, va_rf tlo, .int (iI (P 4)), .int (iI (P 5)), .int (iI 5)])) := ⟨_, rfl⟩
        have hH := jH_eq hH eV129
        have hs130 : FR (fun T k => T = tg ∧ k = 11) V111 V129 := by rw [eV129]; exact FR.one f128 rfl rfl
        have f131 : V129 a = some (t, .inr (1, [.int (iI (P 0)), .int (iI (P 1)), .ref nl, .ref sl, .ref stt, va_rf tlo, .int (iI (P 4)), .int (iI (P 5)), .int (iI (P 6))])) := by rw [eV129]; exact up_k f113 (ne12)
        have f132 : V129 nl = some (t, .inr (10, [.int (iI mo), .ref ar, .int (iI (P 2))])) := hs130.at f114 (k := 20) rfl (by first | exact not_false | (intro q_; simp at q_; done) | omega)
        have f133 : V129 sl = some (t, .inr (12, [.int (iI mo2), .int (iI (P 3)), va_rf (hdO (P 3) ch 0), va_rf (prO ch (P 3))])) := hs130.at f115 (k := 22) rfl (by first | exact not_false | (intro q_; simp at q_; done) | omega)
        have f134 : V129 nl39 = some (tg, .inr (10, [.int (iI mo9), .ref ar9, .int (iI k)])) := hs130.at f116 (k := 20) rfl (by first | exact not_false | (intro q_; simp at q_; done) | omega)
        have f135 : V129 r16 = some (tg, arI E 4 (sg4 P)) := hs130.at f117 (k := 0) rfl (by first | exact not_false | (intro q_; simp at q_; done) | omega)
        have f136 : V129 it57 = some (2, .inr (11, [.int (iI k), .int (iI lr), .int (iI mo), .ref nl])) := hs130.at f118 (k := 21) rfl (by first | exact not_false | (intro q_; simp at q_; done) | omega)
        have f137 : V129 sl40 = some (tg, .inr (12, [.int (iI mo375), .int (iI (P 3)), va_rf (hdO (P 3) ch276 0), va_rf (prO ch276 (P 3))])) := hs130.at f119 (k := 22) rfl (by first | exact not_false | (intro q_; simp at q_; done) | omega)
        have p138 : AD E V129 t ar (P 2) f := AD.kp p120 hs130 (by intro T k h_; first | exact h_.elim | (obtain ⟨-, rfl⟩ := h_; simp; done) | omega)
        have p139 : TRE V129 t P f sh := TRE.kp p121 hs130 (by intro T k h_; first | exact h_.elim | (obtain ⟨-, rfl⟩ := h_; simp; done) | omega)
        have p140 : LQ V129 t (P 3) ch se := LQ.kp p122 hs130 (by intro T k h_; first | exact h_.elim | (obtain ⟨-, rfl⟩ := h_; simp; done) | omega)
        have p141 : ScO V129 P se := ScO.kp p123 hs130 (by intro T k h_; first | exact h_.elim | (obtain ⟨-, rfl⟩ := h_; simp; done) | omega)
        have p142 : titO V129 P tlo := titO.kp p124 hs130 (by intro T k h_; first | exact h_.elim | (obtain ⟨-, rfl⟩ := h_; simp; done) | omega)
        have p143 : AD E V129 tg ar9 k f9 := AD.kp p125 hs130 (by intro T k h_; first | exact h_.elim | (obtain ⟨-, rfl⟩ := h_; simp; done) | omega)
        have p144 : TREk V129 tg P f9 (fun _ => 0) k := TREk.kp p126 hs130 (by intro T k h_; first | exact h_.elim | (obtain ⟨-, rfl⟩ := h_; simp; done) | omega)
        have p145 : LQ V129 tg (P 3) ch276 se := LQ.kp p127 hs130 (by intro T k h_; first | exact h_.elim | (obtain ⟨-, rfl⟩ := h_; simp; done) | omega)
        have f146 : V129 r0 = some (tg, .inr (1, [.int (iI (P 0)), .int (iI (P 1)), .ref nl39, .ref sl40, .ref r16, va_rf tlo, .int (iI (P 4)), .int (iI (P 5)), .int (iI 5)])) := by rw [eV129]; exact up_s
        have hk : FR (fun T k => T = tg ∨ T = 2) w V129 := by rw [eV129]; exact FR.putF hk nwr0
        refine lv_aload_n hx hb dX2_copy_137 rfl (lv_at hl 2 rfl) ?_
        refine lv_aload_n hx hb dX2_copy_138 rfl (lv_at hl 1 rfl) ?_
        refine j_get hx hb hts hown hV hH f131 rfl in_X2 8 (Nat.le_of_ble_eq_true rfl) q240 (fun _ h => h) rfl dX2_copy_139 ?_
        refine j_put hx hb hts hown hV hH f146 rfl in_X2 tyX2 tyX2_ok nmX2 8 (Nat.le_of_ble_eq_true rfl) q240 (fun _ h => h) rfl rfl rfl (Nat.le_of_ble_eq_true rfl) dX2_copy_142 (fun H locs hH => ?_)
        obtain ⟨V147, eV147⟩ : ∃ V_ : Wl, V_ = up V129 r0 (tg, .inr (1, [.int (iI (P 0)), .int (iI (P 1)), .ref nl39, .ref sl40, .ref r16, va_rf tlo, .int (iI (P 4)), .int (iI (P 5)), .int (iI (P 6))])) := ⟨_, rfl⟩
        have hH := jH_eq hH eV147
        have hs148 : FR (fun T k => T = tg ∧ k = 11) V129 V147 := by rw [eV147]; exact FR.one f146 rfl rfl
        have f149 : V147 a = some (t, .inr (1, [.int (iI (P 0)), .int (iI (P 1)), .ref nl, .ref sl, .ref stt, va_rf tlo, .int (iI (P 4)), .int (iI (P 5)), .int (iI (P 6))])) := by rw [eV147]; exact up_k f131 (ne12)
        have f150 : V147 nl = some (t, .inr (10, [.int (iI mo), .ref ar, .int (iI (P 2))])) := hs148.at f132 (k := 20) rfl (by first | exact not_false | (intro q_; simp at q_; done) | omega)
        have f151 : V147 sl = some (t, .inr (12, [.int (iI mo2), .int (iI (P 3)), va_rf (hdO (P 3) ch 0), va_rf (prO ch (P 3))])) := hs148.at f133 (k := 22) rfl (by first | exact not_false | (intro q_; simp at q_; done) | omega)
        have f152 : V147 nl39 = some (tg, .inr (10, [.int (iI mo9), .ref ar9, .int (iI k)])) := hs148.at f134 (k := 20) rfl (by first | exact not_false | (intro q_; simp at q_; done) | omega)
        have f153 : V147 r16 = some (tg, arI E 4 (sg4 P)) := hs148.at f135 (k := 0) rfl (by first | exact not_false | (intro q_; simp at q_; done) | omega)
        have f154 : V147 it57 = some (2, .inr (11, [.int (iI k), .int (iI lr), .int (iI mo), .ref nl])) := hs148.at f136 (k := 21) rfl (by first | exact not_false | (intro q_; simp at q_; done) | omega)
        have f155 : V147 sl40 = some (tg, .inr (12, [.int (iI mo375), .int (iI (P 3)), va_rf (hdO (P 3) ch276 0), va_rf (prO ch276 (P 3))])) := hs148.at f137 (k := 22) rfl (by first | exact not_false | (intro q_; simp at q_; done) | omega)
        have p156 : AD E V147 t ar (P 2) f := AD.kp p138 hs148 (by intro T k h_; first | exact h_.elim | (obtain ⟨-, rfl⟩ := h_; simp; done) | omega)
        have p157 : TRE V147 t P f sh := TRE.kp p139 hs148 (by intro T k h_; first | exact h_.elim | (obtain ⟨-, rfl⟩ := h_; simp; done) | omega)
        have p158 : LQ V147 t (P 3) ch se := LQ.kp p140 hs148 (by intro T k h_; first | exact h_.elim | (obtain ⟨-, rfl⟩ := h_; simp; done) | omega)
        have p159 : ScO V147 P se := ScO.kp p141 hs148 (by intro T k h_; first | exact h_.elim | (obtain ⟨-, rfl⟩ := h_; simp; done) | omega)
        have p160 : titO V147 P tlo := titO.kp p142 hs148 (by intro T k h_; first | exact h_.elim | (obtain ⟨-, rfl⟩ := h_; simp; done) | omega)
        have p161 : AD E V147 tg ar9 k f9 := AD.kp p143 hs148 (by intro T k h_; first | exact h_.elim | (obtain ⟨-, rfl⟩ := h_; simp; done) | omega)
        have p162 : TREk V147 tg P f9 (fun _ => 0) k := TREk.kp p144 hs148 (by intro T k h_; first | exact h_.elim | (obtain ⟨-, rfl⟩ := h_; simp; done) | omega)
        have p163 : LQ V147 tg (P 3) ch276 se := LQ.kp p145 hs148 (by intro T k h_; first | exact h_.elim | (obtain ⟨-, rfl⟩ := h_; simp; done) | omega)
        have f164 : V147 r0 = some (tg, .inr (1, [.int (iI (P 0)), .int (iI (P 1)), .ref nl39, .ref sl40, .ref r16, va_rf tlo, .int (iI (P 4)), .int (iI (P 5)), .int (iI (P 6))])) := by rw [eV147]; exact up_s
        have hk : FR (fun T k => T = tg ∨ T = 2) w V147 := by rw [eV147]; exact FR.putF hk nwr0
        refine lv_aload_n hx hb dX2_copy_145 rfl (lv_at hl 2 rfl) ?_
        exact hret (some r0) V147 hH dX2_copy_146 (by show _ ≤ 120; omega) (by show _ ≤ 2700; omega) (⟨r0, f9, by first | rfl | omega, StA.mk f164 f152 p161 (p162.tre (by omega)) f155 p163 p159 f153 p160 rfl rfl (by omega) rfl rfl rfl rfl (fun _ => rfl), nwr0, hk⟩)
      · refine lv_aload_n hx hb dX2_copy_43 rfl (lv_at hl 2 rfl) ?_
        refine jF_callq (va_runF (hV.1.1 11 _ rfl).2 (As := []) (rest := []) ⟨hx, hb, hml, hown, hts⟩ (m_J16_next l W_ it57 2 k lr nl ar t mo (P 2) f (fit) (fnl) (had) (by omega)) (va_cwF (x := ⟨"java/util/Iterator", "next", "()Ljava/lang/Object;"⟩) 0 hts (lw_F q349 q352 q354 q128 q356) rfl rfl rfl (hV.2.2.2.2.2.2.2.2.2.2 _ (List.mem_of_getElem? (i := 3) rfl)) (by decide +kernel) ⟨(Nat.le_of_ble_eq_true rfl), (Nat.le_of_ble_eq_true rfl)⟩) (j_preV hV hH fit rfl) rfl rfl hl.1 rfl (lv_room (Nat.le_of_ble_eq_true rfl)) dX2_copy_44 ⟨(by show _ ≤ 120; omega), (by show _ ≤ 2700; omega)⟩) hH (fun z167 U165 H locs hp hH => ?_)
        obtain ⟨hzz167, f168, hs166⟩ := hp
        have f169 : U165 a = some (t, .inr (1, [.int (iI (P 0)), .int (iI (P 1)), .ref nl, .ref sl, .ref stt, va_rf tlo, .int (iI (P 4)), .int (iI (P 5)), .int (iI (P 6))])) := hs166.at fa (k := 11) rfl (by first | exact not_false | (intro q_; simp at q_; done) | omega)
        have f170 : U165 nl = some (t, .inr (10, [.int (iI mo), .ref ar, .int (iI (P 2))])) := hs166.at fnl (k := 20) rfl (by first | exact not_false | (intro q_; simp at q_; done) | omega)
        have f171 : U165 sl = some (t, .inr (12, [.int (iI mo2), .int (iI (P 3)), va_rf (hdO (P 3) ch 0), va_rf (prO ch (P 3))])) := hs166.at fsl (k := 22) rfl (by first | exact not_false | (intro q_; simp at q_; done) | omega)
        have f172 : U165 r0 = some (tg, .inr (1, [.int (iI (P 0)), .int (iI (P 1)), .ref nl39, .ref sl40, .ref r16, .null, .int (iI 0), .int (iI (-5)), .int (iI 5)])) := hs166.at fr0 (k := 11) rfl (by first | exact not_false | (intro q_; simp at q_; done) | omega)
        have f173 : U165 nl39 = some (tg, .inr (10, [.int (iI mo9), .ref ar9, .int (iI k)])) := hs166.at fn9 (k := 20) rfl (by first | exact not_false | (intro q_; simp at q_; done) | omega)
        have f174 : U165 sl40 = some (tg, .inr (12, [.int (iI 0), .int (iI 0), .null, .null])) := hs166.at fs9 (k := 22) rfl (by first | exact not_false | (intro q_; simp at q_; done) | omega)
        have f175 : U165 r16 = some (tg, arI E 4 (sg4 P)) := hs166.at f16 (k := 0) rfl (by first | exact not_false | (intro q_; simp at q_; done) | omega)
        have p176 : AD E U165 t ar (P 2) f := AD.kp had hs166 (by intro T k h_; first | exact h_.elim | (obtain ⟨-, rfl⟩ := h_; simp; done) | omega)
        have p177 : TRE U165 t P f sh := TRE.kp htr hs166 (by intro T k h_; first | exact h_.elim | (obtain ⟨-, rfl⟩ := h_; simp; done) | omega)
        have p178 : LQ U165 t (P 3) ch se := LQ.kp hlq hs166 (by intro T k h_; first | exact h_.elim | (obtain ⟨-, rfl⟩ := h_; simp; done) | omega)
        have p179 : ScO U165 P se := ScO.kp hsc hs166 (by intro T k h_; first | exact h_.elim | (obtain ⟨-, rfl⟩ := h_; simp; done) | omega)
        have p180 : titO U165 P tlo := titO.kp htit hs166 (by intro T k h_; first | exact h_.elim | (obtain ⟨-, rfl⟩ := h_; simp; done) | omega)
        have p181 : AD E U165 tg ar9 k f9 := AD.kp had9 hs166 (by intro T k h_; first | exact h_.elim | (obtain ⟨-, rfl⟩ := h_; simp; done) | omega)
        have p182 : TREk U165 tg P f9 (fun _ => 0) k := TREk.kp htk hs166 (by intro T k h_; first | exact h_.elim | (obtain ⟨-, rfl⟩ := h_; simp; done) | omega)
        have hk : FR (fun T k => T = tg ∨ T = 2) w U165 := FR.tr hk hs166 (by intro T k h_; first | exact h_.elim | (obtain ⟨rfl, rfl⟩ := h_; simp; done) | omega)
        subst hzz167
        show W p l e _ s m args below meth c H locs _ _ Q (F0 m _ ls (.ref (f k) :: []))
        have hN := hP.N (n := k) (by omega) (by omega)
        by_cases hbx : 0 < nd P k 4
        · have f183 : U165 (f k) = some (t, .inr (3, [.int (iI k), va_rf (paO P f k), .int (iI (nd P k 1)), .int (iI (nd P k 2)), .int (iI (nd P k 3)), .int (iI (nd P k 4)), .int (iI (nd P k 5)), .int (iI (nd P k 6)), .int (iI (sh k))])) := (p177 k (by omega) (by omega)).1 hbx
          refine j_cast hx hb hts hown hV hH f183 rfl q361 (hV.2.1 _ q2736 rfl) dX2_copy_49 ?_
          refine lv_astore_n (lv' := [(3, .ref (f k)), (0, .ref a), (1, .ref r0), (2, .ref it57)]) hx hb dX2_copy_52 rfl hl (by decide) rfl (fun ls hl => ?_)
          refine lv_aload_n hx hb dX2_copy_53 rfl (lv_at hl 0 rfl) ?_
          refine j_get hx hb hts hown hV hH f183 rfl in_X5 1 (Nat.le_of_ble_eq_true rfl) q414 (fun _ h => h) rfl dX2_copy_54 ?_
          rcases hq57 : (paO P f k) with _ | r57
          · refine lv_ifnonnullN hx hb dX2_copy_57 ?_
            rw [hq57] at f183
            have hq0 := paO_none hq57
            refine lv_null hx hb dX2_copy_60 ?_
            refine lv_goto (tgt := 81) hx hb dX2_copy_61 (by decide) ?_
            refine lv_astoreN (lv' := [(4, .null), (3, .ref (f k)), (0, .ref a), (1, .ref r0), (2, .ref it57)]) hx hb dX2_copy_81 hl (by decide) rfl (fun ls hl => ?_)
            refine lv_aload_n hx hb dX2_copy_83 rfl (lv_at hl 3 rfl) ?_
            refine j_get hx hb hts hown hV hH f172 rfl in_X2 2 (Nat.le_of_ble_eq_true rfl) q224 (fun _ h => h) rfl dX2_copy_84 ?_
            refine lv_aload_n hx hb dX2_copy_87 rfl (lv_at hl 1 rfl) ?_
            refine lv_aloadN hx hb dX2_copy_88 (lv_at hl 0 rfl) ?_
            refine j_callq (va_runU (As := [va_rf none]) (rest := [.ref nl39]) ⟨hx, hb, hml, hown, hts⟩ (m_X5_copyInto l U165 (f k) t tg k none (nd P k 1) (nd P k 2) (nd P k 3) (nd P k 4) (nd P k 5) (nd P k 6) (sh k) none (f183) (by omega)) (j_cwA (owner := "EyeStage$Part") 1 hts q377 q379 q380 q381 q132 q382 (hV.2.1 _ q378 rfl) (by decide +kernel) (Nat.le_of_ble_eq_true rfl) (Nat.le_of_ble_eq_true rfl)) (j_preV hV hH f183 rfl) rfl rfl hl.1 rfl (lv_room (Nat.le_of_ble_eq_true rfl)) dX2_copy_90 ⟨(by show _ ≤ 120; omega), (by show _ ≤ 2700; omega)⟩) hH (fun z186 U184 H locs hp hH => ?_)
            obtain ⟨b187, hzz186, f188, hb0_90, hs185⟩ := hp
            have f189 : U184 a = some (t, .inr (1, [.int (iI (P 0)), .int (iI (P 1)), .ref nl, .ref sl, .ref stt, va_rf tlo, .int (iI (P 4)), .int (iI (P 5)), .int (iI (P 6))])) := hs185.at f169 (k := 11) rfl (by first | exact not_false | (intro q_; simp at q_; done) | omega)
            have f190 : U184 nl = some (t, .inr (10, [.int (iI mo), .ref ar, .int (iI (P 2))])) := hs185.at f170 (k := 20) rfl (by first | exact not_false | (intro q_; simp at q_; done) | omega)
            have f191 : U184 sl = some (t, .inr (12, [.int (iI mo2), .int (iI (P 3)), va_rf (hdO (P 3) ch 0), va_rf (prO ch (P 3))])) := hs185.at f171 (k := 22) rfl (by first | exact not_false | (intro q_; simp at q_; done) | omega)
            have f192 : U184 r0 = some (tg, .inr (1, [.int (iI (P 0)), .int (iI (P 1)), .ref nl39, .ref sl40, .ref r16, .null, .int (iI 0), .int (iI (-5)), .int (iI 5)])) := hs185.at f172 (k := 11) rfl (by first | exact not_false | (intro q_; simp at q_; done) | omega)
            have f193 : U184 nl39 = some (tg, .inr (10, [.int (iI mo9), .ref ar9, .int (iI k)])) := hs185.at f173 (k := 20) rfl (by first | exact not_false | (intro q_; simp at q_; done) | omega)
            have f194 : U184 sl40 = some (tg, .inr (12, [.int (iI 0), .int (iI 0), .null, .null])) := hs185.at f174 (k := 22) rfl (by first | exact not_false | (intro q_; simp at q_; done) | omega)
            have f195 : U184 r16 = some (tg, arI E 4 (sg4 P)) := hs185.at f175 (k := 0) rfl (by first | exact not_false | (intro q_; simp at q_; done) | omega)
            have f196 : U184 it57 = some (2, .inr (11, [.int (iI (k + 1)), .int (iI k), .int (iI mo), .ref nl])) := hs185.at f168 (k := 21) rfl (by first | exact not_false | (intro q_; simp at q_; done) | omega)
            have f197 : U184 (f k) = some (t, .inr (3, [.int (iI k), .null, .int (iI (nd P k 1)), .int (iI (nd P k 2)), .int (iI (nd P k 3)), .int (iI (nd P k 4)), .int (iI (nd P k 5)), .int (iI (nd P k 6)), .int (iI (sh k))])) := hs185.at f183 (k := 13) rfl (by first | exact not_false | (intro q_; simp at q_; done) | omega)
            have p198 : AD E U184 t ar (P 2) f := AD.kp p176 hs185 (by intro T k h_; first | exact h_.elim | (obtain ⟨-, rfl⟩ := h_; simp; done) | omega)
            have p199 : TRE U184 t P f sh := TRE.kp p177 hs185 (by intro T k h_; first | exact h_.elim | (obtain ⟨-, rfl⟩ := h_; simp; done) | omega)
            have p200 : LQ U184 t (P 3) ch se := LQ.kp p178 hs185 (by intro T k h_; first | exact h_.elim | (obtain ⟨-, rfl⟩ := h_; simp; done) | omega)
            have p201 : ScO U184 P se := ScO.kp p179 hs185 (by intro T k h_; first | exact h_.elim | (obtain ⟨-, rfl⟩ := h_; simp; done) | omega)
            have p202 : titO U184 P tlo := titO.kp p180 hs185 (by intro T k h_; first | exact h_.elim | (obtain ⟨-, rfl⟩ := h_; simp; done) | omega)
            have p203 : AD E U184 tg ar9 k f9 := AD.kp p181 hs185 (by intro T k h_; first | exact h_.elim | (obtain ⟨-, rfl⟩ := h_; simp; done) | omega)
            have p204 : TREk U184 tg P f9 (fun _ => 0) k := TREk.kp p182 hs185 (by intro T k h_; first | exact h_.elim | (obtain ⟨-, rfl⟩ := h_; simp; done) | omega)
            have hk : FR (fun T k => T = tg ∨ T = 2) w U184 := FR.tr hk hs185 (by intro T k h_; first | exact h_.elim | (obtain ⟨rfl, rfl⟩ := h_; simp; done) | omega)
            subst hzz186
            show W p l e _ s m args below meth c H locs _ _ Q (F0 m _ ls (.ref b187 :: [.ref nl39]))
            have p205 : OB U184 b187 := OB.of f188 (by omega)
            refine j_calli (va_runV (As := [.ref b187]) (rest := []) ⟨hx, hb, hml, hown, hts⟩ (m_J2_add l U184 nl39 ar9 tg mo9 k f9 b187 (f193) (p203) (p205) (by omega)) (cw_J2_add hts q476 (Nat.le_of_ble_eq_true rfl) (Nat.le_of_ble_eq_true rfl)) (j_preV hV hH f193 rfl) rfl rfl hl.1 rfl (lv_room (Nat.le_of_ble_eq_true rfl)) dX2_copy_93 ⟨(by show _ ≤ 120; omega), (by show _ ≤ 2700; omega)⟩) hH (fun z208 U206 H locs hp hH => ?_)
            obtain ⟨b209, hzz208, f210, p211, hs207⟩ := hp
            have f212 : U206 a = some (t, .inr (1, [.int (iI (P 0)), .int (iI (P 1)), .ref nl, .ref sl, .ref stt, va_rf tlo, .int (iI (P 4)), .int (iI (P 5)), .int (iI (P 6))])) := hs207.at f189 (k := 11) rfl (by first | exact not_false | (intro q_; simp at q_; done) | omega)
            have f213 : U206 nl = some (t, .inr (10, [.int (iI mo), .ref ar, .int (iI (P 2))])) := hs207.at f190 (k := 20) rfl (by first | exact not_false | (intro q_; simp at q_; done) | omega)
            have f214 : U206 sl = some (t, .inr (12, [.int (iI mo2), .int (iI (P 3)), va_rf (hdO (P 3) ch 0), va_rf (prO ch (P 3))])) := hs207.at f191 (k := 22) rfl (by first | exact not_false | (intro q_; simp at q_; done) | omega)
            have f215 : U206 r0 = some (tg, .inr (1, [.int (iI (P 0)), .int (iI (P 1)), .ref nl39, .ref sl40, .ref r16, .null, .int (iI 0), .int (iI (-5)), .int (iI 5)])) := hs207.at f192 (k := 11) rfl (by first | exact not_false | (intro q_; simp at q_; done) | omega)
            have f216 : U206 sl40 = some (tg, .inr (12, [.int (iI 0), .int (iI 0), .null, .null])) := hs207.at f194 (k := 22) rfl (by first | exact not_false | (intro q_; simp at q_; done) | omega)
            have f217 : U206 r16 = some (tg, arI E 4 (sg4 P)) := hs207.at f195 (k := 0) rfl (by first | exact not_false | (intro q_; simp at q_; done) | omega)
            have f218 : U206 it57 = some (2, .inr (11, [.int (iI (k + 1)), .int (iI k), .int (iI mo), .ref nl])) := hs207.at f196 (k := 21) rfl (by first | exact not_false | (intro q_; simp at q_; done) | omega)
            have f219 : U206 (f k) = some (t, .inr (3, [.int (iI k), .null, .int (iI (nd P k 1)), .int (iI (nd P k 2)), .int (iI (nd P k 3)), .int (iI (nd P k 4)), .int (iI (nd P k 5)), .int (iI (nd P k 6)), .int (iI (sh k))])) := hs207.at f197 (k := 13) rfl (by first | exact not_false | (intro q_; simp at q_; done) | omega)
            have f220 : U206 b187 = some (tg, .inr (3, [.int (iI k), va_rf none, .int (iI (nd P k 1)), .int (iI (nd P k 2)), .int (iI (nd P k 3)), .int (iI (nd P k 4)), .int (iI (nd P k 5)), .int (iI (nd P k 6)), .int (iI 0)])) := hs207.at f188 (k := 13) rfl (by first | exact not_false | (intro q_; simp at q_; done) | omega)
            have p221 : AD E U206 t ar (P 2) f := AD.kp p198 hs207 (by intro T k h_; first | exact h_.elim | (obtain ⟨-, rfl⟩ := h_; simp; done) | omega)
            have p222 : TRE U206 t P f sh := TRE.kp p199 hs207 (by intro T k h_; first | exact h_.elim | (obtain ⟨-, rfl⟩ := h_; simp; done) | omega)
            have p223 : LQ U206 t (P 3) ch se := LQ.kp p200 hs207 (by intro T k h_; first | exact h_.elim | (obtain ⟨-, rfl⟩ := h_; simp; done) | omega)
            have p224 : ScO U206 P se := ScO.kp p201 hs207 (by intro T k h_; first | exact h_.elim | (obtain ⟨-, rfl⟩ := h_; simp; done) | omega)
            have p225 : titO U206 P tlo := titO.kp p202 hs207 (by intro T k h_; first | exact h_.elim | (obtain ⟨-, rfl⟩ := h_; simp; done) | omega)
            have p226 : TREk U206 tg P f9 (fun _ => 0) k := TREk.kp p204 hs207 (by intro T k h_; first | exact h_.elim | (obtain ⟨-, rfl⟩ := h_; simp; done) | omega)
            have p227 : OB U206 b187 := OB.kp p205 hs207
            have hk : FR (fun T k => T = tg ∨ T = 2) w U206 := FR.tr hk hs207 (by intro T k h_; first | exact h_.elim | (obtain ⟨rfl, rfl⟩ := h_; simp; done) | omega)
            subst hzz208
            have p228 : TREk U206 tg P (upz f9 k b187) (fun _ => 0) (k + 1) := TREk.add hP p226 (by omega) (by omega) f220 (fun q_ => by first | (exfalso; omega) | (unfold ndB; first | rw [paO_eqn hq0] | rw [paO_eqs hq0]; done) | (unfold ndB; first | rw [paO_eqn hq0] | rw [paO_eqs hq0]) <;> rfl) (fun q_ => by first | (exfalso; omega) | (unfold ndG; first | rw [paO_eqn hq0] | rw [paO_eqs hq0]; done) | (unfold ndG; first | rw [paO_eqn hq0] | rw [paO_eqs hq0]) <;> rfl)
            refine lv_istore (lv' := [(5, .int (iI (bI True))), (4, .null), (3, .ref (f k)), (0, .ref a), (1, .ref r0), (2, .ref it57)]) hx hb dX2_copy_96 hl (by decide) rfl (fun ls hl => ?_)
            refine lv_goto (tgt := 34) hx hb dX2_copy_98 (by decide) ?_
            exact ih_34 (k + 1) (mo9 + 1) b209 (upz f9 k b187) k (cl_ + 1 + 2) (sl_ + 9 + 110) U206 (by omega) (f212) (f213) (f214) (f215) (f210) (f216) (f217) (f218) p221 p222 p223 p224 p225 p211 p228 hk (by first | assumption | omega) (by first | assumption | omega) _ _ hH ls (lv_sub hl [3, 4, 5] rfl)
          · refine lv_ifnonnull (tgt := 64) hx hb dX2_copy_57 (by decide) ?_
            rw [hq57] at f183
            obtain ⟨hq0, hr57⟩ := paO_some hq57
            have hN0 := hN.1.resolve_left hq0
            have f229 : U165 r57 = some (t, .inr (4, [.int (iI (nd P k 0)), va_rf (paO P f (nd P k 0)), .int (iI (nd P (nd P k 0) 1)), .int (iI (nd P (nd P k 0) 2)), .int (iI (nd P (nd P k 0) 3))])) := by rw [hr57]; exact (p177 (nd P k 0) (by omega) (by omega)).2 (by omega)
            refine lv_aload_n hx hb dX2_copy_64 rfl (lv_at hl 2 rfl) ?_
            refine j_get hx hb hts hown hV hH f172 rfl in_X2 2 (Nat.le_of_ble_eq_true rfl) q224 (fun _ h => h) rfl dX2_copy_65 ?_
            refine lv_aload_n hx hb dX2_copy_68 rfl (lv_at hl 0 rfl) ?_
            refine j_get hx hb hts hown hV hH f183 rfl in_X5 1 (Nat.le_of_ble_eq_true rfl) q414 (fun _ h => h) rfl dX2_copy_69 ?_
            refine j_get hx hb hts hown hV hH f229 rfl in_X6 0 (Nat.le_of_ble_eq_true rfl) q405 (u_same (hts _ q406)) rfl dX2_copy_72 ?_
            refine j_callqp (va_runV (As := [.int (iI (nd P k 0))]) (rest := []) ⟨hx, hb, hml, hown, hts⟩ (m_J2_getD l _ nl39 ar9 tg mo9 k f9 (nd P k 0) (f173) (p181) (by omega)) (cw_J2_get hts q362 (Nat.le_of_ble_eq_true rfl) (Nat.le_of_ble_eq_true rfl)) (j_preV hV hH f173 rfl) rfl rfl hl.1 rfl (lv_room (Nat.le_of_ble_eq_true rfl)) dX2_copy_75 ⟨(by show _ ≤ 120; omega), (by show _ ≤ 2700; omega)⟩) hH (fun H locs hH => ?_)
            have f230 : U165 (f9 (nd P k 0)) = some (tg, .inr (4, [.int (iI (nd P k 0)), va_rf (paO P f9 (nd P k 0)), .int (iI (nd P (nd P k 0) 1)), .int (iI (nd P (nd P k 0) 2)), .int (iI (nd P (nd P k 0) 3))])) := (p182 (nd P k 0) (by omega) (by omega)).2 (by omega)
            refine j_castS hx hb hts hown hV hH f230 rfl q376 dX2_copy_78 ?_
            refine lv_astore (lv' := [(4, .ref (f9 (nd P k 0))), (3, .ref (f k)), (0, .ref a), (1, .ref r0), (2, .ref it57)]) hx hb dX2_copy_81 hl (by decide) rfl (fun ls hl => ?_)
            refine lv_aload_n hx hb dX2_copy_83 rfl (lv_at hl 3 rfl) ?_
            refine j_get hx hb hts hown hV hH f172 rfl in_X2 2 (Nat.le_of_ble_eq_true rfl) q224 (fun _ h => h) rfl dX2_copy_84 ?_
            refine lv_aload_n hx hb dX2_copy_87 rfl (lv_at hl 1 rfl) ?_
            refine lv_aload hx hb dX2_copy_88 (lv_at hl 0 rfl) ?_
            refine j_callq (va_runU (As := [va_rf (some (f9 (nd P k 0)))]) (rest := [.ref nl39]) ⟨hx, hb, hml, hown, hts⟩ (m_X5_copyInto l U165 (f k) t tg k (some r57) (nd P k 1) (nd P k 2) (nd P k 3) (nd P k 4) (nd P k 5) (nd P k 6) (sh k) (some (f9 (nd P k 0))) (f183) (by omega)) (j_cwA (owner := "EyeStage$Part") 1 hts q377 q379 q380 q381 q132 q382 (hV.2.1 _ q378 rfl) (by decide +kernel) (Nat.le_of_ble_eq_true rfl) (Nat.le_of_ble_eq_true rfl)) (j_preV hV hH f183 rfl) rfl rfl hl.1 rfl (lv_room (Nat.le_of_ble_eq_true rfl)) dX2_copy_90 ⟨(by show _ ≤ 120; omega), (by show _ ≤ 2700; omega)⟩) hH (fun z233 U231 H locs hp hH => ?_)
            obtain ⟨b234, hzz233, f235, hb0_90, hs232⟩ := hp
            have f236 : U231 a = some (t, .inr (1, [.int (iI (P 0)), .int (iI (P 1)), .ref nl, .ref sl, .ref stt, va_rf tlo, .int (iI (P 4)), .int (iI (P 5)), .int (iI (P 6))])) := hs232.at f169 (k := 11) rfl (by first | exact not_false | (intro q_; simp at q_; done) | omega)
            have f237 : U231 nl = some (t, .inr (10, [.int (iI mo), .ref ar, .int (iI (P 2))])) := hs232.at f170 (k := 20) rfl (by first | exact not_false | (intro q_; simp at q_; done) | omega)
            have f238 : U231 sl = some (t, .inr (12, [.int (iI mo2), .int (iI (P 3)), va_rf (hdO (P 3) ch 0), va_rf (prO ch (P 3))])) := hs232.at f171 (k := 22) rfl (by first | exact not_false | (intro q_; simp at q_; done) | omega)
            have f239 : U231 r0 = some (tg, .inr (1, [.int (iI (P 0)), .int (iI (P 1)), .ref nl39, .ref sl40, .ref r16, .null, .int (iI 0), .int (iI (-5)), .int (iI 5)])) := hs232.at f172 (k := 11) rfl (by first | exact not_false | (intro q_; simp at q_; done) | omega)
            have f240 : U231 nl39 = some (tg, .inr (10, [.int (iI mo9), .ref ar9, .int (iI k)])) := hs232.at f173 (k := 20) rfl (by first | exact not_false | (intro q_; simp at q_; done) | omega)
            have f241 : U231 sl40 = some (tg, .inr (12, [.int (iI 0), .int (iI 0), .null, .null])) := hs232.at f174 (k := 22) rfl (by first | exact not_false | (intro q_; simp at q_; done) | omega)
            have f242 : U231 r16 = some (tg, arI E 4 (sg4 P)) := hs232.at f175 (k := 0) rfl (by first | exact not_false | (intro q_; simp at q_; done) | omega)
            have f243 : U231 it57 = some (2, .inr (11, [.int (iI (k + 1)), .int (iI k), .int (iI mo), .ref nl])) := hs232.at f168 (k := 21) rfl (by first | exact not_false | (intro q_; simp at q_; done) | omega)
            have f244 : U231 (f k) = some (t, .inr (3, [.int (iI k), .ref r57, .int (iI (nd P k 1)), .int (iI (nd P k 2)), .int (iI (nd P k 3)), .int (iI (nd P k 4)), .int (iI (nd P k 5)), .int (iI (nd P k 6)), .int (iI (sh k))])) := hs232.at f183 (k := 13) rfl (by first | exact not_false | (intro q_; simp at q_; done) | omega)
            have f245 : U231 r57 = some (t, .inr (4, [.int (iI (nd P k 0)), va_rf (paO P f (nd P k 0)), .int (iI (nd P (nd P k 0) 1)), .int (iI (nd P (nd P k 0) 2)), .int (iI (nd P (nd P k 0) 3))])) := hs232.at f229 (k := 14) rfl (by first | exact not_false | (intro q_; simp at q_; done) | omega)
            have f246 : U231 (f9 (nd P k 0)) = some (tg, .inr (4, [.int (iI (nd P k 0)), va_rf (paO P f9 (nd P k 0)), .int (iI (nd P (nd P k 0) 1)), .int (iI (nd P (nd P k 0) 2)), .int (iI (nd P (nd P k 0) 3))])) := hs232.at f230 (k := 14) rfl (by first | exact not_false | (intro q_; simp at q_; done) | omega)
            have p247 : AD E U231 t ar (P 2) f := AD.kp p176 hs232 (by intro T k h_; first | exact h_.elim | (obtain ⟨-, rfl⟩ := h_; simp; done) | omega)
            have p248 : TRE U231 t P f sh := TRE.kp p177 hs232 (by intro T k h_; first | exact h_.elim | (obtain ⟨-, rfl⟩ := h_; simp; done) | omega)
            have p249 : LQ U231 t (P 3) ch se := LQ.kp p178 hs232 (by intro T k h_; first | exact h_.elim | (obtain ⟨-, rfl⟩ := h_; simp; done) | omega)
            have p250 : ScO U231 P se := ScO.kp p179 hs232 (by intro T k h_; first | exact h_.elim | (obtain ⟨-, rfl⟩ := h_; simp; done) | omega)
            have p251 : titO U231 P tlo := titO.kp p180 hs232 (by intro T k h_; first | exact h_.elim | (obtain ⟨-, rfl⟩ := h_; simp; done) | omega)
            have p252 : AD E U231 tg ar9 k f9 := AD.kp p181 hs232 (by intro T k h_; first | exact h_.elim | (obtain ⟨-, rfl⟩ := h_; simp; done) | omega)
            have p253 : TREk U231 tg P f9 (fun _ => 0) k := TREk.kp p182 hs232 (by intro T k h_; first | exact h_.elim | (obtain ⟨-, rfl⟩ := h_; simp; done) | omega)
            have hk : FR (fun T k => T = tg ∨ T = 2) w U231 := FR.tr hk hs232 (by intro T k h_; first | exact h_.elim | (obtain ⟨rfl, rfl⟩ := h_; simp; done) | omega)
            subst hzz233
            show W p l e _ s m args below meth c H locs _ _ Q (F0 m _ ls (.ref b234 :: [.ref nl39]))
            have p254 : OB U231 b234 := OB.of f235 (by omega)
            refine j_calli (va_runV (As := [.ref b234]) (rest := []) ⟨hx, hb, hml, hown, hts⟩ (m_J2_add l U231 nl39 ar9 tg mo9 k f9 b234 (f240) (p252) (p254) (by omega)) (cw_J2_add hts q476 (Nat.le_of_ble_eq_true rfl) (Nat.le_of_ble_eq_true rfl)) (j_preV hV hH f240 rfl) rfl rfl hl.1 rfl (lv_room (Nat.le_of_ble_eq_true rfl)) dX2_copy_93 ⟨(by show _ ≤ 120; omega), (by show _ ≤ 2700; omega)⟩) hH (fun z257 U255 H locs hp hH => ?_)
            obtain ⟨b258, hzz257, f259, p260, hs256⟩ := hp
            have f261 : U255 a = some (t, .inr (1, [.int (iI (P 0)), .int (iI (P 1)), .ref nl, .ref sl, .ref stt, va_rf tlo, .int (iI (P 4)), .int (iI (P 5)), .int (iI (P 6))])) := hs256.at f236 (k := 11) rfl (by first | exact not_false | (intro q_; simp at q_; done) | omega)
            have f262 : U255 nl = some (t, .inr (10, [.int (iI mo), .ref ar, .int (iI (P 2))])) := hs256.at f237 (k := 20) rfl (by first | exact not_false | (intro q_; simp at q_; done) | omega)
            have f263 : U255 sl = some (t, .inr (12, [.int (iI mo2), .int (iI (P 3)), va_rf (hdO (P 3) ch 0), va_rf (prO ch (P 3))])) := hs256.at f238 (k := 22) rfl (by first | exact not_false | (intro q_; simp at q_; done) | omega)
            have f264 : U255 r0 = some (tg, .inr (1, [.int (iI (P 0)), .int (iI (P 1)), .ref nl39, .ref sl40, .ref r16, .null, .int (iI 0), .int (iI (-5)), .int (iI 5)])) := hs256.at f239 (k := 11) rfl (by first | exact not_false | (intro q_; simp at q_; done) | omega)
            have f265 : U255 sl40 = some (tg, .inr (12, [.int (iI 0), .int (iI 0), .null, .null])) := hs256.at f241 (k := 22) rfl (by first | exact not_false | (intro q_; simp at q_; done) | omega)
            have f266 : U255 r16 = some (tg, arI E 4 (sg4 P)) := hs256.at f242 (k := 0) rfl (by first | exact not_false | (intro q_; simp at q_; done) | omega)
            have f267 : U255 it57 = some (2, .inr (11, [.int (iI (k + 1)), .int (iI k), .int (iI mo), .ref nl])) := hs256.at f243 (k := 21) rfl (by first | exact not_false | (intro q_; simp at q_; done) | omega)
            have f268 : U255 (f k) = some (t, .inr (3, [.int (iI k), .ref r57, .int (iI (nd P k 1)), .int (iI (nd P k 2)), .int (iI (nd P k 3)), .int (iI (nd P k 4)), .int (iI (nd P k 5)), .int (iI (nd P k 6)), .int (iI (sh k))])) := hs256.at f244 (k := 13) rfl (by first | exact not_false | (intro q_; simp at q_; done) | omega)
            have f269 : U255 r57 = some (t, .inr (4, [.int (iI (nd P k 0)), va_rf (paO P f (nd P k 0)), .int (iI (nd P (nd P k 0) 1)), .int (iI (nd P (nd P k 0) 2)), .int (iI (nd P (nd P k 0) 3))])) := hs256.at f245 (k := 14) rfl (by first | exact not_false | (intro q_; simp at q_; done) | omega)
            have f270 : U255 (f9 (nd P k 0)) = some (tg, .inr (4, [.int (iI (nd P k 0)), va_rf (paO P f9 (nd P k 0)), .int (iI (nd P (nd P k 0) 1)), .int (iI (nd P (nd P k 0) 2)), .int (iI (nd P (nd P k 0) 3))])) := hs256.at f246 (k := 14) rfl (by first | exact not_false | (intro q_; simp at q_; done) | omega)
            have f271 : U255 b234 = some (tg, .inr (3, [.int (iI k), va_rf (some (f9 (nd P k 0))), .int (iI (nd P k 1)), .int (iI (nd P k 2)), .int (iI (nd P k 3)), .int (iI (nd P k 4)), .int (iI (nd P k 5)), .int (iI (nd P k 6)), .int (iI 0)])) := hs256.at f235 (k := 13) rfl (by first | exact not_false | (intro q_; simp at q_; done) | omega)
            have p272 : AD E U255 t ar (P 2) f := AD.kp p247 hs256 (by intro T k h_; first | exact h_.elim | (obtain ⟨-, rfl⟩ := h_; simp; done) | omega)
            have p273 : TRE U255 t P f sh := TRE.kp p248 hs256 (by intro T k h_; first | exact h_.elim | (obtain ⟨-, rfl⟩ := h_; simp; done) | omega)
            have p274 : LQ U255 t (P 3) ch se := LQ.kp p249 hs256 (by intro T k h_; first | exact h_.elim | (obtain ⟨-, rfl⟩ := h_; simp; done) | omega)
            have p275 : ScO U255 P se := ScO.kp p250 hs256 (by intro T k h_; first | exact h_.elim | (obtain ⟨-, rfl⟩ := h_; simp; done) | omega)
            have p276 : titO U255 P tlo := titO.kp p251 hs256 (by intro T k h_; first | exact h_.elim | (obtain ⟨-, rfl⟩ := h_; simp; done) | omega)
            have p277 : TREk U255 tg P f9 (fun _ => 0) k := TREk.kp p253 hs256 (by intro T k h_; first | exact h_.elim | (obtain ⟨-, rfl⟩ := h_; simp; done) | omega)
            have p278 : OB U255 b234 := OB.kp p254 hs256
            have hk : FR (fun T k => T = tg ∨ T = 2) w U255 := FR.tr hk hs256 (by intro T k h_; first | exact h_.elim | (obtain ⟨rfl, rfl⟩ := h_; simp; done) | omega)
            subst hzz257
            have p279 : TREk U255 tg P (upz f9 k b234) (fun _ => 0) (k + 1) := TREk.add hP p277 (by omega) (by omega) f271 (fun q_ => by first | (exfalso; omega) | (unfold ndB; first | rw [paO_eqn hq0] | rw [paO_eqs hq0]; done) | (unfold ndB; first | rw [paO_eqn hq0] | rw [paO_eqs hq0]) <;> rfl) (fun q_ => by first | (exfalso; omega) | (unfold ndG; first | rw [paO_eqn hq0] | rw [paO_eqs hq0]; done) | (unfold ndG; first | rw [paO_eqn hq0] | rw [paO_eqs hq0]) <;> rfl)
            refine lv_istore (lv' := [(5, .int (iI (bI True))), (4, .ref (f9 (nd P k 0))), (3, .ref (f k)), (0, .ref a), (1, .ref r0), (2, .ref it57)]) hx hb dX2_copy_96 hl (by decide) rfl (fun ls hl => ?_)
            refine lv_goto (tgt := 34) hx hb dX2_copy_98 (by decide) ?_
            exact ih_34 (k + 1) (mo9 + 1) b258 (upz f9 k b234) k (cl_ + 1 + 2) (sl_ + 9 + 110) U255 (by omega) (f261) (f262) (f263) (f264) (f259) (f265) (f266) (f267) p272 p273 p274 p275 p276 p260 p279 hk (by first | assumption | omega) (by first | assumption | omega) _ _ hH ls (lv_sub hl [3, 4, 5] rfl)
        · have f280 : U165 (f k) = some (t, .inr (4, [.int (iI k), va_rf (paO P f k), .int (iI (nd P k 1)), .int (iI (nd P k 2)), .int (iI (nd P k 3))])) := (p177 k (by omega) (by omega)).2 (by omega)
          refine j_cast hx hb hts hown hV hH f280 rfl q361 (hV.2.1 _ q2737 rfl) dX2_copy_49 ?_
          refine lv_astore_n (lv' := [(3, .ref (f k)), (0, .ref a), (1, .ref r0), (2, .ref it57)]) hx hb dX2_copy_52 rfl hl (by decide) rfl (fun ls hl => ?_)
          refine lv_aload_n hx hb dX2_copy_53 rfl (lv_at hl 0 rfl) ?_
          refine j_get hx hb hts hown hV hH f280 rfl in_X6 1 (Nat.le_of_ble_eq_true rfl) q414 (fun _ h => h) rfl dX2_copy_54 ?_
          rcases hq57 : (paO P f k) with _ | r57
          · refine lv_ifnonnullN hx hb dX2_copy_57 ?_
            rw [hq57] at f280
            have hq0 := paO_none hq57
            refine lv_null hx hb dX2_copy_60 ?_
            refine lv_goto (tgt := 81) hx hb dX2_copy_61 (by decide) ?_
            refine lv_astoreN (lv' := [(4, .null), (3, .ref (f k)), (0, .ref a), (1, .ref r0), (2, .ref it57)]) hx hb dX2_copy_81 hl (by decide) rfl (fun ls hl => ?_)
            refine lv_aload_n hx hb dX2_copy_83 rfl (lv_at hl 3 rfl) ?_
            refine j_get hx hb hts hown hV hH f172 rfl in_X2 2 (Nat.le_of_ble_eq_true rfl) q224 (fun _ h => h) rfl dX2_copy_84 ?_
            refine lv_aload_n hx hb dX2_copy_87 rfl (lv_at hl 1 rfl) ?_
            refine lv_aloadN hx hb dX2_copy_88 (lv_at hl 0 rfl) ?_
            refine j_callq (va_runU (As := [va_rf none]) (rest := [.ref nl39]) ⟨hx, hb, hml, hown, hts⟩ (m_X6_copyInto l U165 (f k) t tg k none (nd P k 1) (nd P k 2) (nd P k 3) none (f280) (by omega)) (j_cwA (owner := "EyeStage$Part") 1 hts q377 q379 q454 q455 q133 q456 (hV.2.1 _ q378 rfl) (by decide +kernel) (Nat.le_of_ble_eq_true rfl) (Nat.le_of_ble_eq_true rfl)) (j_preV hV hH f280 rfl) rfl rfl hl.1 rfl (lv_room (Nat.le_of_ble_eq_true rfl)) dX2_copy_90 ⟨(by show _ ≤ 120; omega), (by show _ ≤ 2700; omega)⟩) hH (fun z283 U281 H locs hp hH => ?_)
            obtain ⟨b284, hzz283, f285, hb0_90, hs282⟩ := hp
            have f286 : U281 a = some (t, .inr (1, [.int (iI (P 0)), .int (iI (P 1)), .ref nl, .ref sl, .ref stt, va_rf tlo, .int (iI (P 4)), .int (iI (P 5)), .int (iI (P 6))])) := hs282.at f169 (k := 11) rfl (by first | exact not_false | (intro q_; simp at q_; done) | omega)
            have f287 : U281 nl = some (t, .inr (10, [.int (iI mo), .ref ar, .int (iI (P 2))])) := hs282.at f170 (k := 20) rfl (by first | exact not_false | (intro q_; simp at q_; done) | omega)
            have f288 : U281 sl = some (t, .inr (12, [.int (iI mo2), .int (iI (P 3)), va_rf (hdO (P 3) ch 0), va_rf (prO ch (P 3))])) := hs282.at f171 (k := 22) rfl (by first | exact not_false | (intro q_; simp at q_; done) | omega)
            have f289 : U281 r0 = some (tg, .inr (1, [.int (iI (P 0)), .int (iI (P 1)), .ref nl39, .ref sl40, .ref r16, .null, .int (iI 0), .int (iI (-5)), .int (iI 5)])) := hs282.at f172 (k := 11) rfl (by first | exact not_false | (intro q_; simp at q_; done) | omega)
            have f290 : U281 nl39 = some (tg, .inr (10, [.int (iI mo9), .ref ar9, .int (iI k)])) := hs282.at f173 (k := 20) rfl (by first | exact not_false | (intro q_; simp at q_; done) | omega)
            have f291 : U281 sl40 = some (tg, .inr (12, [.int (iI 0), .int (iI 0), .null, .null])) := hs282.at f174 (k := 22) rfl (by first | exact not_false | (intro q_; simp at q_; done) | omega)
            have f292 : U281 r16 = some (tg, arI E 4 (sg4 P)) := hs282.at f175 (k := 0) rfl (by first | exact not_false | (intro q_; simp at q_; done) | omega)
            have f293 : U281 it57 = some (2, .inr (11, [.int (iI (k + 1)), .int (iI k), .int (iI mo), .ref nl])) := hs282.at f168 (k := 21) rfl (by first | exact not_false | (intro q_; simp at q_; done) | omega)
            have f294 : U281 (f k) = some (t, .inr (4, [.int (iI k), .null, .int (iI (nd P k 1)), .int (iI (nd P k 2)), .int (iI (nd P k 3))])) := hs282.at f280 (k := 14) rfl (by first | exact not_false | (intro q_; simp at q_; done) | omega)
            have p295 : AD E U281 t ar (P 2) f := AD.kp p176 hs282 (by intro T k h_; first | exact h_.elim | (obtain ⟨-, rfl⟩ := h_; simp; done) | omega)
            have p296 : TRE U281 t P f sh := TRE.kp p177 hs282 (by intro T k h_; first | exact h_.elim | (obtain ⟨-, rfl⟩ := h_; simp; done) | omega)
            have p297 : LQ U281 t (P 3) ch se := LQ.kp p178 hs282 (by intro T k h_; first | exact h_.elim | (obtain ⟨-, rfl⟩ := h_; simp; done) | omega)
            have p298 : ScO U281 P se := ScO.kp p179 hs282 (by intro T k h_; first | exact h_.elim | (obtain ⟨-, rfl⟩ := h_; simp; done) | omega)
            have p299 : titO U281 P tlo := titO.kp p180 hs282 (by intro T k h_; first | exact h_.elim | (obtain ⟨-, rfl⟩ := h_; simp; done) | omega)
            have p300 : AD E U281 tg ar9 k f9 := AD.kp p181 hs282 (by intro T k h_; first | exact h_.elim | (obtain ⟨-, rfl⟩ := h_; simp; done) | omega)
            have p301 : TREk U281 tg P f9 (fun _ => 0) k := TREk.kp p182 hs282 (by intro T k h_; first | exact h_.elim | (obtain ⟨-, rfl⟩ := h_; simp; done) | omega)
            have hk : FR (fun T k => T = tg ∨ T = 2) w U281 := FR.tr hk hs282 (by intro T k h_; first | exact h_.elim | (obtain ⟨rfl, rfl⟩ := h_; simp; done) | omega)
            subst hzz283
            show W p l e _ s m args below meth c H locs _ _ Q (F0 m _ ls (.ref b284 :: [.ref nl39]))
            have p302 : OB U281 b284 := OB.of f285 (by omega)
            refine j_calli (va_runV (As := [.ref b284]) (rest := []) ⟨hx, hb, hml, hown, hts⟩ (m_J2_add l U281 nl39 ar9 tg mo9 k f9 b284 (f290) (p300) (p302) (by omega)) (cw_J2_add hts q476 (Nat.le_of_ble_eq_true rfl) (Nat.le_of_ble_eq_true rfl)) (j_preV hV hH f290 rfl) rfl rfl hl.1 rfl (lv_room (Nat.le_of_ble_eq_true rfl)) dX2_copy_93 ⟨(by show _ ≤ 120; omega), (by show _ ≤ 2700; omega)⟩) hH (fun z305 U303 H locs hp hH => ?_)
            obtain ⟨b306, hzz305, f307, p308, hs304⟩ := hp
            have f309 : U303 a = some (t, .inr (1, [.int (iI (P 0)), .int (iI (P 1)), .ref nl, .ref sl, .ref stt, va_rf tlo, .int (iI (P 4)), .int (iI (P 5)), .int (iI (P 6))])) := hs304.at f286 (k := 11) rfl (by first | exact not_false | (intro q_; simp at q_; done) | omega)
            have f310 : U303 nl = some (t, .inr (10, [.int (iI mo), .ref ar, .int (iI (P 2))])) := hs304.at f287 (k := 20) rfl (by first | exact not_false | (intro q_; simp at q_; done) | omega)
            have f311 : U303 sl = some (t, .inr (12, [.int (iI mo2), .int (iI (P 3)), va_rf (hdO (P 3) ch 0), va_rf (prO ch (P 3))])) := hs304.at f288 (k := 22) rfl (by first | exact not_false | (intro q_; simp at q_; done) | omega)
            have f312 : U303 r0 = some (tg, .inr (1, [.int (iI (P 0)), .int (iI (P 1)), .ref nl39, .ref sl40, .ref r16, .null, .int (iI 0), .int (iI (-5)), .int (iI 5)])) := hs304.at f289 (k := 11) rfl (by first | exact not_false | (intro q_; simp at q_; done) | omega)
            have f313 : U303 sl40 = some (tg, .inr (12, [.int (iI 0), .int (iI 0), .null, .null])) := hs304.at f291 (k := 22) rfl (by first | exact not_false | (intro q_; simp at q_; done) | omega)
            have f314 : U303 r16 = some (tg, arI E 4 (sg4 P)) := hs304.at f292 (k := 0) rfl (by first | exact not_false | (intro q_; simp at q_; done) | omega)
            have f315 : U303 it57 = some (2, .inr (11, [.int (iI (k + 1)), .int (iI k), .int (iI mo), .ref nl])) := hs304.at f293 (k := 21) rfl (by first | exact not_false | (intro q_; simp at q_; done) | omega)
            have f316 : U303 (f k) = some (t, .inr (4, [.int (iI k), .null, .int (iI (nd P k 1)), .int (iI (nd P k 2)), .int (iI (nd P k 3))])) := hs304.at f294 (k := 14) rfl (by first | exact not_false | (intro q_; simp at q_; done) | omega)
            have f317 : U303 b284 = some (tg, .inr (4, [.int (iI k), va_rf none, .int (iI (nd P k 1)), .int (iI (nd P k 2)), .int (iI (nd P k 3))])) := hs304.at f285 (k := 14) rfl (by first | exact not_false | (intro q_; simp at q_; done) | omega)
            have p318 : AD E U303 t ar (P 2) f := AD.kp p295 hs304 (by intro T k h_; first | exact h_.elim | (obtain ⟨-, rfl⟩ := h_; simp; done) | omega)
            have p319 : TRE U303 t P f sh := TRE.kp p296 hs304 (by intro T k h_; first | exact h_.elim | (obtain ⟨-, rfl⟩ := h_; simp; done) | omega)
            have p320 : LQ U303 t (P 3) ch se := LQ.kp p297 hs304 (by intro T k h_; first | exact h_.elim | (obtain ⟨-, rfl⟩ := h_; simp; done) | omega)
            have p321 : ScO U303 P se := ScO.kp p298 hs304 (by intro T k h_; first | exact h_.elim | (obtain ⟨-, rfl⟩ := h_; simp; done) | omega)
            have p322 : titO U303 P tlo := titO.kp p299 hs304 (by intro T k h_; first | exact h_.elim | (obtain ⟨-, rfl⟩ := h_; simp; done) | omega)
            have p323 : TREk U303 tg P f9 (fun _ => 0) k := TREk.kp p301 hs304 (by intro T k h_; first | exact h_.elim | (obtain ⟨-, rfl⟩ := h_; simp; done) | omega)
            have p324 : OB U303 b284 := OB.kp p302 hs304
            have hk : FR (fun T k => T = tg ∨ T = 2) w U303 := FR.tr hk hs304 (by intro T k h_; first | exact h_.elim | (obtain ⟨rfl, rfl⟩ := h_; simp; done) | omega)
            subst hzz305
            have p325 : TREk U303 tg P (upz f9 k b284) (fun _ => 0) (k + 1) := TREk.add hP p323 (by omega) (by omega) f317 (fun q_ => by first | (exfalso; omega) | (unfold ndB; first | rw [paO_eqn hq0] | rw [paO_eqs hq0]; done) | (unfold ndB; first | rw [paO_eqn hq0] | rw [paO_eqs hq0]) <;> rfl) (fun q_ => by first | (exfalso; omega) | (unfold ndG; first | rw [paO_eqn hq0] | rw [paO_eqs hq0]; done) | (unfold ndG; first | rw [paO_eqn hq0] | rw [paO_eqs hq0]) <;> rfl)
            refine lv_istore (lv' := [(5, .int (iI (bI True))), (4, .null), (3, .ref (f k)), (0, .ref a), (1, .ref r0), (2, .ref it57)]) hx hb dX2_copy_96 hl (by decide) rfl (fun ls hl => ?_)
            refine lv_goto (tgt := 34) hx hb dX2_copy_98 (by decide) ?_
            exact ih_34 (k + 1) (mo9 + 1) b306 (upz f9 k b284) k (cl_ + 1 + 2) (sl_ + 5 + 110) U303 (by omega) (f309) (f310) (f311) (f312) (f307) (f313) (f314) (f315) p318 p319 p320 p321 p322 p308 p325 hk (by first | assumption | omega) (by first | assumption | omega) _ _ hH ls (lv_sub hl [3, 4, 5] rfl)
          · refine lv_ifnonnull (tgt := 64) hx hb dX2_copy_57 (by decide) ?_
            rw [hq57] at f280
            obtain ⟨hq0, hr57⟩ := paO_some hq57
            have hN0 := hN.1.resolve_left hq0
            have f326 : U165 r57 = some (t, .inr (4, [.int (iI (nd P k 0)), va_rf (paO P f (nd P k 0)), .int (iI (nd P (nd P k 0) 1)), .int (iI (nd P (nd P k 0) 2)), .int (iI (nd P (nd P k 0) 3))])) := by rw [hr57]; exact (p177 (nd P k 0) (by omega) (by omega)).2 (by omega)
            refine lv_aload_n hx hb dX2_copy_64 rfl (lv_at hl 2 rfl) ?_
            refine j_get hx hb hts hown hV hH f172 rfl in_X2 2 (Nat.le_of_ble_eq_true rfl) q224 (fun _ h => h) rfl dX2_copy_65 ?_
            refine lv_aload_n hx hb dX2_copy_68 rfl (lv_at hl 0 rfl) ?_
            refine j_get hx hb hts hown hV hH f280 rfl in_X6 1 (Nat.le_of_ble_eq_true rfl) q414 (fun _ h => h) rfl dX2_copy_69 ?_
            refine j_get hx hb hts hown hV hH f326 rfl in_X6 0 (Nat.le_of_ble_eq_true rfl) q405 (u_same (hts _ q406)) rfl dX2_copy_72 ?_
            refine j_callqp (va_runV (As := [.int (iI (nd P k 0))]) (rest := []) ⟨hx, hb, hml, hown, hts⟩ (m_J2_getD l _ nl39 ar9 tg mo9 k f9 (nd P k 0) (f173) (p181) (by omega)) (cw_J2_get hts q362 (Nat.le_of_ble_eq_true rfl) (Nat.le_of_ble_eq_true rfl)) (j_preV hV hH f173 rfl) rfl rfl hl.1 rfl (lv_room (Nat.le_of_ble_eq_true rfl)) dX2_copy_75 ⟨(by show _ ≤ 120; omega), (by show _ ≤ 2700; omega)⟩) hH (fun H locs hH => ?_)
            have f327 : U165 (f9 (nd P k 0)) = some (tg, .inr (4, [.int (iI (nd P k 0)), va_rf (paO P f9 (nd P k 0)), .int (iI (nd P (nd P k 0) 1)), .int (iI (nd P (nd P k 0) 2)), .int (iI (nd P (nd P k 0) 3))])) := (p182 (nd P k 0) (by omega) (by omega)).2 (by omega)
            refine j_castS hx hb hts hown hV hH f327 rfl q376 dX2_copy_78 ?_
            refine lv_astore (lv' := [(4, .ref (f9 (nd P k 0))), (3, .ref (f k)), (0, .ref a), (1, .ref r0), (2, .ref it57)]) hx hb dX2_copy_81 hl (by decide) rfl (fun ls hl => ?_)
            refine lv_aload_n hx hb dX2_copy_83 rfl (lv_at hl 3 rfl) ?_
            refine j_get hx hb hts hown hV hH f172 rfl in_X2 2 (Nat.le_of_ble_eq_true rfl) q224 (fun _ h => h) rfl dX2_copy_84 ?_
            refine lv_aload_n hx hb dX2_copy_87 rfl (lv_at hl 1 rfl) ?_
            refine lv_aload hx hb dX2_copy_88 (lv_at hl 0 rfl) ?_
            refine j_callq (va_runU (As := [va_rf (some (f9 (nd P k 0)))]) (rest := [.ref nl39]) ⟨hx, hb, hml, hown, hts⟩ (m_X6_copyInto l U165 (f k) t tg k (some r57) (nd P k 1) (nd P k 2) (nd P k 3) (some (f9 (nd P k 0))) (f280) (by omega)) (j_cwA (owner := "EyeStage$Part") 1 hts q377 q379 q454 q455 q133 q456 (hV.2.1 _ q378 rfl) (by decide +kernel) (Nat.le_of_ble_eq_true rfl) (Nat.le_of_ble_eq_true rfl)) (j_preV hV hH f280 rfl) rfl rfl hl.1 rfl (lv_room (Nat.le_of_ble_eq_true rfl)) dX2_copy_90 ⟨(by show _ ≤ 120; omega), (by show _ ≤ 2700; omega)⟩) hH (fun z330 U328 H locs hp hH => ?_)
            obtain ⟨b331, hzz330, f332, hb0_90, hs329⟩ := hp
            have f333 : U328 a = some (t, .inr (1, [.int (iI (P 0)), .int (iI (P 1)), .ref nl, .ref sl, .ref stt, va_rf tlo, .int (iI (P 4)), .int (iI (P 5)), .int (iI (P 6))])) := hs329.at f169 (k := 11) rfl (by first | exact not_false | (intro q_; simp at q_; done) | omega)
            have f334 : U328 nl = some (t, .inr (10, [.int (iI mo), .ref ar, .int (iI (P 2))])) := hs329.at f170 (k := 20) rfl (by first | exact not_false | (intro q_; simp at q_; done) | omega)
            have f335 : U328 sl = some (t, .inr (12, [.int (iI mo2), .int (iI (P 3)), va_rf (hdO (P 3) ch 0), va_rf (prO ch (P 3))])) := hs329.at f171 (k := 22) rfl (by first | exact not_false | (intro q_; simp at q_; done) | omega)
            have f336 : U328 r0 = some (tg, .inr (1, [.int (iI (P 0)), .int (iI (P 1)), .ref nl39, .ref sl40, .ref r16, .null, .int (iI 0), .int (iI (-5)), .int (iI 5)])) := hs329.at f172 (k := 11) rfl (by first | exact not_false | (intro q_; simp at q_; done) | omega)
            have f337 : U328 nl39 = some (tg, .inr (10, [.int (iI mo9), .ref ar9, .int (iI k)])) := hs329.at f173 (k := 20) rfl (by first | exact not_false | (intro q_; simp at q_; done) | omega)
            have f338 : U328 sl40 = some (tg, .inr (12, [.int (iI 0), .int (iI 0), .null, .null])) := hs329.at f174 (k := 22) rfl (by first | exact not_false | (intro q_; simp at q_; done) | omega)
            have f339 : U328 r16 = some (tg, arI E 4 (sg4 P)) := hs329.at f175 (k := 0) rfl (by first | exact not_false | (intro q_; simp at q_; done) | omega)
            have f340 : U328 it57 = some (2, .inr (11, [.int (iI (k + 1)), .int (iI k), .int (iI mo), .ref nl])) := hs329.at f168 (k := 21) rfl (by first | exact not_false | (intro q_; simp at q_; done) | omega)
            have f341 : U328 (f k) = some (t, .inr (4, [.int (iI k), .ref r57, .int (iI (nd P k 1)), .int (iI (nd P k 2)), .int (iI (nd P k 3))])) := hs329.at f280 (k := 14) rfl (by first | exact not_false | (intro q_; simp at q_; done) | omega)
            have f342 : U328 r57 = some (t, .inr (4, [.int (iI (nd P k 0)), va_rf (paO P f (nd P k 0)), .int (iI (nd P (nd P k 0) 1)), .int (iI (nd P (nd P k 0) 2)), .int (iI (nd P (nd P k 0) 3))])) := hs329.at f326 (k := 14) rfl (by first | exact not_false | (intro q_; simp at q_; done) | omega)
            have f343 : U328 (f9 (nd P k 0)) = some (tg, .inr (4, [.int (iI (nd P k 0)), va_rf (paO P f9 (nd P k 0)), .int (iI (nd P (nd P k 0) 1)), .int (iI (nd P (nd P k 0) 2)), .int (iI (nd P (nd P k 0) 3))])) := hs329.at f327 (k := 14) rfl (by first | exact not_false | (intro q_; simp at q_; done) | omega)
            have p344 : AD E U328 t ar (P 2) f := AD.kp p176 hs329 (by intro T k h_; first | exact h_.elim | (obtain ⟨-, rfl⟩ := h_; simp; done) | omega)
            have p345 : TRE U328 t P f sh := TRE.kp p177 hs329 (by intro T k h_; first | exact h_.elim | (obtain ⟨-, rfl⟩ := h_; simp; done) | omega)
            have p346 : LQ U328 t (P 3) ch se := LQ.kp p178 hs329 (by intro T k h_; first | exact h_.elim | (obtain ⟨-, rfl⟩ := h_; simp; done) | omega)
            have p347 : ScO U328 P se := ScO.kp p179 hs329 (by intro T k h_; first | exact h_.elim | (obtain ⟨-, rfl⟩ := h_; simp; done) | omega)
            have p348 : titO U328 P tlo := titO.kp p180 hs329 (by intro T k h_; first | exact h_.elim | (obtain ⟨-, rfl⟩ := h_; simp; done) | omega)
            have p349 : AD E U328 tg ar9 k f9 := AD.kp p181 hs329 (by intro T k h_; first | exact h_.elim | (obtain ⟨-, rfl⟩ := h_; simp; done) | omega)
            have p350 : TREk U328 tg P f9 (fun _ => 0) k := TREk.kp p182 hs329 (by intro T k h_; first | exact h_.elim | (obtain ⟨-, rfl⟩ := h_; simp; done) | omega)
            have hk : FR (fun T k => T = tg ∨ T = 2) w U328 := FR.tr hk hs329 (by intro T k h_; first | exact h_.elim | (obtain ⟨rfl, rfl⟩ := h_; simp; done) | omega)
            subst hzz330
            show W p l e _ s m args below meth c H locs _ _ Q (F0 m _ ls (.ref b331 :: [.ref nl39]))
            have p351 : OB U328 b331 := OB.of f332 (by omega)
            refine j_calli (va_runV (As := [.ref b331]) (rest := []) ⟨hx, hb, hml, hown, hts⟩ (m_J2_add l U328 nl39 ar9 tg mo9 k f9 b331 (f337) (p349) (p351) (by omega)) (cw_J2_add hts q476 (Nat.le_of_ble_eq_true rfl) (Nat.le_of_ble_eq_true rfl)) (j_preV hV hH f337 rfl) rfl rfl hl.1 rfl (lv_room (Nat.le_of_ble_eq_true rfl)) dX2_copy_93 ⟨(by show _ ≤ 120; omega), (by show _ ≤ 2700; omega)⟩) hH (fun z354 U352 H locs hp hH => ?_)
            obtain ⟨b355, hzz354, f356, p357, hs353⟩ := hp
            have f358 : U352 a = some (t, .inr (1, [.int (iI (P 0)), .int (iI (P 1)), .ref nl, .ref sl, .ref stt, va_rf tlo, .int (iI (P 4)), .int (iI (P 5)), .int (iI (P 6))])) := hs353.at f333 (k := 11) rfl (by first | exact not_false | (intro q_; simp at q_; done) | omega)
            have f359 : U352 nl = some (t, .inr (10, [.int (iI mo), .ref ar, .int (iI (P 2))])) := hs353.at f334 (k := 20) rfl (by first | exact not_false | (intro q_; simp at q_; done) | omega)
            have f360 : U352 sl = some (t, .inr (12, [.int (iI mo2), .int (iI (P 3)), va_rf (hdO (P 3) ch 0), va_rf (prO ch (P 3))])) := hs353.at f335 (k := 22) rfl (by first | exact not_false | (intro q_; simp at q_; done) | omega)
            have f361 : U352 r0 = some (tg, .inr (1, [.int (iI (P 0)), .int (iI (P 1)), .ref nl39, .ref sl40, .ref r16, .null, .int (iI 0), .int (iI (-5)), .int (iI 5)])) := hs353.at f336 (k := 11) rfl (by first | exact not_false | (intro q_; simp at q_; done) | omega)
            have f362 : U352 sl40 = some (tg, .inr (12, [.int (iI 0), .int (iI 0), .null, .null])) := hs353.at f338 (k := 22) rfl (by first | exact not_false | (intro q_; simp at q_; done) | omega)
            have f363 : U352 r16 = some (tg, arI E 4 (sg4 P)) := hs353.at f339 (k := 0) rfl (by first | exact not_false | (intro q_; simp at q_; done) | omega)
            have f364 : U352 it57 = some (2, .inr (11, [.int (iI (k + 1)), .int (iI k), .int (iI mo), .ref nl])) := hs353.at f340 (k := 21) rfl (by first | exact not_false | (intro q_; simp at q_; done) | omega)
            have f365 : U352 (f k) = some (t, .inr (4, [.int (iI k), .ref r57, .int (iI (nd P k 1)), .int (iI (nd P k 2)), .int (iI (nd P k 3))])) := hs353.at f341 (k := 14) rfl (by first | exact not_false | (intro q_; simp at q_; done) | omega)
            have f366 : U352 r57 = some (t, .inr (4, [.int (iI (nd P k 0)), va_rf (paO P f (nd P k 0)), .int (iI (nd P (nd P k 0) 1)), .int (iI (nd P (nd P k 0) 2)), .int (iI (nd P (nd P k 0) 3))])) := hs353.at f342 (k := 14) rfl (by first | exact not_false | (intro q_; simp at q_; done) | omega)
            have f367 : U352 (f9 (nd P k 0)) = some (tg, .inr (4, [.int (iI (nd P k 0)), va_rf (paO P f9 (nd P k 0)), .int (iI (nd P (nd P k 0) 1)), .int (iI (nd P (nd P k 0) 2)), .int (iI (nd P (nd P k 0) 3))])) := hs353.at f343 (k := 14) rfl (by first | exact not_false | (intro q_; simp at q_; done) | omega)
            have f368 : U352 b331 = some (tg, .inr (4, [.int (iI k), va_rf (some (f9 (nd P k 0))), .int (iI (nd P k 1)), .int (iI (nd P k 2)), .int (iI (nd P k 3))])) := hs353.at f332 (k := 14) rfl (by first | exact not_false | (intro q_; simp at q_; done) | omega)
            have p369 : AD E U352 t ar (P 2) f := AD.kp p344 hs353 (by intro T k h_; first | exact h_.elim | (obtain ⟨-, rfl⟩ := h_; simp; done) | omega)
            have p370 : TRE U352 t P f sh := TRE.kp p345 hs353 (by intro T k h_; first | exact h_.elim | (obtain ⟨-, rfl⟩ := h_; simp; done) | omega)
            have p371 : LQ U352 t (P 3) ch se := LQ.kp p346 hs353 (by intro T k h_; first | exact h_.elim | (obtain ⟨-, rfl⟩ := h_; simp; done) | omega)
            have p372 : ScO U352 P se := ScO.kp p347 hs353 (by intro T k h_; first | exact h_.elim | (obtain ⟨-, rfl⟩ := h_; simp; done) | omega)
            have p373 : titO U352 P tlo := titO.kp p348 hs353 (by intro T k h_; first | exact h_.elim | (obtain ⟨-, rfl⟩ := h_; simp; done) | omega)
            have p374 : TREk U352 tg P f9 (fun _ => 0) k := TREk.kp p350 hs353 (by intro T k h_; first | exact h_.elim | (obtain ⟨-, rfl⟩ := h_; simp; done) | omega)
            have p375 : OB U352 b331 := OB.kp p351 hs353
            have hk : FR (fun T k => T = tg ∨ T = 2) w U352 := FR.tr hk hs353 (by intro T k h_; first | exact h_.elim | (obtain ⟨rfl, rfl⟩ := h_; simp; done) | omega)
            subst hzz354
            have p376 : TREk U352 tg P (upz f9 k b331) (fun _ => 0) (k + 1) := TREk.add hP p374 (by omega) (by omega) f368 (fun q_ => by first | (exfalso; omega) | (unfold ndB; first | rw [paO_eqn hq0] | rw [paO_eqs hq0]; done) | (unfold ndB; first | rw [paO_eqn hq0] | rw [paO_eqs hq0]) <;> rfl) (fun q_ => by first | (exfalso; omega) | (unfold ndG; first | rw [paO_eqn hq0] | rw [paO_eqs hq0]; done) | (unfold ndG; first | rw [paO_eqn hq0] | rw [paO_eqs hq0]) <;> rfl)
            refine lv_istore (lv' := [(5, .int (iI (bI True))), (4, .ref (f9 (nd P k 0))), (3, .ref (f k)), (0, .ref a), (1, .ref r0), (2, .ref it57)]) hx hb dX2_copy_96 hl (by decide) rfl (fun ls hl => ?_)
            refine lv_goto (tgt := 34) hx hb dX2_copy_98 (by decide) ?_
            exact ih_34 (k + 1) (mo9 + 1) b355 (upz f9 k b331) k (cl_ + 1 + 2) (sl_ + 5 + 110) U352 (by omega) (f358) (f359) (f360) (f361) (f356) (f362) (f363) (f364) p369 p370 p371 p372 p373 p357 p376 hk (by first | assumption | omega) (by first | assumption | omega) _ _ hH ls (lv_sub hl [3, 4, 5] rfl)
  exact L34 ((P 2 - 0).toNat + 1) 0 0 (E.2.2.2 0) (fun _ => 0) (-1) 5 24 U54 (by omega) (f59) (f60) (f61) (f64) (f65) (f66) (f63) (f58) p67 p68 p69 p70 p71 (⟨by omega, by omega, 0, fun _ => none, Or.inl ⟨rfl, rfl⟩, AO.emp, fun j p_ q_ => by omega⟩) (TREk.zero) hk (by first | assumption | omega) (by first | assumption | omega) _ _ hH ls (lv_sub hl [2, 1, 0] rfl)
