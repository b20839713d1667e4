/-! THE SYSTEM's METHODS: java.util.LinkedList, another list's things -/
set_option maxRecDepth 100000
theorem cw_J4_addAll_2 {R : Room} {s : State} {args : Array Value} {own : String} {index lev mc ms : Nat} (hts : ∀ w ∈ lw_all, w.before args s = true) (hl : Cond.methodLink own index yJ4_addAll_2 ∈ lw_all) (hR1 : (rmL lev mc ms).frames + 1 ≤ R.frames) (hR2 : 8 + (13 + 11) + (rmL lev mc ms).locals ≤ R.locals) : CallW R s args own RJ4 index yJ4_addAll_2 cJ4_addAll_2 13 (some .boolean) (ws_ yJ4_addAll_2 cJ4_addAll_2 13 (some .boolean)) (rmL lev mc ms) mc ms 2 :=
  cwV 2 hts (lw_V hl q552 q553 q114 q554) rfl rfl rfl (by decide +kernel) ⟨hR1, hR2⟩
set_option maxHeartbeats 4000000 in
theorem m_J4_addAll_2 {E : jE} (l : Launch) (w : Wl) (a : Nat) (t : Nat) (mo : Int) (t2 : Nat) (mo2 : Int) (n2 : Int) (ch : Int → Nat) (se : Int → Nat) (b : Nat) (h1 : w a = some (t, .inr (12, [.int (iI mo), .int (iI 0), .null, .null]))) (h2 : w b = some (t2, .inr (12, [.int (iI mo2), .int (iI n2), va_rf (hdO n2 ch 0), va_rf (prO ch n2)]))) (h3 : LQ w t2 n2 ch se) (h4 : t2 ≠ t ∧ t2 ≠ 2) : Met l yJ4_addAll_2 (ws_ yJ4_addAll_2 cJ4_addAll_2 13 (some .boolean)) (rmL 4 50 200) (va_Pc [.ref a, .int (iI 0), .ref b] (jP E w)) (jQi E (fun u : Wl => u) (fun z u => ∃ (mo3 : Int) (ch2 : Int → Nat), z = bI (0 < n2) ∧ u a = some (t, .inr (12, [.int (iI mo3), .int (iI n2), va_rf (hdO n2 ch2 0), va_rf (prO ch2 n2)])) ∧ (LQ u t n2 ch2 se) ∧ FR (fun T k => T = t ∧ (k = 22 ∨ k = 23)) w u)) 50 200 (jA E) := by
  refine j_metZ (by decide) (Nat.le_of_ble_eq_true rfl) ?_
  intro p e s m args below meth c Q hx hb hml hown hnm hts hV hH hret ls hl
  have hl : lv_has ls 13 [(0, .ref a), (1, .int (iI 0)), (2, .ref b)] := hl
  have h0 := hH.1.2
  have hR0 := hH.1
  have hk : FR (fun T k => T = t ∧ (k = 22 ∨ k = 23)) w w := FR.rf
  have hn40 := h3.1
  have hne := h4
  refine lv_aload_n hx hb dJ4_addAll_2_0 rfl (lv_at hl 0 rfl) ?_
  refine lv_iload_n hx hb dJ4_addAll_2_1 rfl (lv_at hl 1 rfl) ?_
  refine j_callvp (va_runV (As := [.int (iI 0)]) (rest := []) ⟨hx, hb, hml, hown, hts⟩ (m_J4_checkPositionIndex l _ a t mo 0 none none 0 (h1) (by omega) (by omega)) (cw_J4_checkPositionIndex hts q555 (Nat.le_of_ble_eq_true rfl) (Nat.le_of_ble_eq_true rfl)) (j_preV hV hH h1 rfl) rfl rfl hl.1 rfl (lv_room (Nat.le_of_ble_eq_true rfl)) dJ4_addAll_2_2 ⟨Nat.le_of_ble_eq_true rfl, Nat.le_of_ble_eq_true rfl⟩) hH (fun H locs hH => ?_)
  refine lv_aload_n hx hb dJ4_addAll_2_5 rfl (lv_at hl 2 rfl) ?_
  refine jF_callq (va_runF (hV.1.1 12 _ rfl).2 (As := []) (rest := []) ⟨hx, hb, hml, hown, hts⟩ (m_J4_toArray l w b t2 mo2 n2 ch se (h2) (h3)) (va_cwF (x := ⟨"java/util/Collection", "toArray", "()[Ljava/lang/Object;"⟩) 0 hts (lw_F q880 q905 q907 q114 q909) rfl rfl rfl (hV.2.2.2.2.2.2.2.2.2.2 _ (List.mem_of_getElem? (i := 1) rfl)) (by decide +kernel) ⟨(Nat.le_of_ble_eq_true rfl), (Nat.le_of_ble_eq_true rfl)⟩) (j_preV hV hH h2 rfl) rfl rfl hl.1 rfl (lv_room (Nat.le_of_ble_eq_true rfl)) dJ4_addAll_2_6 ⟨Nat.le_of_ble_eq_true rfl, Nat.le_of_ble_eq_true rfl⟩) hH (fun z3 U1 H locs hp hH => ?_)
  obtain ⟨b4, g5, hzz3, f6, p7, hin_6, hb0_6, hs2⟩ := hp
  have f8 : U1 a = some (t, .inr (12, [.int (iI mo), .int (iI 0), .null, .null])) := hs2.at h1 (k := 22) rfl (by first | exact not_false | (intro q_; simp at q_; done) | omega)
  have f9 : U1 b = some (t2, .inr (12, [.int (iI mo2), .int (iI n2), va_rf (hdO n2 ch 0), va_rf (prO ch n2)])) := hs2.at h2 (k := 22) rfl (by first | exact not_false | (intro q_; simp at q_; done) | omega)
  have p10 : LQ U1 t2 n2 ch se := LQ.kp h3 hs2 (by intro T k h_; first | exact h_.elim | (obtain ⟨-, rfl⟩ := h_; simp; done) | omega)
  have hk : FR (fun T k => T = t ∧ (k = 22 ∨ k = 23)) w U1 := FR.tr hk hs2 (by intro T k h_; first | exact h_.elim | (obtain ⟨rfl, rfl⟩ := h_; simp; done) | omega)
  subst hzz3
  show W p l e _ s m args below meth c H locs _ _ Q (F0 m _ ls (.ref b4 :: []))
  refine lv_astore_n (lv' := [(3, .ref b4), (0, .ref a), (1, .int (iI 0)), (2, .ref b)]) hx hb dJ4_addAll_2_11 rfl hl (by decide) rfl (fun ls hl => ?_)
  refine lv_aload_n hx hb dJ4_addAll_2_12 rfl (lv_at hl 0 rfl) ?_
  refine j_alen (t0 := 3) hx hb hV hH f6 rfl dJ4_addAll_2_13 ?_
  refine j_top (b := ((n2.toNat : Nat) : Int)) rfl ?_
  refine j_istore (lv' := fun x11 => [(4, .int (iI x11)), (3, .ref b4), (0, .ref a), (1, .int (iI 0)), (2, .ref b)]) hx hb dJ4_addAll_2_14 hl (by decide) (fun _ => rfl) (fun x11 ex11 ls hl => ?_)
  refine lv_iload hx hb dJ4_addAll_2_16 (lv_at hl 0 rfl) ?_
  refine j_if_ne (tgt := 23) hx hb dJ4_addAll_2_18 (by decide) (by omega) (fun c18 => ?_) (fun c18 => ?_)
  · refine lv_iload_n hx hb dJ4_addAll_2_23 rfl (lv_at hl 3 rfl) ?_
    refine lv_aload_n hx hb dJ4_addAll_2_24 rfl (lv_at hl 2 rfl) ?_
    refine j_get hx hb hts hown hV hH f8 rfl in_J4 1 (Nat.le_of_ble_eq_true rfl) q207 (fun _ h => h) rfl dJ4_addAll_2_25 ?_
    refine j_icmp_ne (tgt := 43) hx hb dJ4_addAll_2_28 (by decide) (by omega) (by omega) (fun c28 => ?_) (fun c28 => ?_)
    · exact absurd c28 (by omega)
    · refine lv_null hx hb dJ4_addAll_2_31 ?_
      refine lv_astoreN (lv' := [(6, .null), (4, .int (iI x11)), (3, .ref b4), (0, .ref a), (1, .int (iI 0)), (2, .ref b)]) hx hb dJ4_addAll_2_32 hl (by decide) rfl (fun ls hl => ?_)
      refine lv_aload_n hx hb dJ4_addAll_2_34 rfl (lv_at hl 3 rfl) ?_
      refine j_get hx hb hts hown hV hH f8 rfl in_J4 3 (Nat.le_of_ble_eq_true rfl) q209 (fun _ h => h) rfl dJ4_addAll_2_35 ?_
      refine lv_astoreN (lv' := [(5, .null), (6, .null), (4, .int (iI x11)), (3, .ref b4), (0, .ref a), (1, .int (iI 0)), (2, .ref b)]) hx hb dJ4_addAll_2_38 hl (by decide) rfl (fun ls hl => ?_)
      refine lv_goto (tgt := 57) hx hb dJ4_addAll_2_40 (by decide) ?_
      refine lv_aload_n hx hb dJ4_addAll_2_57 rfl (lv_at hl 3 rfl) ?_
      refine lv_astore (lv' := [(7, .ref b4), (5, .null), (6, .null), (4, .int (iI x11)), (3, .ref b4), (0, .ref a), (1, .int (iI 0)), (2, .ref b)]) hx hb dJ4_addAll_2_58 hl (by decide) rfl (fun ls hl => ?_)
      refine lv_aload hx hb dJ4_addAll_2_60 (lv_at hl 0 rfl) ?_
      refine j_alen (t0 := 3) hx hb hV hH f6 rfl dJ4_addAll_2_62 ?_
      refine j_top (b := ((n2.toNat : Nat) : Int)) rfl ?_
      refine j_istore (lv' := fun x12 => [(8, .int (iI x12)), (7, .ref b4), (5, .null), (6, .null), (4, .int (iI x11)), (3, .ref b4), (0, .ref a), (1, .int (iI 0)), (2, .ref b)]) hx hb dJ4_addAll_2_63 hl (by decide) (fun _ => rfl) (fun x12 ex12 ls hl => ?_)
      refine j_iconst hx hb dJ4_addAll_2_65 ?_
      have p13 : LQ U1 t 0 ch se := LQ.zero
      have p14 : ∀ k : Int, 0 ≤ k → k < n2 → OB U1 (se k) := p10.2.2.2
      refine j_istore (lv' := fun x15 => [(9, .int (iI x15)), (8, .int (iI x12)), (7, .ref b4), (5, .null), (6, .null), (4, .int (iI x11)), (3, .ref b4), (0, .ref a), (1, .int (iI 0)), (2, .ref b)]) hx hb dJ4_addAll_2_66 hl (by decide) (fun _ => rfl) (fun x15 ex15 ls hl => ?_)
      have L68 : ∀ (n_ : Nat), ∀ (j : Int) (c2 : Int → Nat) (cl_ : Nat) (sl_ : Nat) (W_ : Wl) (hm_ : n2 - j < (n_ : Int)) (fa : W_ a = some (t, .inr (12, [.int (iI mo), .int (iI 0), va_rf (hdO j c2 0), .null]))) (fr : W_ b4 = some (2, arQ E n2.toNat g5)) (hlc : LQ W_ t j c2 se) (hse : ∀ k : Int, 0 ≤ k → k < n2 → OB W_ (se k)) (hk : FR (fun T k => T = t ∧ (k = 22 ∨ k = 23)) w W_) (hj : 0 ≤ j ∧ j ≤ n2) (hcl : cl_ ≤ 1 + j.toNat ∧ sl_ ≤ 40 + 3 * j.toNat) (H : Heap) (locs : List Loc), jH E s.heap W_ H locs → ∀ ls : Array Slot, lv_has ls 13 [(0, .ref a), (4, .int (iI x11)), (5, va_rf (prO c2 j)), (6, .null), (7, .ref b4), (8, .int (iI x12)), (9, .int (iI j))] → W p l e (rmL 4 50 200) s m args below meth c H locs cl_ sl_ Q (F0 m 68 ls []) := by
        intro n_
        induction n_ with
        | zero =>
          intro j c2 cl_ sl_ W_ hm_ fa fr hlc hse hk hj hcl H locs hH ls hl
          exact absurd hm_ (by omega)
        | succ n_ ih_68 =>
          intro j c2 cl_ sl_ W_ hm_ fa fr hlc hse hk hj hcl H locs hH ls hl
          refine lv_iload hx hb dJ4_addAll_2_68 (lv_at hl 6 rfl) ?_
          refine lv_iload hx hb dJ4_addAll_2_70 (lv_at hl 5 rfl) ?_
          refine j_icmp_ge (tgt := 131) hx hb dJ4_addAll_2_72 (by decide) (by omega) (by omega) (fun c72 => ?_) (fun c72 => ?_)
          · refine lv_aloadN hx hb dJ4_addAll_2_131 (lv_at hl 3 rfl) ?_
            refine lv_ifnonnullN hx hb dJ4_addAll_2_133 ?_
            refine lv_aload_n hx hb dJ4_addAll_2_136 rfl (lv_at hl 0 rfl) ?_
            refine j_aload hx hb dJ4_addAll_2_137 (lv_at hl 2 rfl) ?_
            refine j_put hx hb hts hown hV hH fa rfl in_J4 tyJ4 tyJ4_ok nmJ4 3 (Nat.le_of_ble_eq_true rfl) q209 (fun _ h => h) rfl (by cases (prO c2 j) <;> rfl) (by cases (prO c2 j) <;> rfl) (Nat.le_of_ble_eq_true rfl) dJ4_addAll_2_139 (fun H locs hH => ?_)
            obtain ⟨V16, eV16⟩ : ∃ V_ : Wl, V_ = up W_ a (t, .inr (12, [.int (iI mo), .int (iI 0), va_rf (hdO j c2 0), va_rf (prO c2 j)])) := ⟨_, rfl⟩
            have hH := jH_eq hH eV16
            have hs17 : FR (fun T k => T = t ∧ k = 22) W_ V16 := by rw [eV16]; exact FR.one fa rfl rfl
            have f18 : V16 b4 = some (2, arQ E n2.toNat g5) := hs17.at fr (k := 4) rfl (by first | exact not_false | (intro q_; simp at q_; done) | omega)
            have p19 : LQ V16 t j c2 se := LQ.kp hlc hs17 (by intro T k h_; first | exact h_.elim | (obtain ⟨-, rfl⟩ := h_; simp; done) | omega)
            have p20 : ∀ k : Int, 0 ≤ k → k < n2 → OB V16 (se k) := fun k p_ q_ => (hse k p_ q_).kp hs17
            have f21 : V16 a = some (t, .inr (12, [.int (iI mo), .int (iI 0), va_rf (hdO j c2 0), va_rf (prO c2 j)])) := by rw [eV16]; exact up_s
            have hk : FR (fun T k => T = t ∧ (k = 22 ∨ k = 23)) w V16 := FR.tr hk hs17 (by intro T k h_; first | exact h_.elim | (obtain ⟨rfl, rfl⟩ := h_; simp; done) | omega)
            refine lv_goto (tgt := 159) hx hb dJ4_addAll_2_142 (by decide) ?_
            refine lv_aload_n hx hb dJ4_addAll_2_159 rfl (lv_at hl 0 rfl) ?_
            refine lv_dup hx hb dJ4_addAll_2_160 rfl ?_
            refine j_get hx hb hts hown hV hH f21 rfl in_J4 1 (Nat.le_of_ble_eq_true rfl) q207 (fun _ h => h) rfl dJ4_addAll_2_161 ?_
            refine lv_iload hx hb dJ4_addAll_2_164 (lv_at hl 1 rfl) ?_
            refine j_iadd hx hb dJ4_addAll_2_166 ?_
            refine j_put hx hb hts hown hV hH f21 rfl in_J4 tyJ4 tyJ4_ok nmJ4 1 (Nat.le_of_ble_eq_true rfl) q207 (fun _ h => h) rfl rfl rfl (Nat.le_of_ble_eq_true rfl) dJ4_addAll_2_167 (fun H locs hH => ?_)
            obtain ⟨V22, eV22⟩ : ∃ V_ : Wl, V_ = up V16 a (t, .inr (12, [.int (iI mo), .int (iI (0 + x11)), va_rf (hdO j c2 0), va_rf (prO c2 j)])) := ⟨_, rfl⟩
            have hH := jH_eq hH eV22
            have hs23 : FR (fun T k => T = t ∧ k = 22) V16 V22 := by rw [eV22]; exact FR.one f21 rfl rfl
            have f24 : V22 b4 = some (2, arQ E n2.toNat g5) := hs23.at f18 (k := 4) rfl (by first | exact not_false | (intro q_; simp at q_; done) | omega)
            have p25 : LQ V22 t j c2 se := LQ.kp p19 hs23 (by intro T k h_; first | exact h_.elim | (obtain ⟨-, rfl⟩ := h_; simp; done) | omega)
            have p26 : ∀ k : Int, 0 ≤ k → k < n2 → OB V22 (se k) := fun k p_ q_ => (p20 k p_ q_).kp hs23
            have f27 : V22 a = some (t, .inr (12, [.int (iI mo), .int (iI (0 + x11)), va_rf (hdO j c2 0), va_rf (prO c2 j)])) := by rw [eV22]; exact up_s
            have hk : FR (fun T k => T = t ∧ (k = 22 ∨ k = 23)) w V22 := FR.tr hk hs23 (by intro T k h_; first | exact h_.elim | (obtain ⟨rfl, rfl⟩ := h_; simp; done) | omega)
            refine lv_aload_n hx hb dJ4_addAll_2_170 rfl (lv_at hl 0 rfl) ?_
            refine lv_dup hx hb dJ4_addAll_2_171 rfl ?_
            refine j_get hx hb hts hown hV hH f27 rfl in_J4 0 (Nat.le_of_ble_eq_true rfl) q187 (u_same (hts _ q188)) rfl dJ4_addAll_2_172 ?_
            refine j_iconst hx hb dJ4_addAll_2_175 ?_
            refine j_iadd hx hb dJ4_addAll_2_176 ?_
            refine j_put hx hb hts hown hV hH f27 rfl in_J4 tyJ4 tyJ4_ok nmJ4 0 (Nat.le_of_ble_eq_true rfl) q187 (u_same (hts _ q188)) rfl rfl rfl (Nat.le_of_ble_eq_true rfl) dJ4_addAll_2_177 (fun H locs hH => ?_)
            obtain ⟨V28, eV28⟩ : ∃ V_ : Wl, V_ = up V22 a (t, .inr (12, [.int (iI (mo + 1)), .int (iI (0 + x11)), va_rf (hdO j c2 0), va_rf (prO c2 j)])) := ⟨_, rfl⟩
            have hH := jH_eq hH eV28
            have hs29 : FR (fun T k => T = t ∧ k = 22) V22 V28 := by rw [eV28]; exact FR.one f27 rfl rfl
            have f30 : V28 b4 = some (2, arQ E n2.toNat g5) := hs29.at f24 (k := 4) rfl (by first | exact not_false | (intro q_; simp at q_; done) | omega)
            have p31 : LQ V28 t j c2 se := LQ.kp p25 hs29 (by intro T k h_; first | exact h_.elim | (obtain ⟨-, rfl⟩ := h_; simp; done) | omega)
            have p32 : ∀ k : Int, 0 ≤ k → k < n2 → OB V28 (se k) := fun k p_ q_ => (p26 k p_ q_).kp hs29
            have f33 : V28 a = some (t, .inr (12, [.int (iI (mo + 1)), .int (iI (0 + x11)), va_rf (hdO j c2 0), va_rf (prO c2 j)])) := by rw [eV28]; exact up_s
            have hk : FR (fun T k => T = t ∧ (k = 22 ∨ k = 23)) w V28 := FR.tr hk hs29 (by intro T k h_; first | exact h_.elim | (obtain ⟨rfl, rfl⟩ := h_; simp; done) | omega)
            refine j_iconst hx hb dJ4_addAll_2_180 ?_
            exact hret V28 hH dJ4_addAll_2_181 (by show _ ≤ 50; omega) (by show _ ≤ 200; omega) (by decide) (⟨_, c2, bT (by omega), by have e_ : n2 = j := (by omega); have e2_ : 0 + x11 = j := (by omega); rw [e_]; rw [e2_] at f33; exact f33, by have e_ : j = n2 := (by omega); rw [← e_]; exact p31, hk⟩)
          · have hjn : j < n2 := by omega
            refine lv_aload hx hb dJ4_addAll_2_75 (lv_at hl 4 rfl) ?_
            refine lv_iload hx hb dJ4_addAll_2_77 (lv_at hl 6 rfl) ?_
            refine j_aald hx hb hV hH fr (by omega) (by omega) dJ4_addAll_2_79 ?_
            rw [show g5 j = some (se j) from hin_6 j (by omega) (by omega)]
            refine lv_astore (lv' := [(10, .ref (se j)), (0, .ref a), (4, .int (iI x11)), (5, va_rf (prO c2 j)), (6, .null), (7, .ref b4), (8, .int (iI x12)), (9, .int (iI j))]) hx hb dJ4_addAll_2_80 hl (by decide) rfl (fun ls hl => ?_)
            refine lv_aload hx hb dJ4_addAll_2_82 (lv_at hl 0 rfl) ?_
            refine lv_astore (lv' := [(11, .ref (se j)), (10, .ref (se j)), (0, .ref a), (4, .int (iI x11)), (5, va_rf (prO c2 j)), (6, .null), (7, .ref b4), (8, .int (iI x12)), (9, .int (iI j))]) hx hb dJ4_addAll_2_84 hl (by decide) rfl (fun ls hl => ?_)
            refine j_new (ci := 13) hx hb hts hown hV hH rfl in_J25 tyJ25 tyJ25_ok q915 q916 q141 [.null, .null, .null] (fun j hj => by rcases j with _ | _ | _ | j <;> first | rfl | omega) (by show _ ≤ 50; omega) (by show _ ≤ 200; omega) dJ4_addAll_2_86 (fun r86 H er86 zr86 nr86 hH => ?_)
            have hH := hH t
            obtain ⟨V34, eV34⟩ : ∃ V_ : Wl, V_ = up W_ r86 (t, .inr (13, [.null, .null, .null])) := ⟨_, rfl⟩
            have hH := jH_eq hH eV34
            have nwr86 : w r86 = none := hk.non_ nr86
            have hs35 : FR (fun _ _ => False) W_ V34 := by rw [eV34]; exact FR.new1 nr86
            have f36 : V34 a = some (t, .inr (12, [.int (iI mo), .int (iI 0), va_rf (hdO j c2 0), .null])) := hs35.at fa (k := 22) rfl (by first | exact not_false | (intro q_; simp at q_; done) | omega)
            have f37 : V34 b4 = some (2, arQ E n2.toNat g5) := hs35.at fr (k := 4) rfl (by first | exact not_false | (intro q_; simp at q_; done) | omega)
            have p38 : LQ V34 t j c2 se := LQ.kp hlc hs35 (by intro T k h_; first | exact h_.elim | (obtain ⟨-, rfl⟩ := h_; simp; done) | omega)
            have p39 : ∀ k : Int, 0 ≤ k → k < n2 → OB V34 (se k) := fun k p_ q_ => (hse k p_ q_).kp hs35
            have f40 : V34 r86 = some (t, .inr (13, [.null, .null, .null])) := by rw [eV34]; exact up_s
            have hk : FR (fun T k => T = t ∧ (k = 22 ∨ k = 23)) w V34 := FR.tr hk hs35 (by intro T k h_; exact h_.elim)
            refine lv_dup hx hb dJ4_addAll_2_89 rfl ?_
            refine j_aload hx hb dJ4_addAll_2_90 (lv_at hl 4 rfl) ?_
            refine lv_aload hx hb dJ4_addAll_2_92 (lv_at hl 0 rfl) ?_
            refine lv_null hx hb dJ4_addAll_2_94 ?_
            refine j_callvp (va_runI (As := [va_rf (prO c2 j), va_rf (some (se j)), va_rf none]) (rest := [.ref r86]) ⟨hx, hb, hml, hown, hts⟩ (m_J25_init l _ _ _ _ _ _ (prO c2 j) (some (se j)) none (f40)) (cw_J25_init hts q917 (Nat.le_of_ble_eq_true rfl) (Nat.le_of_ble_eq_true rfl)) (j_preS hV hH) rfl rfl hl.1 rfl (lv_room (Nat.le_of_ble_eq_true rfl)) dJ4_addAll_2_95 ⟨(by show _ ≤ 50; omega), (by show _ ≤ 200; omega)⟩) hH (fun H locs hH => ?_)
            obtain ⟨V41, eV41⟩ : ∃ V_ : Wl, V_ = up V34 r86 (t, .inr (13, [va_rf (some (se j)), va_rf none, va_rf (prO c2 j)])) := ⟨_, rfl⟩
            have hH := jH_eq hH eV41
            have hs42 : FR (fun T k => T = t ∧ k = 23) V34 V41 := by rw [eV41]; exact FR.one f40 rfl rfl
            have f43 : V41 a = some (t, .inr (12, [.int (iI mo), .int (iI 0), va_rf (hdO j c2 0), .null])) := hs42.at f36 (k := 22) rfl (by first | exact not_false | (intro q_; simp at q_; done) | omega)
            have f44 : V41 b4 = some (2, arQ E n2.toNat g5) := hs42.at f37 (k := 4) rfl (by first | exact not_false | (intro q_; simp at q_; done) | omega)
            have p45 : LQ V41 t j c2 se := LQ.off p38 hs42 (LQ.fr hlc nr86) eV41
            have p46 : ∀ k : Int, 0 ≤ k → k < n2 → OB V41 (se k) := fun k p_ q_ => (p39 k p_ q_).kp hs42
            have f47 : V41 r86 = some (t, .inr (13, [va_rf (some (se j)), va_rf none, va_rf (prO c2 j)])) := by rw [eV41]; exact up_s
            have hk : FR (fun T k => T = t ∧ (k = 22 ∨ k = 23)) w V41 := by rw [eV41]; exact FR.putF hk nwr86
            refine lv_astore (lv' := [(12, .ref r86), (11, .ref (se j)), (10, .ref (se j)), (0, .ref a), (4, .int (iI x11)), (5, va_rf (prO c2 j)), (6, .null), (7, .ref b4), (8, .int (iI x12)), (9, .int (iI j))]) hx hb dJ4_addAll_2_98 hl (by decide) rfl (fun ls hl => ?_)
            refine j_aload hx hb dJ4_addAll_2_100 (lv_at hl 5 rfl) ?_
            rcases hq102 : (prO c2 j) with _ | r102
            · refine lv_ifnonnullN hx hb dJ4_addAll_2_102 ?_
              have hl : lv_has ls 13 [(12, .ref r86), (11, .ref (se j)), (10, .ref (se j)), (0, .ref a), (4, .int (iI x11)), (5, .null), (6, .null), (7, .ref b4), (8, .int (iI x12)), (9, .int (iI j))] := by rw [hq102] at hl; exact hl
              have hn0 := prO_none hq102
              have p48 : LQ V41 t (j + 1) (upz c2 j r86) se := LQ.se (LQ.one (se := se) (by omega) f47 (p46 j (by omega) (by omega))) (fun k p_ q_ => by by_cases hk_ : k = j <;> simp [upz, hk_])
              refine lv_aload_n hx hb dJ4_addAll_2_105 rfl (lv_at hl 3 rfl) ?_
              refine lv_aload hx hb dJ4_addAll_2_106 (lv_at hl 0 rfl) ?_
              refine j_put hx hb hts hown hV hH f43 rfl in_J4 tyJ4 tyJ4_ok nmJ4 2 (Nat.le_of_ble_eq_true rfl) q208 (fun _ h => h) rfl rfl rfl (Nat.le_of_ble_eq_true rfl) dJ4_addAll_2_108 (fun H locs hH => ?_)
              obtain ⟨V49, eV49⟩ : ∃ V_ : Wl, V_ = up V41 a (t, .inr (12, [.int (iI mo), .int (iI 0), .ref r86, .null])) := ⟨_, rfl⟩
              have hH := jH_eq hH eV49
              have hs50 : FR (fun T k => T = t ∧ k = 22) V41 V49 := by rw [eV49]; exact FR.one f43 rfl rfl
              have f51 : V49 b4 = some (2, arQ E n2.toNat g5) := hs50.at f44 (k := 4) rfl (by first | exact not_false | (intro q_; simp at q_; done) | omega)
              have f52 : V49 r86 = some (t, .inr (13, [va_rf (some (se j)), va_rf none, va_rf (prO c2 j)])) := hs50.at f47 (k := 23) rfl (by first | exact not_false | (intro q_; simp at q_; done) | omega)
              have p53 : LQ V49 t j c2 se := LQ.kp p45 hs50 (by intro T k h_; first | exact h_.elim | (obtain ⟨-, rfl⟩ := h_; simp; done) | omega)
              have p54 : ∀ k : Int, 0 ≤ k → k < n2 → OB V49 (se k) := fun k p_ q_ => (p46 k p_ q_).kp hs50
              have p55 : LQ V49 t (j + 1) (upz c2 j r86) se := LQ.kp p48 hs50 (by intro T k h_; first | exact h_.elim | (obtain ⟨-, rfl⟩ := h_; simp; done) | omega)
              have f56 : V49 a = some (t, .inr (12, [.int (iI mo), .int (iI 0), .ref r86, .null])) := by rw [eV49]; exact up_s
              have hk : FR (fun T k => T = t ∧ (k = 22 ∨ k = 23)) w V49 := FR.tr hk hs50 (by intro T k h_; first | exact h_.elim | (obtain ⟨rfl, rfl⟩ := h_; simp; done) | omega)
              refine lv_goto (tgt := 121) hx hb dJ4_addAll_2_111 (by decide) ?_
              refine lv_aload hx hb dJ4_addAll_2_121 (lv_at hl 0 rfl) ?_
              refine lv_astore (lv' := [(5, .ref r86), (12, .ref r86), (11, .ref (se j)), (10, .ref (se j)), (0, .ref a), (4, .int (iI x11)), (6, .null), (7, .ref b4), (8, .int (iI x12)), (9, .int (iI j))]) hx hb dJ4_addAll_2_123 hl (by decide) rfl (fun ls hl => ?_)
              refine j_iinc (k := 9) (lv' := fun x57 => [(9, .int (iI x57)), (5, .ref r86), (12, .ref r86), (11, .ref (se j)), (10, .ref (se j)), (0, .ref a), (4, .int (iI x11)), (6, .null), (7, .ref b4), (8, .int (iI x12))]) hx hb dJ4_addAll_2_125 hl rfl (by decide) (fun _ => rfl) (fun x57 ex57 ls hl => ?_)
              refine lv_goto (tgt := 68) hx hb dJ4_addAll_2_128 (by decide) ?_
              have hl : lv_has ls 13 [(9, .int (iI x57)), (5, va_rf (prO (upz c2 j r86) x57)), (12, .ref r86), (11, .ref (se j)), (10, .ref (se j)), (0, .ref a), (4, .int (iI x11)), (6, .null), (7, .ref b4), (8, .int (iI x12))] := by subst ex57; first | (rw [prO_up (by omega)]; exact hl) | (rw [prO_n (by omega)]; exact hl)
              exact ih_68 x57 (upz c2 j r86) (cl_ + 1) (sl_ + 3) V49 (by omega) (by subst ex57; first | (rw [hdO_ups (by omega)]; assumption) | (rw [hdO_upz (by omega)]; assumption)) (f51) (by subst ex57; assumption) p54 hk (by first | assumption | omega) (by first | assumption | omega) _ _ hH ls (lv_sub hl [5, 6, 1, 7, 8, 9, 0] rfl)
            · refine lv_ifnonnull (tgt := 114) hx hb dJ4_addAll_2_102 (by decide) ?_
              have hl : lv_has ls 13 [(12, .ref r86), (11, .ref (se j)), (10, .ref (se j)), (0, .ref a), (4, .int (iI x11)), (5, .ref r102), (6, .null), (7, .ref b4), (8, .int (iI x12)), (9, .int (iI j))] := by rw [hq102] at hl; exact hl
              obtain ⟨hn0, hr102⟩ := prO_some hq102
              have hne5 : r86 ≠ r102 := by rw [hr102]; exact Ne.symm (LQ.fr hlc nr86 (j - 1) (by omega) (by omega))
              have f58 : V41 r102 = some (t, .inr (13, [.ref (se (j - 1)), va_rf (hdO j c2 (j - 1 + 1)), va_rf (prO c2 (j - 1))])) := by rw [hr102]; exact p45.2.1 (j - 1) (by omega) (by omega)
              refine lv_aload hx hb dJ4_addAll_2_114 (lv_at hl 5 rfl) ?_
              refine lv_aload hx hb dJ4_addAll_2_116 (lv_at hl 0 rfl) ?_
              refine j_put hx hb hts hown hV hH f58 rfl in_J25 tyJ25 tyJ25_ok nmJ25 1 (Nat.le_of_ble_eq_true rfl) q924 (fun _ h => h) rfl rfl rfl (Nat.le_of_ble_eq_true rfl) dJ4_addAll_2_118 (fun H locs hH => ?_)
              obtain ⟨V59, eV59⟩ : ∃ V_ : Wl, V_ = up V41 r102 (t, .inr (13, [.ref (se (j - 1)), .ref r86, va_rf (prO c2 (j - 1))])) := ⟨_, rfl⟩
              have hH := jH_eq hH eV59
              have hs60 : FR (fun T k => T = t ∧ k = 23) V41 V59 := by rw [eV59]; exact FR.one f58 rfl rfl
              have f61 : V59 a = some (t, .inr (12, [.int (iI mo), .int (iI 0), va_rf (hdO j c2 0), .null])) := hs60.at f43 (k := 22) rfl (by first | exact not_false | (intro q_; simp at q_; done) | omega)
              have f62 : V59 b4 = some (2, arQ E n2.toNat g5) := hs60.at f44 (k := 4) rfl (by first | exact not_false | (intro q_; simp at q_; done) | omega)
              have f63 : V59 r86 = some (t, .inr (13, [va_rf (some (se j)), va_rf none, va_rf (prO c2 j)])) := by rw [eV59]; exact up_k f47 (by first | assumption | omega)
              have p64 : LQ V59 t (j + 1) (upz c2 j r86) se := LQ.se (LQ.ext p45 hn0 (by omega) f47 (LQ.fr hlc nr86) (p46 j (by omega) (by omega)) (by rw [eV59, hr102]) (fun y hy => hy.kp hs60)) (fun k p_ q_ => by by_cases hk_ : k = j <;> simp [upz, hk_])
              have p65 : ∀ k : Int, 0 ≤ k → k < n2 → OB V59 (se k) := fun k p_ q_ => (p46 k p_ q_).kp hs60
              have f66 : V59 r102 = some (t, .inr (13, [.ref (se (j - 1)), .ref r86, va_rf (prO c2 (j - 1))])) := by rw [eV59]; exact up_s
              have hk : FR (fun T k => T = t ∧ (k = 22 ∨ k = 23)) w V59 := FR.tr hk hs60 (by intro T k h_; first | exact h_.elim | (obtain ⟨rfl, rfl⟩ := h_; simp; done) | omega)
              refine lv_aload hx hb dJ4_addAll_2_121 (lv_at hl 0 rfl) ?_
              refine lv_astore (lv' := [(5, .ref r86), (12, .ref r86), (11, .ref (se j)), (10, .ref (se j)), (0, .ref a), (4, .int (iI x11)), (6, .null), (7, .ref b4), (8, .int (iI x12)), (9, .int (iI j))]) hx hb dJ4_addAll_2_123 hl (by decide) rfl (fun ls hl => ?_)
              refine j_iinc (k := 9) (lv' := fun x67 => [(9, .int (iI x67)), (5, .ref r86), (12, .ref r86), (11, .ref (se j)), (10, .ref (se j)), (0, .ref a), (4, .int (iI x11)), (6, .null), (7, .ref b4), (8, .int (iI x12))]) hx hb dJ4_addAll_2_125 hl rfl (by decide) (fun _ => rfl) (fun x67 ex67 ls hl => ?_)
              refine lv_goto (tgt := 68) hx hb dJ4_addAll_2_128 (by decide) ?_
              have hl : lv_has ls 13 [(9, .int (iI x67)), (5, va_rf (prO (upz c2 j r86) x67)), (12, .ref r86), (11, .ref (se j)), (10, .ref (se j)), (0, .ref a), (4, .int (iI x11)), (6, .null), (7, .ref b4), (8, .int (iI x12))] := by subst ex67; first | (rw [prO_up (by omega)]; exact hl) | (rw [prO_n (by omega)]; exact hl)
              exact ih_68 x67 (upz c2 j r86) (cl_ + 1) (sl_ + 3) V59 (by omega) (by subst ex67; first | (rw [hdO_ups (by omega)]; assumption) | (rw [hdO_upz (by omega)]; assumption)) (f62) (by subst ex67; assumption) p65 hk (by first | assumption | omega) (by first | assumption | omega) _ _ hH ls (lv_sub hl [5, 6, 1, 7, 8, 9, 0] rfl)
      have hl : lv_has ls 13 [(9, .int (iI x15)), (8, .int (iI x12)), (7, .ref b4), (5, va_rf (prO ch x15)), (6, .null), (4, .int (iI x11)), (3, .ref b4), (0, .ref a), (1, .int (iI 0)), (2, .ref b)] := by subst ex15; first | (rw [prO_up (by omega)]; exact hl) | (rw [prO_n (by omega)]; exact hl)
      exact L68 ((n2 - x15).toNat + 1) x15 ch 1 40 U1 (by omega) (by subst ex15; rw [hdO_n (by omega)]; exact f8) (f6) (by subst ex15; assumption) p14 hk (by first | assumption | omega) (by first | assumption | omega) _ _ hH ls (lv_sub hl [7, 5, 3, 4, 2, 1, 0] rfl)
  · refine j_iconst hx hb dJ4_addAll_2_21 ?_
    exact hret U1 hH dJ4_addAll_2_22 (Nat.le_of_ble_eq_true rfl) (Nat.le_of_ble_eq_true rfl) (by decide) (⟨_, ch, bF (by omega), by rw [show n2 = 0 by omega, hdO_n (by omega), prO_n (by omega)]; exact f8, by rw [show n2 = 0 by omega]; exact LQ.zero, hk⟩)
theorem cw_J4_addAll {R : Room} {s : State} {args : Array Value} {own : String} {index lev mc ms : Nat} (hts : ∀ w ∈ lw_all, w.before args s = true) (hl : Cond.methodLink own index yJ4_addAll ∈ lw_all) (hR1 : (rmL lev mc ms).frames + 1 ≤ R.frames) (hR2 : 8 + (2 + 11) + (rmL lev mc ms).locals ≤ R.locals) : CallW R s args own RJ4 index yJ4_addAll cJ4_addAll 2 (some .boolean) (ws_ yJ4_addAll cJ4_addAll 2 (some .boolean)) (rmL lev mc ms) mc ms 1 :=
  cwV 1 hts (lw_V hl q548 q549 q114 q550) rfl rfl rfl (by decide +kernel) ⟨hR1, hR2⟩
set_option maxHeartbeats 4000000 in
theorem m_J4_addAll {E : jE} (l : Launch) (w : Wl) (a : Nat) (t : Nat) (mo : Int) (t2 : Nat) (mo2 : Int) (n2 : Int) (ch : Int → Nat) (se : Int → Nat) (b : Nat) (h1 : w a = some (t, .inr (12, [.int (iI mo), .int (iI 0), .null, .null]))) (h2 : w b = some (t2, .inr (12, [.int (iI mo2), .int (iI n2), va_rf (hdO n2 ch 0), va_rf (prO ch n2)]))) (h3 : LQ w t2 n2 ch se) (h4 : t2 ≠ t ∧ t2 ≠ 2) : Met l yJ4_addAll (ws_ yJ4_addAll cJ4_addAll 2 (some .boolean)) (rmL 5 50 200) (va_Pc [.ref a, .ref b] (jP E w)) (jQi E (fun u : Wl => u) (fun z u => ∃ (mo3 : Int) (ch2 : Int → Nat), z = bI (0 < n2) ∧ u a = some (t, .inr (12, [.int (iI mo3), .int (iI n2), va_rf (hdO n2 ch2 0), va_rf (prO ch2 n2)])) ∧ (LQ u t n2 ch2 se) ∧ FR (fun T k => T = t ∧ (k = 22 ∨ k = 23)) w u)) 50 200 (jA E) := by
  refine j_metZ (by decide) (Nat.le_of_ble_eq_true rfl) ?_
  intro p e s m args below meth c Q hx hb hml hown hnm hts hV hH hret ls hl
  have hl : lv_has ls 2 [(0, .ref a), (1, .ref b)] := hl
  have h0 := hH.1.2
  have hR0 := hH.1
  have hk : FR (fun T k => T = t ∧ (k = 22 ∨ k = 23)) w w := FR.rf
  refine lv_aload_n hx hb dJ4_addAll_0 rfl (lv_at hl 0 rfl) ?_
  refine lv_aload_n hx hb dJ4_addAll_1 rfl (lv_at hl 0 rfl) ?_
  refine j_get hx hb hts hown hV hH h1 rfl in_J4 1 (Nat.le_of_ble_eq_true rfl) q207 (fun _ h => h) rfl dJ4_addAll_2 ?_
  refine lv_aload_n hx hb dJ4_addAll_5 rfl (lv_at hl 1 rfl) ?_
  refine j_calli (va_runV (As := [.int (iI 0), .ref b]) (rest := []) ⟨hx, hb, hml, hown, hts⟩ (m_J4_addAll_2 l w a t mo t2 mo2 n2 ch se b (h1) (h2) (h3) (by omega)) (cw_J4_addAll_2 hts q551 (Nat.le_of_ble_eq_true rfl) (Nat.le_of_ble_eq_true rfl)) (j_preV hV hH h1 rfl) rfl rfl hl.1 rfl (lv_room (Nat.le_of_ble_eq_true rfl)) dJ4_addAll_6 ⟨Nat.le_of_ble_eq_true rfl, Nat.le_of_ble_eq_true rfl⟩) hH (fun z3 U1 H locs hp hH => ?_)
  obtain ⟨mo34, ch25, hzz3, f6, p7, hs2⟩ := hp
  have f8 : U1 b = some (t2, .inr (12, [.int (iI mo2), .int (iI n2), va_rf (hdO n2 ch 0), va_rf (prO ch n2)])) := hs2.at h2 (k := 22) rfl (by first | exact not_false | (intro q_; simp at q_; done) | omega)
  have p9 : LQ U1 t2 n2 ch se := LQ.kp h3 hs2 (by intro T k h_; first | exact h_.elim | (obtain ⟨-, rfl⟩ := h_; simp; done) | omega)
  have hk : FR (fun T k => T = t ∧ (k = 22 ∨ k = 23)) w U1 := FR.tr hk hs2 (by intro T k h_; first | exact h_.elim | (obtain ⟨rfl, rfl⟩ := h_; simp; done) | omega)
  subst hzz3
  exact hret U1 hH dJ4_addAll_9 (Nat.le_of_ble_eq_true rfl) (Nat.le_of_ble_eq_true rfl) (bI_01 _) (⟨_, _, by rfl, by assumption, by assumption, hk⟩)
