/-! THE SYSTEM's METHODS: the stage is asked whether shifts fit, for its nodes -/
set_option maxRecDepth 100000
theorem m_J2_getD {E : jE} (l : Launch) (w : Wl) (a : Nat) (ar : Nat) (t : Nat) (mo : Int) (n1 : Int) (G : Int → Nat) (i1 : Int) (h1 : w a = some (t, .inr (10, [.int (iI mo), .ref ar, .int (iI n1)]))) (h2 : AD E w t ar n1 G) (h3 : 0 ≤ i1 ∧ i1 < n1) : Met l yJ2_get (ws_ yJ2_get cJ2_get 2 (some (.object "java/lang/Object"))) (rmL 3 0 0) (va_Pc [.ref a, .int (iI i1)] (jP E w)) (jQq E (fun _ : Unit => w) (fun z _ => z = some (G i1))) 0 0 (jA E) := by
  obtain ⟨cap, g, q1, q2, q3, q4, q5, q6⟩ := h2.real (by omega)
  have hb := h2.2.1
  have h := m_J2_get l w a ar t mo n1 cap g i1 h1 q1 h3 (by omega)
  rw [q6 i1 h3.1 h3.2] at h
  exact h
theorem cwu_X4_z_X2_246_X5 {R : Room} {s : State} {args : Array Value} {k : Nat} (hts : ∀ w ∈ lw_all, w.before args s = true) (hR1 : k + 1 ≤ R.frames) (hR2 : 8 + (1 + 11) + 96 * k ≤ R.locals) : va_CU R s args "EyeStage$Stage" RX5 "EyeStage$Part" 246 ⟨"EyeStage$Part", "z", "()I"⟩ yX4_z cX4_z 1 (some .int) (ws_ yX4_z cX4_z 1 (some .int)) (rmL k 0 0) 0 0 0 :=
  va_cwU 0 hts (lw_U q1014 q1016 q1017 q1015 q131 q1019) rfl rfl rfl rfl (by decide +kernel) ⟨hR1, hR2⟩
theorem cwu_X4_z_X2_246_X6 {R : Room} {s : State} {args : Array Value} {k : Nat} (hts : ∀ w ∈ lw_all, w.before args s = true) (hR1 : k + 1 ≤ R.frames) (hR2 : 8 + (1 + 11) + 96 * k ≤ R.locals) : va_CU R s args "EyeStage$Stage" RX6 "EyeStage$Part" 246 ⟨"EyeStage$Part", "z", "()I"⟩ yX4_z cX4_z 1 (some .int) (ws_ yX4_z cX4_z 1 (some .int)) (rmL k 0 0) 0 0 0 :=
  va_cwU 0 hts (lw_U q1014 q1016 q1018 q1015 q131 q1019) rfl rfl rfl rfl (by decide +kernel) ⟨hR1, hR2⟩
theorem cw_X2_fit {R : Room} {s : State} {args : Array Value} {own : String} {index lev mc ms : Nat} (hts : ∀ w ∈ lw_all, w.before args s = true) (hl : Cond.methodLink own index yX2_fit ∈ lw_all) (hR1 : (rmL lev mc ms).frames + 1 ≤ R.frames) (hR2 : 8 + (8 + 11) + (rmL lev mc ms).locals ≤ R.locals) : CallW R s args own RX2 index yX2_fit cX2_fit 8 (some .boolean) (ws_ yX2_fit cX2_fit 8 (some .boolean)) (rmL lev mc ms) mc ms 4 :=
  cwV 4 hts (lw_V hl q1008 qs11 q109 q1009) rfl rfl rfl (by decide +kernel) ⟨hR1, hR2⟩
set_option maxHeartbeats 4000000 in
theorem m_X2_fit {E : jE} (l : Launch) (w : Wl) (t : Nat) (a : Nat) (T : Int) (P : Int → Int) (f : Int → Nat) (sh : Int → Int) (g1 : Int) (q1 : Int) (lo : Int) (hi : Int) (h1 : PWF T P) (h2 : StA E w t a P f sh) (h3 : T ≤ 1000000000) (h4 : 0 ≤ g1 ∧ g1 ≤ 100) (h5 : 0 ≤ q1 ∧ q1 ≤ 100) (h6 : -2147483648 ≤ lo ∧ lo ≤ 2147483647) (h7 : -2147483648 ≤ hi ∧ hi ≤ 2147483647) : Met l yX2_fit (ws_ yX2_fit cX2_fit 8 (some .boolean)) (rmL 24 0 0) (va_Pc [.ref a, .int (iI g1), .int (iI q1), .int (iI lo), .int (iI hi)] (jP E w)) (jQi E (fun _ : Unit => w) (fun z _ => z = bI (fitsG P g1 q1 lo hi))) 0 0 (jA E) := by
  refine j_metZ (by decide) (Nat.le_of_ble_eq_true rfl) ?_
  intro p e s m args below meth c Q hx hb hml hown hnm hts hV hH hret ls hl
  have hl : lv_has ls 8 [(0, .ref a), (1, .int (iI g1)), (2, .int (iI q1)), (3, .int (iI lo)), (4, .int (iI hi))] := hl
  have h0 := hH.1.2
  have hP := h1
  have hS := h2
  have hS0 := h2
  obtain ⟨nl, sl, stt, ar, tlo, mo, mo2, ch, se, ha, hnl, hAD, hT, hsl, hLQ, hSc, hst, hti⟩ := hS0
  have hA := hP.A
  have hB := hP.B
  have hC := hP.C
  have hT0 := h3
  refine j_iconst hx hb dX2_fit_0 ?_
  refine j_istore (lv' := fun x1 => [(5, .int (iI x1)), (0, .ref a), (1, .int (iI g1)), (2, .int (iI q1)), (3, .int (iI lo)), (4, .int (iI hi))]) hx hb dX2_fit_1 hl (by decide) (fun _ => rfl) (fun x1 ex1 ls hl => ?_)
  refine j_iconst hx hb dX2_fit_3 ?_
  refine j_istore (lv' := fun x2 => [(6, .int (iI x2)), (5, .int (iI x1)), (0, .ref a), (1, .int (iI g1)), (2, .int (iI q1)), (3, .int (iI lo)), (4, .int (iI hi))]) hx hb dX2_fit_4 hl (by decide) (fun _ => rfl) (fun x2 ex2 ls hl => ?_)
  have L6 : ∀ (n_ : Nat), ∀ (fi : Int) (k : Int) (hm_ : P 2 - k < (n_ : Int)) (hk0 : 0 ≤ k ∧ k ≤ P 2) (hfi : fi = bI (fitsT P g1 q1 lo hi k)) (H : Heap) (locs : List Loc), jH E s.heap w H locs → ∀ ls : Array Slot, lv_has ls 8 [(0, .ref a), (1, .int (iI g1)), (2, .int (iI q1)), (3, .int (iI lo)), (4, .int (iI hi)), (5, .int (iI fi)), (6, .int (iI k))] → W p l e (rmL 24 0 0) s m args below meth c H locs 0 0 Q (F0 m 6 ls []) := by
    intro n_
    induction n_ with
    | zero =>
      intro fi k hm_ hk0 hfi H locs hH ls hl
      exact absurd hm_ (by omega)
    | succ n_ ih_6 =>
      intro fi k hm_ hk0 hfi H locs hH ls hl
      have hib := bI_01 (fitsT P g1 q1 lo hi k)
      refine lv_iload hx hb dX2_fit_6 (lv_at hl 6 rfl) ?_
      refine lv_aload_n hx hb dX2_fit_8 rfl (lv_at hl 0 rfl) ?_
      refine j_get hx hb hts hown hV hH ha rfl in_X2 2 (Nat.le_of_ble_eq_true rfl) q224 (fun _ h => h) rfl dX2_fit_9 ?_
      refine j_callip (va_runV (As := []) (rest := [.int (iI k)]) ⟨hx, hb, hml, hown, hts⟩ (m_J2_size l _ nl ar t mo (P 2) (hnl)) (cw_J2_size hts q1010 (Nat.le_of_ble_eq_true rfl) (Nat.le_of_ble_eq_true rfl)) (j_preV hV hH hnl rfl) rfl rfl hl.1 rfl (lv_room (Nat.le_of_ble_eq_true rfl)) dX2_fit_12 ⟨Nat.le_of_ble_eq_true rfl, Nat.le_of_ble_eq_true rfl⟩) hH (fun H locs hH => ?_)
      refine j_icmp_ge (tgt := 90) hx hb dX2_fit_15 (by decide) (by omega) (by omega) (fun c15 => ?_) (fun c15 => ?_)
      · refine lv_iload hx hb dX2_fit_90 (lv_at hl 5 rfl) ?_
        exact hret () hH dX2_fit_92 (Nat.le_of_ble_eq_true rfl) (Nat.le_of_ble_eq_true rfl) (by omega) (by first | (rw [hfi, show k = P 2 by omega]; rfl) | (rw [c20]; exact bF (fun h => bI_0.mp (hfi.symm.trans c20) (fun n p_ q_ r_ => h n p_ (by omega) r_))))
      · refine lv_iload hx hb dX2_fit_18 (lv_at hl 5 rfl) ?_
        refine j_if_eq (tgt := 90) hx hb dX2_fit_20 (by decide) (by omega) (fun c20 => ?_) (fun c20 => ?_)
        · refine lv_iload hx hb dX2_fit_90 (lv_at hl 5 rfl) ?_
          exact hret () hH dX2_fit_92 (Nat.le_of_ble_eq_true rfl) (Nat.le_of_ble_eq_true rfl) (by omega) (by first | (rw [hfi, show k = P 2 by omega]; rfl) | (rw [c20]; exact bF (fun h => bI_0.mp (hfi.symm.trans c20) (fun n p_ q_ r_ => h n p_ (by omega) r_))))
        · have hok : okN P k := Or.inr ⟨by omega, by omega⟩
          have hrb := raw_b hP hok (g := g1) (by omega)
          have hrq := rawq_b hP hok (g := g1) (q := q1) (by omega) (by omega)
          have hz1 := sumO_b hP (k := 3) (n := k) (by omega) hok
          have hgz := gz_b hP hok (g := g1) (by omega)
          have hcm := Int.mul_comm (sumO P k 3) g1
          by_cases hbx : 0 < nd P k 4
          · have f3 : w (f k) = some (t, .inr (3, [.int (iI k), va_rf (paO P f k), .int (iI (nd P k 1)), .int (iI (nd P k 2)), .int (iI (nd P k 3)), .int (iI (nd P k 4)), .int (iI (nd P k 5)), .int (iI (nd P k 6)), .int (iI (sh k))])) := (hT k (by omega) (by omega)).1 hbx
            refine lv_aload_n hx hb dX2_fit_23 rfl (lv_at hl 0 rfl) ?_
            refine j_get hx hb hts hown hV hH ha rfl in_X2 2 (Nat.le_of_ble_eq_true rfl) q224 (fun _ h => h) rfl dX2_fit_24 ?_
            refine lv_iload hx hb dX2_fit_27 (lv_at hl 6 rfl) ?_
            refine j_callqp (va_runV (As := [.int (iI k)]) (rest := []) ⟨hx, hb, hml, hown, hts⟩ (m_J2_getD l _ nl ar t mo (P 2) f k (hnl) (by assumption) (by omega)) (cw_J2_get hts q362 (Nat.le_of_ble_eq_true rfl) (Nat.le_of_ble_eq_true rfl)) (j_preV hV hH hnl rfl) rfl rfl hl.1 rfl (lv_room (Nat.le_of_ble_eq_true rfl)) dX2_fit_29 ⟨Nat.le_of_ble_eq_true rfl, Nat.le_of_ble_eq_true rfl⟩) hH (fun H locs hH => ?_)
            refine j_cast hx hb hts hown hV hH f3 rfl q361 (hV.2.1 _ q2736 rfl) dX2_fit_32 ?_
            refine j_callip (va_runU (As := []) (rest := []) ⟨hx, hb, hml, hown, hts⟩ (m_X4_z l hP hT 20 k (by omega) (by omega) (by omega)) (cwu_X4_z_X2_246_X5 hts (Nat.le_of_ble_eq_true rfl) (Nat.le_of_ble_eq_true rfl)) (j_preV hV hH f3 rfl) rfl rfl hl.1 rfl (lv_room (Nat.le_of_ble_eq_true rfl)) dX2_fit_35 ⟨Nat.le_of_ble_eq_true rfl, Nat.le_of_ble_eq_true rfl⟩) hH (fun H locs hH => ?_)
            refine lv_iload_n hx hb dX2_fit_38 rfl (lv_at hl 1 rfl) ?_
            refine j_callip (va_runSN (As := [.int (iI (sumO P k 3)), .int (iI g1)]) (rest := []) ⟨hx, hb, hml, hown, hts⟩ (m_X1_scaled l _ (sumO P k 3) g1 (by omega) (by omega)) ⟨va_cnB 2 hts (lw_meth q1026) rfl rfl rfl (hV.2.1 _ q1024 rfl) (hts _ q108) (by decide +kernel) ⟨(Nat.le_of_ble_eq_true rfl), (Nat.le_of_ble_eq_true rfl)⟩, hts _ q1025, trivial⟩ (j_preS hV hH) rfl rfl hl.1 rfl (lv_room (Nat.le_of_ble_eq_true rfl)) dX2_fit_39 ⟨Nat.le_of_ble_eq_true rfl, Nat.le_of_ble_eq_true rfl⟩) hH (fun H locs hH => ?_)
            refine j_top (b := g1 * sumO P k 3 / 100) (by rw [Int.mul_comm]) ?_
            refine j_istore (lv' := fun x4 => [(7, .int (iI x4)), (0, .ref a), (1, .int (iI g1)), (2, .int (iI q1)), (3, .int (iI lo)), (4, .int (iI hi)), (5, .int (iI fi)), (6, .int (iI k))]) hx hb dX2_fit_42 hl (by decide) (fun _ => rfl) (fun x4 ex4 ls hl => ?_)
            refine lv_aload_n hx hb dX2_fit_44 rfl (lv_at hl 1 rfl) ?_
            refine j_get hx hb hts hown hV hH ha rfl in_X2 2 (Nat.le_of_ble_eq_true rfl) q224 (fun _ h => h) rfl dX2_fit_45 ?_
            refine lv_iload hx hb dX2_fit_48 (lv_at hl 7 rfl) ?_
            refine j_callqp (va_runV (As := [.int (iI k)]) (rest := []) ⟨hx, hb, hml, hown, hts⟩ (m_J2_getD l _ nl ar t mo (P 2) f k (hnl) (by assumption) (by omega)) (cw_J2_get hts q362 (Nat.le_of_ble_eq_true rfl) (Nat.le_of_ble_eq_true rfl)) (j_preV hV hH hnl rfl) rfl rfl hl.1 rfl (lv_room (Nat.le_of_ble_eq_true rfl)) dX2_fit_50 ⟨Nat.le_of_ble_eq_true rfl, Nat.le_of_ble_eq_true rfl⟩) hH (fun H locs hH => ?_)
            refine j_instS hx hb hts hown hV hH f3 rfl q1030 dX2_fit_53 ?_
            refine j_if_eq (tgt := 77) hx hb dX2_fit_56 (by decide) (by omega) (fun c56 => ?_) (fun c56 => ?_)
            · exact absurd c56 (by decide)
            · refine lv_iload hx hb dX2_fit_59 (lv_at hl 0 rfl) ?_
              refine lv_iload_n hx hb dX2_fit_61 rfl (lv_at hl 3 rfl) ?_
              refine j_callip (va_runSN (As := [.int (iI x4), .int (iI q1)]) (rest := []) ⟨hx, hb, hml, hown, hts⟩ (m_X1_scaled l _ x4 q1 (by omega) (by omega)) ⟨va_cnB 2 hts (lw_meth q1026) rfl rfl rfl (hV.2.1 _ q1024 rfl) (hts _ q108) (by decide +kernel) ⟨(Nat.le_of_ble_eq_true rfl), (Nat.le_of_ble_eq_true rfl)⟩, hts _ q1025, trivial⟩ (j_preS hV hH) rfl rfl hl.1 rfl (lv_room (Nat.le_of_ble_eq_true rfl)) dX2_fit_62 ⟨Nat.le_of_ble_eq_true rfl, Nat.le_of_ble_eq_true rfl⟩) hH (fun H locs hH => ?_)
              refine j_top (b := g1 * sumO P k 3 / 100 * q1 / 100) (by rw [ex4]) ?_
              refine j_i2l hx hb dX2_fit_65 (by omega) ?_
              refine lv_iload_n hx hb dX2_fit_66 rfl (lv_at hl 4 rfl) ?_
              refine j_i2l hx hb dX2_fit_67 (by omega) ?_
              refine lv_iload hx hb dX2_fit_68 (lv_at hl 5 rfl) ?_
              refine j_i2l hx hb dX2_fit_70 (by omega) ?_
              refine j_callip (va_runSN (As := [.long (lL (g1 * sumO P k 3 / 100 * q1 / 100)), .long (lL lo), .long (lL hi)]) (rest := []) ⟨hx, hb, hml, hown, hts⟩ (m_X1_inRange l _ (g1 * sumO P k 3 / 100 * q1 / 100) lo hi (by omega) (by omega) (by omega)) ⟨va_cnB 3 hts (lw_meth q1033) rfl rfl rfl (hV.2.1 _ q1031 rfl) (hts _ q108) (by decide +kernel) ⟨(Nat.le_of_ble_eq_true rfl), (Nat.le_of_ble_eq_true rfl)⟩, hts _ q1032, trivial⟩ (j_preS hV hH) rfl rfl hl.1 rfl (lv_room (Nat.le_of_ble_eq_true rfl)) dX2_fit_71 ⟨Nat.le_of_ble_eq_true rfl, Nat.le_of_ble_eq_true rfl⟩) hH (fun H locs hH => ?_)
              refine j_ifeq_b (tgt := 81) hx hb dX2_fit_74 (by decide) (fun c74 => ?_) (fun c74 => ?_)
              · refine j_iconst hx hb dX2_fit_81 ?_
                refine j_istore (lv' := fun x5 => [(5, .int (iI x5)), (7, .int (iI x4)), (0, .ref a), (1, .int (iI g1)), (2, .int (iI q1)), (3, .int (iI lo)), (4, .int (iI hi)), (6, .int (iI k))]) hx hb dX2_fit_82 hl (by decide) (fun _ => rfl) (fun x5 ex5 ls hl => ?_)
                refine j_iinc (k := 7) (lv' := fun x6 => [(6, .int (iI x6)), (5, .int (iI x5)), (7, .int (iI x4)), (0, .ref a), (1, .int (iI g1)), (2, .int (iI q1)), (3, .int (iI lo)), (4, .int (iI hi))]) hx hb dX2_fit_84 hl rfl (by decide) (fun _ => rfl) (fun x6 ex6 ls hl => ?_)
                refine lv_goto (tgt := 6) hx hb dX2_fit_87 (by decide) ?_
                exact ih_6 x5 x6 (by omega) (by first | assumption | omega) (by rw [ex5, ex6]; first | exact (bI_t ((fitsT_s hk0.1).mpr ⟨bI_yes hfi c20, fun _ => c74⟩)).symm | exact (bI_t ((fitsT_s hk0.1).mpr ⟨bI_yes hfi c20, fun q => absurd q hbx⟩)).symm | exact (bI_f (fun h => c74 (((fitsT_s hk0.1).mp h).2 hbx))).symm) _ _ hH ls (lv_sub hl [3, 4, 5, 6, 7, 1, 0] rfl)
              · refine j_iconst hx hb dX2_fit_77 ?_
                refine lv_goto (tgt := 82) hx hb dX2_fit_78 (by decide) ?_
                refine j_istore (lv' := fun x7 => [(5, .int (iI x7)), (7, .int (iI x4)), (0, .ref a), (1, .int (iI g1)), (2, .int (iI q1)), (3, .int (iI lo)), (4, .int (iI hi)), (6, .int (iI k))]) hx hb dX2_fit_82 hl (by decide) (fun _ => rfl) (fun x7 ex7 ls hl => ?_)
                refine j_iinc (k := 7) (lv' := fun x8 => [(6, .int (iI x8)), (5, .int (iI x7)), (7, .int (iI x4)), (0, .ref a), (1, .int (iI g1)), (2, .int (iI q1)), (3, .int (iI lo)), (4, .int (iI hi))]) hx hb dX2_fit_84 hl rfl (by decide) (fun _ => rfl) (fun x8 ex8 ls hl => ?_)
                refine lv_goto (tgt := 6) hx hb dX2_fit_87 (by decide) ?_
                exact ih_6 x7 x8 (by omega) (by first | assumption | omega) (by rw [ex7, ex8]; first | exact (bI_t ((fitsT_s hk0.1).mpr ⟨bI_yes hfi c20, fun _ => c74⟩)).symm | exact (bI_t ((fitsT_s hk0.1).mpr ⟨bI_yes hfi c20, fun q => absurd q hbx⟩)).symm | exact (bI_f (fun h => c74 (((fitsT_s hk0.1).mp h).2 hbx))).symm) _ _ hH ls (lv_sub hl [3, 4, 5, 6, 7, 1, 0] rfl)
          · have f9 : w (f k) = some (t, .inr (4, [.int (iI k), va_rf (paO P f k), .int (iI (nd P k 1)), .int (iI (nd P k 2)), .int (iI (nd P k 3))])) := (hT k (by omega) (by omega)).2 hbx
            refine lv_aload_n hx hb dX2_fit_23 rfl (lv_at hl 0 rfl) ?_
            refine j_get hx hb hts hown hV hH ha rfl in_X2 2 (Nat.le_of_ble_eq_true rfl) q224 (fun _ h => h) rfl dX2_fit_24 ?_
            refine lv_iload hx hb dX2_fit_27 (lv_at hl 6 rfl) ?_
            refine j_callqp (va_runV (As := [.int (iI k)]) (rest := []) ⟨hx, hb, hml, hown, hts⟩ (m_J2_getD l _ nl ar t mo (P 2) f k (hnl) (by assumption) (by omega)) (cw_J2_get hts q362 (Nat.le_of_ble_eq_true rfl) (Nat.le_of_ble_eq_true rfl)) (j_preV hV hH hnl rfl) rfl rfl hl.1 rfl (lv_room (Nat.le_of_ble_eq_true rfl)) dX2_fit_29 ⟨Nat.le_of_ble_eq_true rfl, Nat.le_of_ble_eq_true rfl⟩) hH (fun H locs hH => ?_)
            refine j_cast hx hb hts hown hV hH f9 rfl q361 (hV.2.1 _ q2737 rfl) dX2_fit_32 ?_
            refine j_callip (va_runU (As := []) (rest := []) ⟨hx, hb, hml, hown, hts⟩ (m_X4_z l hP hT 20 k (by omega) (by omega) (by omega)) (cwu_X4_z_X2_246_X6 hts (Nat.le_of_ble_eq_true rfl) (Nat.le_of_ble_eq_true rfl)) (j_preV hV hH f9 rfl) rfl rfl hl.1 rfl (lv_room (Nat.le_of_ble_eq_true rfl)) dX2_fit_35 ⟨Nat.le_of_ble_eq_true rfl, Nat.le_of_ble_eq_true rfl⟩) hH (fun H locs hH => ?_)
            refine lv_iload_n hx hb dX2_fit_38 rfl (lv_at hl 1 rfl) ?_
            refine j_callip (va_runSN (As := [.int (iI (sumO P k 3)), .int (iI g1)]) (rest := []) ⟨hx, hb, hml, hown, hts⟩ (m_X1_scaled l _ (sumO P k 3) g1 (by omega) (by omega)) ⟨va_cnB 2 hts (lw_meth q1026) rfl rfl rfl (hV.2.1 _ q1024 rfl) (hts _ q108) (by decide +kernel) ⟨(Nat.le_of_ble_eq_true rfl), (Nat.le_of_ble_eq_true rfl)⟩, hts _ q1025, trivial⟩ (j_preS hV hH) rfl rfl hl.1 rfl (lv_room (Nat.le_of_ble_eq_true rfl)) dX2_fit_39 ⟨Nat.le_of_ble_eq_true rfl, Nat.le_of_ble_eq_true rfl⟩) hH (fun H locs hH => ?_)
            refine j_top (b := g1 * sumO P k 3 / 100) (by rw [Int.mul_comm]) ?_
            refine j_istore (lv' := fun x10 => [(7, .int (iI x10)), (0, .ref a), (1, .int (iI g1)), (2, .int (iI q1)), (3, .int (iI lo)), (4, .int (iI hi)), (5, .int (iI fi)), (6, .int (iI k))]) hx hb dX2_fit_42 hl (by decide) (fun _ => rfl) (fun x10 ex10 ls hl => ?_)
            refine lv_aload_n hx hb dX2_fit_44 rfl (lv_at hl 1 rfl) ?_
            refine j_get hx hb hts hown hV hH ha rfl in_X2 2 (Nat.le_of_ble_eq_true rfl) q224 (fun _ h => h) rfl dX2_fit_45 ?_
            refine lv_iload hx hb dX2_fit_48 (lv_at hl 7 rfl) ?_
            refine j_callqp (va_runV (As := [.int (iI k)]) (rest := []) ⟨hx, hb, hml, hown, hts⟩ (m_J2_getD l _ nl ar t mo (P 2) f k (hnl) (by assumption) (by omega)) (cw_J2_get hts q362 (Nat.le_of_ble_eq_true rfl) (Nat.le_of_ble_eq_true rfl)) (j_preV hV hH hnl rfl) rfl rfl hl.1 rfl (lv_room (Nat.le_of_ble_eq_true rfl)) dX2_fit_50 ⟨Nat.le_of_ble_eq_true rfl, Nat.le_of_ble_eq_true rfl⟩) hH (fun H locs hH => ?_)
            refine j_instNo hx hb hts hown hV hH f9 rfl q1030 (hV.2.2.2.2.1 _ (List.mem_of_getElem? (i := 0) rfl)) dX2_fit_53 ?_
            refine j_if_eq (tgt := 77) hx hb dX2_fit_56 (by decide) (by omega) (fun c56 => ?_) (fun c56 => ?_)
            · refine j_iconst hx hb dX2_fit_77 ?_
              refine lv_goto (tgt := 82) hx hb dX2_fit_78 (by decide) ?_
              refine j_istore (lv' := fun x11 => [(5, .int (iI x11)), (7, .int (iI x10)), (0, .ref a), (1, .int (iI g1)), (2, .int (iI q1)), (3, .int (iI lo)), (4, .int (iI hi)), (6, .int (iI k))]) hx hb dX2_fit_82 hl (by decide) (fun _ => rfl) (fun x11 ex11 ls hl => ?_)
              refine j_iinc (k := 7) (lv' := fun x12 => [(6, .int (iI x12)), (5, .int (iI x11)), (7, .int (iI x10)), (0, .ref a), (1, .int (iI g1)), (2, .int (iI q1)), (3, .int (iI lo)), (4, .int (iI hi))]) hx hb dX2_fit_84 hl rfl (by decide) (fun _ => rfl) (fun x12 ex12 ls hl => ?_)
              refine lv_goto (tgt := 6) hx hb dX2_fit_87 (by decide) ?_
              exact ih_6 x11 x12 (by omega) (by first | assumption | omega) (by rw [ex11, ex12]; first | exact (bI_t ((fitsT_s hk0.1).mpr ⟨bI_yes hfi c20, fun _ => c74⟩)).symm | exact (bI_t ((fitsT_s hk0.1).mpr ⟨bI_yes hfi c20, fun q => absurd q hbx⟩)).symm | exact (bI_f (fun h => c74 (((fitsT_s hk0.1).mp h).2 hbx))).symm) _ _ hH ls (lv_sub hl [3, 4, 5, 6, 7, 1, 0] rfl)
            · exact absurd c56 (by decide)
  exact L6 ((P 2 - x2).toNat + 1) x1 x2 (by omega) (by first | assumption | omega) (by rw [ex1, ex2]; exact (bI_t fitsT_0).symm) _ _ hH ls (lv_sub hl [2, 3, 4, 5, 6, 1, 0] rfl)
theorem cw_X2_percentage {R : Room} {s : State} {args : Array Value} {own : String} {index lev mc ms : Nat} (hts : ∀ w ∈ lw_all, w.before args s = true) (hl : Cond.methodLink own index yX2_percentage ∈ lw_all) (hR1 : (rmL lev mc ms).frames + 1 ≤ R.frames) (hR2 : 8 + (4 + 11) + (rmL lev mc ms).locals ≤ R.locals) : CallW R s args own RX2 index yX2_percentage cX2_percentage 4 (some .int) (ws_ yX2_percentage cX2_percentage 4 (some .int)) (rmL lev mc ms) mc ms 2 :=
  cwV 2 hts (lw_V hl q1561 q1562 q109 q1563) rfl rfl rfl (by decide +kernel) ⟨hR1, hR2⟩
set_option maxHeartbeats 4000000 in
theorem m_X2_percentage {E : jE} (l : Launch) (w : Wl) (t : Nat) (a : Nat) (T : Int) (P : Int → Int) (f : Int → Nat) (sh : Int → Int) (lo : Int) (hi : Int) (h1 : PWF T P) (h2 : StA E w t a P f sh) (h3 : T ≤ 1000000000) (h4 : -1000 ≤ lo ∧ lo ≤ 0) (h5 : 0 ≤ hi ∧ hi ≤ 1000) : Met l yX2_percentage (ws_ yX2_percentage cX2_percentage 4 (some .int)) (rmL 25 0 0) (va_Pc [.ref a, .int (iI lo), .int (iI hi)] (jP E w)) (jQi E (fun _ : Unit => w) (fun z _ => z = pctO P lo hi)) 0 0 (jA E) := by
  refine j_metI (by decide) (Nat.le_of_ble_eq_true rfl) ?_
  intro p e s m args below meth c Q hx hb hml hown hnm hts hV hH hret ls hl
  have hl : lv_has ls 4 [(0, .ref a), (1, .int (iI lo)), (2, .int (iI hi))] := hl
  have h0 := hH.1.2
  have hP := h1
  have hS := h2
  have hS0 := h2
  obtain ⟨nl, sl, stt, ar, tlo, mo, mo2, ch, se, ha, hnl, hAD, hT, hsl, hLQ, hSc, hst, hti⟩ := hS0
  have hA := hP.A
  have hB := hP.B
  have hC := hP.C
  have hT0 := h3
  refine j_bipush hx hb dX2_percentage_0 (by decide) ?_
  refine j_istore_n (lv' := fun x1 => [(3, .int (iI x1)), (0, .ref a), (1, .int (iI lo)), (2, .int (iI hi))]) hx hb dX2_percentage_2 rfl hl (by decide) (fun _ => rfl) (fun x1 ex1 ls hl => ?_)
  have L3 : ∀ (n_ : Nat), ∀ (g1 : Int) (hm_ : g1 < (n_ : Int)) (i1 : 0 ≤ g1 ∧ g1 ≤ 100) (i2 : pctO P lo hi = dnF (fun q => fitsG P (P 7) q lo hi) g1.toNat g1) (H : Heap) (locs : List Loc), jH E s.heap w H locs → ∀ ls : Array Slot, lv_has ls 4 [(0, .ref a), (1, .int (iI lo)), (2, .int (iI hi)), (3, .int (iI g1))] → W p l e (rmL 25 0 0) s m args below meth c H locs 0 0 Q (F0 m 3 ls []) := by
    intro n_
    induction n_ with
    | zero =>
      intro g1 hm_ i1 i2 H locs hH ls hl
      exact absurd hm_ (by omega)
    | succ n_ ih_3 =>
      intro g1 hm_ i1 i2 H locs hH ls hl
      refine lv_aload_n hx hb dX2_percentage_3 rfl (lv_at hl 0 rfl) ?_
      refine lv_aload_n hx hb dX2_percentage_4 rfl (lv_at hl 0 rfl) ?_
      refine j_get hx hb hts hown hV hH ha rfl in_X2 4 (Nat.le_of_ble_eq_true rfl) q230 (fun _ h => h) rfl dX2_percentage_5 ?_
      refine j_iconst hx hb dX2_percentage_8 ?_
      refine j_iald hx hb hV hH hst (by omega) (by omega) dX2_percentage_9 ?_
      refine j_top (b := P 7) (rfl) ?_
      refine lv_iload_n hx hb dX2_percentage_10 rfl (lv_at hl 3 rfl) ?_
      refine lv_iload_n hx hb dX2_percentage_11 rfl (lv_at hl 1 rfl) ?_
      refine lv_iload_n hx hb dX2_percentage_12 rfl (lv_at hl 2 rfl) ?_
      refine j_callip (va_runV (As := [.int (iI (P 7)), .int (iI g1), .int (iI lo), .int (iI hi)]) (rest := []) ⟨hx, hb, hml, hown, hts⟩ (m_X2_fit l _ t a _ _ _ _ (P 7) g1 lo hi (hP) (hS) (by omega) (by omega) (by omega) (by omega) (by omega)) (cw_X2_fit hts q1006 (Nat.le_of_ble_eq_true rfl) (Nat.le_of_ble_eq_true rfl)) (j_preV hV hH ha rfl) rfl rfl hl.1 rfl (lv_room (Nat.le_of_ble_eq_true rfl)) dX2_percentage_13 ⟨Nat.le_of_ble_eq_true rfl, Nat.le_of_ble_eq_true rfl⟩) hH (fun H locs hH => ?_)
      refine j_ifne_b (tgt := 25) hx hb dX2_percentage_16 (by decide) (fun c16 => ?_) (fun c16 => ?_)
      · refine lv_iload_n hx hb dX2_percentage_25 rfl (lv_at hl 3 rfl) ?_
        exact hret () hH dX2_percentage_26 (Nat.le_of_ble_eq_true rfl) (Nat.le_of_ble_eq_true rfl) (by rw [i2]; exact (dnF_t (p := fun q => fitsG P (P 7) q lo hi) c16 _).symm)
      · have hg0 : g1 ≠ 0 := fun h => c16 (h ▸ fitsG_q0 (by omega) (by omega))
        refine j_iinc (k := 3) (lv' := fun x2 => [(3, .int (iI x2)), (0, .ref a), (1, .int (iI lo)), (2, .int (iI hi))]) hx hb dX2_percentage_19 hl rfl (by decide) (fun _ => rfl) (fun x2 ex2 ls hl => ?_)
        refine lv_goto (tgt := 3) hx hb dX2_percentage_22 (by decide) ?_
        exact ih_3 x2 (by omega) (by first | assumption | omega) (by rw [ex2, i2, show g1.toNat = (g1 + -1).toNat + 1 by omega]; exact dnF_f (p := fun q => fitsG P (P 7) q lo hi) c16 _) _ _ hH ls (lv_sub hl [1, 2, 3, 0] rfl)
  exact L3 ((x1).toNat + 1) x1 (by omega) (by first | assumption | omega) (by rw [ex1]; rfl) _ _ hH ls (lv_sub hl [1, 2, 3, 0] rfl)
theorem cw_X2_isFull {R : Room} {s : State} {args : Array Value} {own : String} {index lev mc ms : Nat} (hts : ∀ w ∈ lw_all, w.before args s = true) (hl : Cond.methodLink own index yX2_isFull ∈ lw_all) (hR1 : (rmL lev mc ms).frames + 1 ≤ R.frames) (hR2 : 8 + (1 + 11) + (rmL lev mc ms).locals ≤ R.locals) : CallW R s args own RX2 index yX2_isFull cX2_isFull 1 (some .boolean) (ws_ yX2_isFull cX2_isFull 1 (some .boolean)) (rmL lev mc ms) mc ms 0 :=
  cwV 0 hts (lw_V hl q2175 q2176 q109 q2177) rfl rfl rfl (by decide +kernel) ⟨hR1, hR2⟩
set_option maxHeartbeats 4000000 in
theorem m_X2_isFull {E : jE} (l : Launch) (w : Wl) (t : Nat) (a : Nat) (T : Int) (P : Int → Int) (f : Int → Nat) (sh : Int → Int) (h1 : PWF T P) (h2 : StA E w t a P f sh) (h3 : T ≤ 1000000000) : Met l yX2_isFull (ws_ yX2_isFull cX2_isFull 1 (some .boolean)) (rmL 25 0 0) (va_Pc [.ref a] (jP E w)) (jQi E (fun _ : Unit => w) (fun z _ => z = bI (fitsG P (P 7) 100 (P 5) (P 6)))) 0 0 (jA E) := by
  refine j_metZ (by decide) (Nat.le_of_ble_eq_true rfl) ?_
  intro p e s m args below meth c Q hx hb hml hown hnm hts hV hH hret ls hl
  have hl : lv_has ls 1 [(0, .ref a)] := hl
  have h0 := hH.1.2
  have hP := h1
  have hS := h2
  have hS0 := h2
  obtain ⟨nl, sl, stt, ar, tlo, mo, mo2, ch, se, ha, hnl, hAD, hT, hsl, hLQ, hSc, hst, hti⟩ := hS0
  have hA := hP.A
  have hB := hP.B
  have hC := hP.C
  have hT0 := h3
  refine lv_aload_n hx hb dX2_isFull_0 rfl (lv_at hl 0 rfl) ?_
  refine lv_aload_n hx hb dX2_isFull_1 rfl (lv_at hl 0 rfl) ?_
  refine j_get hx hb hts hown hV hH ha rfl in_X2 4 (Nat.le_of_ble_eq_true rfl) q230 (fun _ h => h) rfl dX2_isFull_2 ?_
  refine j_iconst hx hb dX2_isFull_5 ?_
  refine j_iald hx hb hV hH hst (by omega) (by omega) dX2_isFull_6 ?_
  refine j_top (b := P 7) (rfl) ?_
  refine j_bipush hx hb dX2_isFull_7 (by decide) ?_
  refine lv_aload_n hx hb dX2_isFull_9 rfl (lv_at hl 0 rfl) ?_
  refine j_get hx hb hts hown hV hH ha rfl in_X2 7 (Nat.le_of_ble_eq_true rfl) q238 (fun _ h => h) rfl dX2_isFull_10 ?_
  refine lv_aload_n hx hb dX2_isFull_13 rfl (lv_at hl 0 rfl) ?_
  refine j_get hx hb hts hown hV hH ha rfl in_X2 8 (Nat.le_of_ble_eq_true rfl) q240 (fun _ h => h) rfl dX2_isFull_14 ?_
  refine j_callip (va_runV (As := [.int (iI (P 7)), .int (iI 100), .int (iI (P 5)), .int (iI (P 6))]) (rest := []) ⟨hx, hb, hml, hown, hts⟩ (m_X2_fit l _ t a _ _ _ _ (P 7) 100 (P 5) (P 6) (hP) (hS) (by omega) (by omega) (by omega) (by omega) (by omega)) (cw_X2_fit hts q1006 (Nat.le_of_ble_eq_true rfl) (Nat.le_of_ble_eq_true rfl)) (j_preV hV hH ha rfl) rfl rfl hl.1 rfl (lv_room (Nat.le_of_ble_eq_true rfl)) dX2_isFull_17 ⟨Nat.le_of_ble_eq_true rfl, Nat.le_of_ble_eq_true rfl⟩) hH (fun H locs hH => ?_)
  exact hret () hH dX2_isFull_20 (Nat.le_of_ble_eq_true rfl) (Nat.le_of_ble_eq_true rfl) (bI_01 _) (by first | rfl | omega)
theorem cw_X2_fittingGain {R : Room} {s : State} {args : Array Value} {own : String} {index lev mc ms : Nat} (hts : ∀ w ∈ lw_all, w.before args s = true) (hl : Cond.methodLink own index yX2_fittingGain ∈ lw_all) (hR1 : (rmL lev mc ms).frames + 1 ≤ R.frames) (hR2 : 8 + (2 + 11) + (rmL lev mc ms).locals ≤ R.locals) : CallW R s args own RX2 index yX2_fittingGain cX2_fittingGain 2 (some .int) (ws_ yX2_fittingGain cX2_fittingGain 2 (some .int)) (rmL lev mc ms) mc ms 0 :=
  cwV 0 hts (lw_V hl q1003 q1004 q109 q1005) rfl rfl rfl (by decide +kernel) ⟨hR1, hR2⟩
set_option maxHeartbeats 4000000 in
theorem m_X2_fittingGain {E : jE} (l : Launch) (w : Wl) (t : Nat) (a : Nat) (T : Int) (P : Int → Int) (f : Int → Nat) (sh : Int → Int) (h1 : PWF T P) (h2 : StA E w t a P f sh) (h3 : T ≤ 1000000000) : Met l yX2_fittingGain (ws_ yX2_fittingGain cX2_fittingGain 2 (some .int)) (rmL 25 0 0) (va_Pc [.ref a] (jP E w)) (jQi E (fun _ : Unit => w) (fun z _ => z = gainO P)) 0 0 (jA E) := by
  refine j_metI (by decide) (Nat.le_of_ble_eq_true rfl) ?_
  intro p e s m args below meth c Q hx hb hml hown hnm hts hV hH hret ls hl
  have hl : lv_has ls 2 [(0, .ref a)] := hl
  have h0 := hH.1.2
  have hP := h1
  have hS := h2
  have hS0 := h2
  obtain ⟨nl, sl, stt, ar, tlo, mo, mo2, ch, se, ha, hnl, hAD, hT, hsl, hLQ, hSc, hst, hti⟩ := hS0
  have hA := hP.A
  have hB := hP.B
  have hC := hP.C
  have hT0 := h3
  refine j_bipush hx hb dX2_fittingGain_0 (by decide) ?_
  refine j_istore_n (lv' := fun x1 => [(1, .int (iI x1)), (0, .ref a)]) hx hb dX2_fittingGain_2 rfl hl (by decide) (fun _ => rfl) (fun x1 ex1 ls hl => ?_)
  have L3 : ∀ (n_ : Nat), ∀ (g1 : Int) (hm_ : g1 < (n_ : Int)) (i1 : 0 ≤ g1 ∧ g1 ≤ 100) (i2 : gainO P = dnF (fun q => fitsG P q 100 (P 5) (P 6)) g1.toNat g1) (H : Heap) (locs : List Loc), jH E s.heap w H locs → ∀ ls : Array Slot, lv_has ls 2 [(0, .ref a), (1, .int (iI g1))] → W p l e (rmL 25 0 0) s m args below meth c H locs 0 0 Q (F0 m 3 ls []) := by
    intro n_
    induction n_ with
    | zero =>
      intro g1 hm_ i1 i2 H locs hH ls hl
      exact absurd hm_ (by omega)
    | succ n_ ih_3 =>
      intro g1 hm_ i1 i2 H locs hH ls hl
      refine lv_aload_n hx hb dX2_fittingGain_3 rfl (lv_at hl 0 rfl) ?_
      refine lv_iload_n hx hb dX2_fittingGain_4 rfl (lv_at hl 1 rfl) ?_
      refine j_bipush hx hb dX2_fittingGain_5 (by decide) ?_
      refine lv_aload_n hx hb dX2_fittingGain_7 rfl (lv_at hl 0 rfl) ?_
      refine j_get hx hb hts hown hV hH ha rfl in_X2 7 (Nat.le_of_ble_eq_true rfl) q238 (fun _ h => h) rfl dX2_fittingGain_8 ?_
      refine lv_aload_n hx hb dX2_fittingGain_11 rfl (lv_at hl 0 rfl) ?_
      refine j_get hx hb hts hown hV hH ha rfl in_X2 8 (Nat.le_of_ble_eq_true rfl) q240 (fun _ h => h) rfl dX2_fittingGain_12 ?_
      refine j_callip (va_runV (As := [.int (iI g1), .int (iI 100), .int (iI (P 5)), .int (iI (P 6))]) (rest := []) ⟨hx, hb, hml, hown, hts⟩ (m_X2_fit l _ t a _ _ _ _ g1 100 (P 5) (P 6) (hP) (hS) (by omega) (by omega) (by omega) (by omega) (by omega)) (cw_X2_fit hts q1006 (Nat.le_of_ble_eq_true rfl) (Nat.le_of_ble_eq_true rfl)) (j_preV hV hH ha rfl) rfl rfl hl.1 rfl (lv_room (Nat.le_of_ble_eq_true rfl)) dX2_fittingGain_15 ⟨Nat.le_of_ble_eq_true rfl, Nat.le_of_ble_eq_true rfl⟩) hH (fun H locs hH => ?_)
      refine j_ifne_b (tgt := 27) hx hb dX2_fittingGain_18 (by decide) (fun c18 => ?_) (fun c18 => ?_)
      · refine lv_iload_n hx hb dX2_fittingGain_27 rfl (lv_at hl 1 rfl) ?_
        exact hret () hH dX2_fittingGain_28 (Nat.le_of_ble_eq_true rfl) (Nat.le_of_ble_eq_true rfl) (by rw [i2]; exact (dnF_t (p := fun q => fitsG P q 100 (P 5) (P 6)) c18 _).symm)
      · have hg0 : g1 ≠ 0 := fun h => c18 (h ▸ fitsG_g0 (by omega) (by omega))
        refine j_iinc (k := 1) (lv' := fun x2 => [(1, .int (iI x2)), (0, .ref a)]) hx hb dX2_fittingGain_21 hl rfl (by decide) (fun _ => rfl) (fun x2 ex2 ls hl => ?_)
        refine lv_goto (tgt := 3) hx hb dX2_fittingGain_24 (by decide) ?_
        exact ih_3 x2 (by omega) (by first | assumption | omega) (by rw [ex2, i2, show g1.toNat = (g1 + -1).toNat + 1 by omega]; exact dnF_f (p := fun q => fitsG P q 100 (P 5) (P 6)) c18 _) _ _ hH ls (lv_sub hl [1, 0] rfl)
  exact L3 ((x1).toNat + 1) x1 (by omega) (by first | assumption | omega) (by rw [ex1]; rfl) _ _ hH ls (lv_sub hl [1, 0] rfl)
theorem cw_X1_requireIndex {R : Room} {s : State} {args : Array Value} {own : String} {index lev mc ms : Nat} (hts : ∀ w ∈ lw_all, w.before args s = true) (hl : Cond.methodLink own index yX1_requireIndex ∈ lw_all) (hR1 : (rmL lev mc ms).frames + 1 ≤ R.frames) (hR2 : 8 + (2 + 11) + (rmL lev mc ms).locals ≤ R.locals) : CallB R s args own index yX1_requireIndex cX1_requireIndex 2 none (ws_ yX1_requireIndex cX1_requireIndex 2 none) (rmL lev mc ms) mc ms 2 ∧ (Cond.static yX1_requireIndex).before args s = true :=
  va_cwS 2 hts (lw_S hl q1265 q108 q1266) rfl rfl rfl (by decide +kernel) ⟨hR1, hR2⟩
set_option maxHeartbeats 4000000 in
theorem m_X1_requireIndex {E : jE} (l : Launch) (w : Wl) (cn : Prop) (ms : Nat) (h1 : cn) : Met l yX1_requireIndex (ws_ yX1_requireIndex cX1_requireIndex 2 none) (rmL 1 0 0) (va_Pc [.int (iI (bI cn)), .ref ms] (jP E w)) (jQv E (fun _ : Unit => w) (fun _ => True)) 0 0 (jA E) := by
  refine j_metV (by decide) (Nat.le_of_ble_eq_true rfl) ?_
  intro p e s m args below meth c Q hx hb hml hown hnm hts hV hH hret ls hl
  have hl : lv_has ls 2 [(0, .int (iI (bI cn))), (1, .ref ms)] := hl
  have h0 := hH.1.2
  refine lv_iload_n hx hb dX1_requireIndex_0 rfl (lv_at hl 0 rfl) ?_
  refine j_ifne_b (tgt := 13) hx hb dX1_requireIndex_1 (by decide) (fun c1 => ?_) (fun c1 => ?_)
  · exact hret () hH dX1_requireIndex_13 (Nat.le_of_ble_eq_true rfl) (Nat.le_of_ble_eq_true rfl) trivial
  · exact absurd h1 c1
theorem cw_X1_requireArgument {R : Room} {s : State} {args : Array Value} {own : String} {index lev mc ms : Nat} (hts : ∀ w ∈ lw_all, w.before args s = true) (hl : Cond.methodLink own index yX1_requireArgument ∈ lw_all) (hR1 : (rmL lev mc ms).frames + 1 ≤ R.frames) (hR2 : 8 + (2 + 11) + (rmL lev mc ms).locals ≤ R.locals) : CallB R s args own index yX1_requireArgument cX1_requireArgument 2 none (ws_ yX1_requireArgument cX1_requireArgument 2 none) (rmL lev mc ms) mc ms 2 ∧ (Cond.static yX1_requireArgument).before args s = true :=
  va_cwS 2 hts (lw_S hl q1237 q108 q1238) rfl rfl rfl (by decide +kernel) ⟨hR1, hR2⟩
set_option maxHeartbeats 4000000 in
theorem m_X1_requireArgument {E : jE} (l : Launch) (w : Wl) (cn : Prop) (ms : Nat) (h1 : cn) : Met l yX1_requireArgument (ws_ yX1_requireArgument cX1_requireArgument 2 none) (rmL 1 0 0) (va_Pc [.int (iI (bI cn)), .ref ms] (jP E w)) (jQv E (fun _ : Unit => w) (fun _ => True)) 0 0 (jA E) := by
  refine j_metV (by decide) (Nat.le_of_ble_eq_true rfl) ?_
  intro p e s m args below meth c Q hx hb hml hown hnm hts hV hH hret ls hl
  have hl : lv_has ls 2 [(0, .int (iI (bI cn))), (1, .ref ms)] := hl
  have h0 := hH.1.2
  refine lv_iload_n hx hb dX1_requireArgument_0 rfl (lv_at hl 0 rfl) ?_
  refine j_ifne_b (tgt := 13) hx hb dX1_requireArgument_1 (by decide) (fun c1 => ?_) (fun c1 => ?_)
  · exact hret () hH dX1_requireArgument_13 (Nat.le_of_ble_eq_true rfl) (Nat.le_of_ble_eq_true rfl) trivial
  · exact absurd h1 c1
theorem cw_X1_requireState {R : Room} {s : State} {args : Array Value} {own : String} {index lev mc ms : Nat} (hts : ∀ w ∈ lw_all, w.before args s = true) (hl : Cond.methodLink own index yX1_requireState ∈ lw_all) (hR1 : (rmL lev mc ms).frames + 1 ≤ R.frames) (hR2 : 8 + (2 + 11) + (rmL lev mc ms).locals ≤ R.locals) : CallB R s args own index yX1_requireState cX1_requireState 2 none (ws_ yX1_requireState cX1_requireState 2 none) (rmL lev mc ms) mc ms 2 ∧ (Cond.static yX1_requireState).before args s = true :=
  va_cwS 2 hts (lw_S hl q1292 q108 q1293) rfl rfl rfl (by decide +kernel) ⟨hR1, hR2⟩
set_option maxHeartbeats 4000000 in
theorem m_X1_requireState {E : jE} (l : Launch) (w : Wl) (cn : Prop) (ms : Nat) (h1 : cn) : Met l yX1_requireState (ws_ yX1_requireState cX1_requireState 2 none) (rmL 1 0 0) (va_Pc [.int (iI (bI cn)), .ref ms] (jP E w)) (jQv E (fun _ : Unit => w) (fun _ => True)) 0 0 (jA E) := by
  refine j_metV (by decide) (Nat.le_of_ble_eq_true rfl) ?_
  intro p e s m args below meth c Q hx hb hml hown hnm hts hV hH hret ls hl
  have hl : lv_has ls 2 [(0, .int (iI (bI cn))), (1, .ref ms)] := hl
  have h0 := hH.1.2
  refine lv_iload_n hx hb dX1_requireState_0 rfl (lv_at hl 0 rfl) ?_
  refine j_ifne_b (tgt := 13) hx hb dX1_requireState_1 (by decide) (fun c1 => ?_) (fun c1 => ?_)
  · exact hret () hH dX1_requireState_13 (Nat.le_of_ble_eq_true rfl) (Nat.le_of_ble_eq_true rfl) trivial
  · exact absurd h1 c1
theorem cw_X2_node {R : Room} {s : State} {args : Array Value} {own : String} {index lev mc ms : Nat} (hts : ∀ w ∈ lw_all, w.before args s = true) (hl : Cond.methodLink own index yX2_node ∈ lw_all) (hR1 : (rmL lev mc ms).frames + 1 ≤ R.frames) (hR2 : 8 + (2 + 11) + (rmL lev mc ms).locals ≤ R.locals) : CallW R s args own RX2 index yX2_node cX2_node 2 (some (.object "EyeStage$Part")) (ws_ yX2_node cX2_node 2 (some (.object "EyeStage$Part"))) (rmL lev mc ms) mc ms 1 :=
  cwV 1 hts (lw_V hl q1260 q1261 q109 q1262) rfl rfl rfl (by decide +kernel) ⟨hR1, hR2⟩
set_option maxHeartbeats 4000000 in
theorem m_X2_node {E : jE} (l : Launch) (w : Wl) (t : Nat) (a : Nat) (T : Int) (P : Int → Int) (f : Int → Nat) (sh : Int → Int) (n1 : Int) (h1 : PWF T P) (h2 : StA E w t a P f sh) (h3 : T ≤ 1000000000) (h4 : 0 ≤ n1 ∧ n1 < P 2) : Met l yX2_node (ws_ yX2_node cX2_node 2 (some (.object "EyeStage$Part"))) (rmL 4 0 0) (va_Pc [.ref a, .int (iI n1)] (jP E w)) (jQq E (fun _ : Unit => w) (fun z _ => z = some (f n1))) 0 0 (jA E) := by
  refine j_metQ (by decide) (Nat.le_of_ble_eq_true rfl) (Or.inl ⟨_, rfl⟩) ?_
  intro p e s m args below meth c Q hx hb hml hown hnm hts hV hH hret ls hl
  have hl : lv_has ls 2 [(0, .ref a), (1, .int (iI n1))] := hl
  have h0 := hH.1.2
  have hP := h1
  have hS := h2
  have hS0 := h2
  obtain ⟨nl, sl, stt, ar, tlo, mo, mo2, ch, se, ha, hnl, hAD, hT, hsl, hLQ, hSc, hst, hti⟩ := hS0
  have hA := hP.A
  have hB := hP.B
  have hC := hP.C
  have hT0 := h3
  refine lv_iload_n hx hb dX2_node_0 rfl (lv_at hl 1 rfl) ?_
  refine j_i2l hx hb dX2_node_1 (by omega) ?_
  refine j_lconst (z := 0) hx hb dX2_node_2 (by decide +kernel) ?_
  refine lv_aload_n hx hb dX2_node_3 rfl (lv_at hl 0 rfl) ?_
  refine j_get hx hb hts hown hV hH ha rfl in_X2 2 (Nat.le_of_ble_eq_true rfl) q224 (fun _ h => h) rfl dX2_node_4 ?_
  refine j_callip (va_runV (As := []) (rest := [.long (lL 0), .long (lL n1)]) ⟨hx, hb, hml, hown, hts⟩ (m_J2_size l _ nl ar t mo (P 2) (hnl)) (cw_J2_size hts q1010 (Nat.le_of_ble_eq_true rfl) (Nat.le_of_ble_eq_true rfl)) (j_preV hV hH hnl rfl) rfl rfl hl.1 rfl (lv_room (Nat.le_of_ble_eq_true rfl)) dX2_node_7 ⟨Nat.le_of_ble_eq_true rfl, Nat.le_of_ble_eq_true rfl⟩) hH (fun H locs hH => ?_)
  refine j_iconst hx hb dX2_node_10 ?_
  refine j_isub hx hb dX2_node_11 ?_
  refine j_i2l hx hb dX2_node_12 (by omega) ?_
  refine j_callip (va_runSN (As := [.long (lL n1), .long (lL 0), .long (lL ((P 2) - 1))]) (rest := []) ⟨hx, hb, hml, hown, hts⟩ (m_X1_inRange l _ n1 0 ((P 2) - 1) (by omega) (by omega) (by omega)) ⟨va_cnB 3 hts (lw_meth q1033) rfl rfl rfl (hV.2.1 _ q1031 rfl) (hts _ q108) (by decide +kernel) ⟨(Nat.le_of_ble_eq_true rfl), (Nat.le_of_ble_eq_true rfl)⟩, hts _ q1032, trivial⟩ (j_preS hV hH) rfl rfl hl.1 rfl (lv_room (Nat.le_of_ble_eq_true rfl)) dX2_node_13 ⟨Nat.le_of_ble_eq_true rfl, Nat.le_of_ble_eq_true rfl⟩) hH (fun H locs hH => ?_)
  refine va_ldcS hx hb hown (hV.2.2.2.2.2.1 _ (List.mem_of_getElem? (i := 28) rfl)) dX2_node_16 ?_
  refine j_callvp (va_runSN (As := [.int (iI (bI (0 ≤ n1 ∧ n1 ≤ ((P 2) - 1)))), .ref (E.2.2.2 (1 + 25))]) (rest := []) ⟨hx, hb, hml, hown, hts⟩ (m_X1_requireIndex l _ (0 ≤ n1 ∧ n1 ≤ ((P 2) - 1)) (E.2.2.2 (1 + 25)) (by omega)) ⟨va_cnB 2 hts (lw_meth q1266) rfl rfl rfl (hV.2.1 _ q1264 rfl) (hts _ q108) (by decide +kernel) ⟨(Nat.le_of_ble_eq_true rfl), (Nat.le_of_ble_eq_true rfl)⟩, hts _ q1265, trivial⟩ (j_preS hV hH) rfl rfl hl.1 rfl (lv_room (Nat.le_of_ble_eq_true rfl)) dX2_node_18 ⟨Nat.le_of_ble_eq_true rfl, Nat.le_of_ble_eq_true rfl⟩) hH (fun H locs hH => ?_)
  refine lv_aload_n hx hb dX2_node_21 rfl (lv_at hl 0 rfl) ?_
  refine j_get hx hb hts hown hV hH ha rfl in_X2 2 (Nat.le_of_ble_eq_true rfl) q224 (fun _ h => h) rfl dX2_node_22 ?_
  refine lv_iload_n hx hb dX2_node_25 rfl (lv_at hl 1 rfl) ?_
  refine j_callqp (va_runV (As := [.int (iI n1)]) (rest := []) ⟨hx, hb, hml, hown, hts⟩ (m_J2_getD l _ nl ar t mo (P 2) f n1 (hnl) (by assumption) (by omega)) (cw_J2_get hts q362 (Nat.le_of_ble_eq_true rfl) (Nat.le_of_ble_eq_true rfl)) (j_preV hV hH hnl rfl) rfl rfl hl.1 rfl (lv_room (Nat.le_of_ble_eq_true rfl)) dX2_node_26 ⟨Nat.le_of_ble_eq_true rfl, Nat.le_of_ble_eq_true rfl⟩) hH (fun H locs hH => ?_)
  by_cases hbx : 0 < nd P n1 4
  · have f1 : w (f n1) = some (t, .inr (3, [.int (iI n1), va_rf (paO P f n1), .int (iI (nd P n1 1)), .int (iI (nd P n1 2)), .int (iI (nd P n1 3)), .int (iI (nd P n1 4)), .int (iI (nd P n1 5)), .int (iI (nd P n1 6)), .int (iI (sh n1))])) := (hT n1 (by omega) (by omega)).1 hbx
    refine j_cast hx hb hts hown hV hH f1 rfl q361 (hV.2.1 _ q2736 rfl) dX2_node_29 ?_
    exact hret (some (f n1)) () hH dX2_node_32 (Nat.le_of_ble_eq_true rfl) (Nat.le_of_ble_eq_true rfl) (by first | rfl | omega)
  · have f2 : w (f n1) = some (t, .inr (4, [.int (iI n1), va_rf (paO P f n1), .int (iI (nd P n1 1)), .int (iI (nd P n1 2)), .int (iI (nd P n1 3))])) := (hT n1 (by omega) (by omega)).2 hbx
    refine j_cast hx hb hts hown hV hH f2 rfl q361 (hV.2.1 _ q2737 rfl) dX2_node_29 ?_
    exact hret (some (f n1)) () hH dX2_node_32 (Nat.le_of_ble_eq_true rfl) (Nat.le_of_ble_eq_true rfl) (by first | rfl | omega)
theorem cw_X2_group {R : Room} {s : State} {args : Array Value} {own : String} {index lev mc ms : Nat} (hts : ∀ w ∈ lw_all, w.before args s = true) (hl : Cond.methodLink own index yX2_group ∈ lw_all) (hR1 : (rmL lev mc ms).frames + 1 ≤ R.frames) (hR2 : 8 + (2 + 11) + (rmL lev mc ms).locals ≤ R.locals) : CallW R s args own RX2 index yX2_group cX2_group 2 (some (.object "EyeStage$Group")) (ws_ yX2_group cX2_group 2 (some (.object "EyeStage$Group"))) (rmL lev mc ms) mc ms 1 :=
  cwV 1 hts (lw_V hl q1273 qs18 q109 q1274) rfl rfl rfl (by decide +kernel) ⟨hR1, hR2⟩
set_option maxHeartbeats 4000000 in
theorem m_X2_group {E : jE} (l : Launch) (w : Wl) (t : Nat) (a : Nat) (T : Int) (P : Int → Int) (f : Int → Nat) (sh : Int → Int) (p1 : Int) (h1 : PWF T P) (h2 : StA E w t a P f sh) (h3 : T ≤ 1000000000) (h4 : p1 = -1000 ∨ (0 ≤ p1 ∧ p1 < P 2 ∧ nd P p1 4 = 0)) : Met l yX2_group (ws_ yX2_group cX2_group 2 (some (.object "EyeStage$Group"))) (rmL 4 0 0) (va_Pc [.ref a, .int (iI p1)] (jP E w)) (jQq E (fun _ : Unit => w) (fun z _ => z = (if p1 = -1000 then none else some (f p1)))) 0 0 (jA E) := by
  refine j_metQ (by decide) (Nat.le_of_ble_eq_true rfl) (Or.inl ⟨_, rfl⟩) ?_
  intro p e s m args below meth c Q hx hb hml hown hnm hts hV hH hret ls hl
  have hl : lv_has ls 2 [(0, .ref a), (1, .int (iI p1))] := hl
  have h0 := hH.1.2
  have hP := h1
  have hS := h2
  have hS0 := h2
  obtain ⟨nl, sl, stt, ar, tlo, mo, mo2, ch, se, ha, hnl, hAD, hT, hsl, hLQ, hSc, hst, hti⟩ := hS0
  have hA := hP.A
  have hB := hP.B
  have hC := hP.C
  have hT0 := h3
  refine lv_iload_n hx hb dX2_group_0 rfl (lv_at hl 1 rfl) ?_
  refine j_sipush hx hb dX2_group_1 (by decide) ?_
  refine j_icmp_ne (tgt := 11) hx hb dX2_group_4 (by decide) (by omega) (by omega) (fun c4 => ?_) (fun c4 => ?_)
  · refine lv_aload_n hx hb dX2_group_11 rfl (lv_at hl 0 rfl) ?_
    refine j_get hx hb hts hown hV hH ha rfl in_X2 2 (Nat.le_of_ble_eq_true rfl) q224 (fun _ h => h) rfl dX2_group_12 ?_
    refine lv_iload_n hx hb dX2_group_15 rfl (lv_at hl 1 rfl) ?_
    refine j_callqp (va_runV (As := [.int (iI p1)]) (rest := []) ⟨hx, hb, hml, hown, hts⟩ (m_J2_getD l _ nl ar t mo (P 2) f p1 (hnl) (by assumption) (by omega)) (cw_J2_get hts q362 (Nat.le_of_ble_eq_true rfl) (Nat.le_of_ble_eq_true rfl)) (j_preV hV hH hnl rfl) rfl rfl hl.1 rfl (lv_room (Nat.le_of_ble_eq_true rfl)) dX2_group_16 ⟨Nat.le_of_ble_eq_true rfl, Nat.le_of_ble_eq_true rfl⟩) hH (fun H locs hH => ?_)
    have hbx : ¬ 0 < nd P p1 4 := by omega
    have f1 : w (f p1) = some (t, .inr (4, [.int (iI p1), va_rf (paO P f p1), .int (iI (nd P p1 1)), .int (iI (nd P p1 2)), .int (iI (nd P p1 3))])) := (hT p1 (by omega) (by omega)).2 hbx
    refine j_castS hx hb hts hown hV hH f1 rfl q376 dX2_group_19 ?_
    exact hret (some (f p1)) () hH dX2_group_22 (Nat.le_of_ble_eq_true rfl) (Nat.le_of_ble_eq_true rfl) (by first | (rw [if_pos (by omega)]; done) | (rw [if_neg (by omega)]; done))
  · refine lv_null hx hb dX2_group_7 ?_
    refine lv_goto (tgt := 22) hx hb dX2_group_8 (by decide) ?_
    exact hret none () hH dX2_group_22 (Nat.le_of_ble_eq_true rfl) (Nat.le_of_ble_eq_true rfl) (by first | (rw [if_pos (by omega)]; done) | (rw [if_neg (by omega)]; done))
