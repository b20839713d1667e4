/-! THE REFERENCE's METHODS: the digest -/
set_option maxRecDepth 100000
theorem su_su (st : Ms) (k : Nat) (z a b : Int) : su (su st k z a) k z b = su st k z b := by
  funext k' j
  by_cases h : k' = k
  · subst h; rw [su_u, su_u, su_u, upz_u]
  · rw [su_k h, su_k h, su_k h]
theorem su_self (st : Ms) (k : Nat) (z : Int) : su st k z (st k z) = st := by
  funext k' j
  by_cases h : k' = k
  · subst h; rw [su_u, upz_self]
  · rw [su_k h]
/-- values mixed into a digest -/
def fdF (g : Int → Int) (h : Int) : Nat → Int
  | 0 => h
  | k + 1 => 31 * fdF g h k + g (k : Int)
theorem fdF_s {g : Int → Int} {h k x v : Int} (hx : x = k + 1) (h0 : 0 ≤ k) (hv : v = 31 * fdF g h k.toNat + g k) : v = fdF g h x.toNat := by
  rw [hx, show (k + 1).toNat = k.toNat + 1 by omega, fdF, show ((k.toNat : Nat) : Int) = k by omega]
  exact hv
noncomputable def fdN (P : Int → Int) (h : Int) : Nat → Int
  | 0 => h
  | k + 1 => fdF (nodV P (k : Int)) (fdN P h k) 16
noncomputable def fdP (P : Int → Int) (h : Int) : Nat → Int
  | 0 => h
  | k + 1 => 31 * (31 * fdP P h k + shadO P True ((k : Int) % P 0) ((k : Int) / P 0)) + shadO P False ((k : Int) % P 0) ((k : Int) / P 0)
noncomputable def thgO (P : Int → Int) (h : Int) : Int := fdF (titV P) (fdF (fun k => scnV P (k / 4) (k % 4)) (fdN P h (P 2).toNat) (4 * P 3).toNat) 7
noncomputable def dgO (P : Int → Int) (c n : Int) : Int := fdP P (thgO P (fdF (whoV P) (31 * (31 * 18767 + c) + n) 16)) (P 0 * P 1).toNat
theorem chiO_b {T : Int} {P : Int → Int} (h : PWF T P) (n : Int) : 0 ≤ chiO P n ∧ chiO P n ≤ 20 := by
  have hA := h.A
  have := chiF_b P n (P 2).toNat
  unfold chiO
  omega
theorem boxV_r {T : Int} {P : Int → Int} (h : PWF T P) {n what : Int} (h0 : 0 ≤ n) (h1 : n < P 2) : -7000 ≤ boxV P n what ∧ boxV P n what ≤ 7000 := by
  have hN := h.N h0 h1
  have hok : okN P n := Or.inr ⟨h0, h1⟩
  have hr := rawO_b h hok
  have hs := shO_b h hok
  have hc := colN_b h hok (what = 14)
  unfold boxV
  repeat' split
  all_goals omega
theorem nodV_r {T : Int} {P : Int → Int} (h : PWF T P) {n what : Int} (h0 : 0 ≤ n) (h1 : n < P 2) : -7000 ≤ nodV P n what ∧ nodV P n what ≤ 7000 := by
  have hA := h.A
  have hN := h.N h0 h1
  have hok : okN P n := Or.inr ⟨h0, h1⟩
  have s1 := sumO_b h (k := 1) (by omega) hok
  have s2 := sumO_b h (k := 2) (by omega) hok
  have s3 := sumO_b h (k := 3) (by omega) hok
  have hd := depO_b h n
  have hc := chiO_b h n
  have hb := boxV_r h (what := what) h0 h1
  unfold nodV
  repeat' split
  all_goals omega
theorem scnV_r {T : Int} {P : Int → Int} (h : PWF T P) {n what : Int} (h0 : 0 ≤ n) (h1 : n < P 3) (hw : 0 ≤ what ∧ what ≤ 3) : -7000 ≤ scnV P n what ∧ scnV P n what ≤ 7000 := by
  have hS := h.S h0 h1
  have hb := begO_b h (s := n) h0 (by omega)
  unfold scnV
  split
  · omega
  · rcases (by omega : what = 0 ∨ what = 1 ∨ what = 2) with q | q | q <;> rw [q] <;> omega
theorem titV_r {T : Int} {P : Int → Int} (h : PWF T P) {what : Int} (hw : 0 ≤ what) : -7000 ≤ titV P what ∧ titV P what ≤ 7000 := by
  have hC := h.C
  have ht := trO_b h
  unfold titV
  split
  · omega
  · rename_i hn
    by_cases h2 : what ≤ 2
    · repeat' split
      all_goals omega
    · have h3 := ht.resolve_left (fun q => hn (Or.inr ⟨by omega, q⟩))
      have hc := colO_b (left := what = 5) (A := 199) (x := P 11) (d := tsO P) (by omega) (by omega)
      repeat' split
      all_goals omega
theorem whoV_r {T : Int} {P : Int → Int} (h : PWF T P) (hT : T ≤ 1000000000) {what : Int} (hw : 0 ≤ what ∧ what ≤ 15) : -1000000000 ≤ whoV P what ∧ whoV P what ≤ 1000000000 := by
  have hA := h.A
  have hB := h.B
  have hc := cntO_b h
  have hn := nowO_b h
  have hp := pctO_b P (P 5) (P 6)
  have m1 : 0 ≤ mlO P ∧ mlO P ≤ 20 := mskO_b h True
  have m2 : 0 ≤ mrO P ∧ mrO P ≤ 20 := mskO_b h False
  by_cases h2 : what ≤ 11
  · unfold whoV
    repeat' split
    all_goals omega
  · rw [whoV_c (by omega)]
    rcases (by omega : what = 12 ∨ what = 13 ∨ what = 14 ∨ what = 15) with q | q | q | q <;> rw [q]
    · exact ⟨by have : P (12 - 5) = P 7 := rfl; omega, by have : P (12 - 5) = P 7 := rfl; omega⟩
    · exact ⟨by have : P (13 - 5) = P 8 := rfl; omega, by have : P (13 - 5) = P 8 := rfl; omega⟩
    · exact ⟨by have : P (14 - 5) = P 9 := rfl; omega, by have : P (14 - 5) = P 9 := rfl; omega⟩
    · exact ⟨by have : P (15 - 5) = P 10 := rfl; omega, by have : P (15 - 5) = P 10 := rfl; omega⟩
theorem cw_X3_mix {R : Room} {s : State} {args : Array Value} {own : String} {index lev mc ms : Nat} (hts : ∀ w ∈ lw_all, w.before args s = true) (hl : Cond.methodLink own index yX3_mix ∈ lw_all) (hR1 : (rmL lev mc ms).frames + 1 ≤ R.frames) (hR2 : 8 + (3 + 11) + (rmL lev mc ms).locals ≤ R.locals) : CallW R s args own RX3 index yX3_mix cX3_mix 3 none (ws_ yX3_mix cX3_mix 3 none) (rmL lev mc ms) mc ms 1 :=
  cwV 1 hts (lw_V hl q2709 qs105 q116 q2710) rfl rfl rfl (by decide +kernel) ⟨hR1, hR2⟩
set_option maxHeartbeats 4000000 in
theorem m_X3_mix {E : jE} (l : Launch) (o : Nat) (st : Ms) (w0 : Wl) (v : Int) : Met l yX3_mix (ws_ yX3_mix cX3_mix 3 none) (rmL 1 0 0) (va_Pc [.ref o, .long (lL v)] (jP E (wM E o st w0))) (jQv E (fun u : Ms => wM E o u w0) (fun u => u = su (st) 23 0 (31 * st 23 0 + v))) 0 0 (jA E) := by
  refine j_metV (by decide) (Nat.le_of_ble_eq_true rfl) ?_
  intro p e s m args below meth c Q hx hb hml hown hnm hts hV hH hret ls hl
  have hl : lv_has ls 3 [(0, .ref o), (1, .long (lL v))] := hl
  refine lv_aload_n hx hb dX3_mix_0 rfl (lv_at hl 0 rfl) ?_
  refine j_ldc2 (z := 31) hx hb hts hown q2711 dX3_mix_1 (by decide +kernel) ?_
  refine lv_aload_n hx hb dX3_mix_4 rfl (lv_at hl 0 rfl) ?_
  refine j_get hx hb hts hown hV hH wM_o rfl in_X3 23 (Nat.le_of_ble_eq_true rfl) q2252 (fun _ h => h) rfl dX3_mix_5 ?_
  refine j_lmul hx hb dX3_mix_8 ?_
  refine lv_lload_n hx hb dX3_mix_9 rfl (lv_at hl 1 rfl) ?_
  refine j_ladd hx hb dX3_mix_10 ?_
  refine j_put hx hb hts hown hV hH wM_o rfl in_X3 tyX3 tyX3_ok nmX3 23 (Nat.le_of_ble_eq_true rfl) q2252 (fun _ h => h) rfl rfl rfl (Nat.le_of_ble_eq_true rfl) dX3_mix_11 (fun H locs hH => ?_)
  rw [wM_f23] at hH
  exact hret (su st 23 0 ((31 * (st 23 0)) + v)) hH dX3_mix_14 (Nat.le_of_ble_eq_true rfl) (Nat.le_of_ble_eq_true rfl) rfl
theorem cw_X3_mixThings {R : Room} {s : State} {args : Array Value} {own : String} {index lev mc ms : Nat} (hts : ∀ w ∈ lw_all, w.before args s = true) (hl : Cond.methodLink own index yX3_mixThings ∈ lw_all) (hR1 : (rmL lev mc ms).frames + 1 ≤ R.frames) (hR2 : 8 + (3 + 11) + (rmL lev mc ms).locals ≤ R.locals) : CallW R s args own RX3 index yX3_mixThings cX3_mixThings 3 none (ws_ yX3_mixThings cX3_mixThings 3 none) (rmL lev mc ms) mc ms 0 :=
  cwV 0 hts (lw_V hl q2714 qs106 q116 q2715) rfl rfl rfl (by decide +kernel) ⟨hR1, hR2⟩
set_option maxHeartbeats 4000000 in
theorem m_X3_mixThings {E : jE} (l : Launch) (o : Nat) (st : Ms) (w0 : Wl) (T : Int) (h1 : PWF T (st 0)) (h2 : SVC st) : Met l yX3_mixThings (ws_ yX3_mixThings cX3_mixThings 3 none) (rmL 6 0 0) (va_Pc [.ref o] (jP E (wM E o st w0))) (jQv E (fun u : Ms => wM E o u w0) (fun u => u = su (st) 23 0 (thgO (st 0) (st 23 0)))) 0 0 (jA E) := by
  refine j_metV (by decide) (Nat.le_of_ble_eq_true rfl) ?_
  intro p e s m args below meth c Q hx hb hml hown hnm hts hV hH hret ls hl
  have hl : lv_has ls 3 [(0, .ref o)] := hl
  have hA := h1.A
  refine j_iconst hx hb dX3_mixThings_0 ?_
  refine j_istore_n (lv' := fun x1 => [(1, .int (iI x1)), (0, .ref o)]) hx hb dX3_mixThings_1 rfl hl (by decide) (fun _ => rfl) (fun x1 ex1 ls hl => ?_)
  have L2 : ∀ (n_ : Nat), ∀ (n : Int) (hh : Int) (hm_ : st 0 2 - n < (n_ : Int)) (i1 : 0 ≤ n) (i2 : n ≤ st 0 2) (i3 : hh = fdN (st 0) (st 23 0) n.toNat) (H : Heap) (locs : List Loc), jH E s.heap (wM E o (su st 23 0 hh) w0) H locs → ∀ ls : Array Slot, lv_has ls 3 [(0, .ref o), (1, .int (iI n))] → W p l e (rmL 6 0 0) s m args below meth c H locs 0 0 Q (F0 m 2 ls []) := by
    intro n_
    induction n_ with
    | zero =>
      intro n hh hm_ i1 i2 i3 H locs hH ls hl
      exact absurd hm_ (by omega)
    | succ n_ ih_2 =>
      intro n hh hm_ i1 i2 i3 H locs hH ls hl
      refine lv_iload_n hx hb dX3_mixThings_2 rfl (lv_at hl 1 rfl) ?_
      refine lv_aload_n hx hb dX3_mixThings_3 rfl (lv_at hl 0 rfl) ?_
      refine j_get hx hb hts hown hV hH wM_o rfl in_X3 0 (Nat.le_of_ble_eq_true rfl) q2229 (fun _ h => h) rfl dX3_mixThings_4 ?_
      refine j_iconst hx hb dX3_mixThings_7 ?_
      refine j_iald (n := 198) hx hb hV hH wM_0 (by omega) (by omega) dX3_mixThings_8 ?_
      refine j_top (b := st 0 2) (rfl) ?_
      refine j_icmp_ge (tgt := 43) hx hb dX3_mixThings_9 (by decide) (by omega) (by omega) (fun c9 => ?_) (fun c9 => ?_)
      · refine j_iconst hx hb dX3_mixThings_43 ?_
        refine j_istore_n (lv' := fun x2 => [(1, .int (iI x2)), (0, .ref o)]) hx hb dX3_mixThings_44 rfl hl (by decide) (fun _ => rfl) (fun x2 ex2 ls hl => ?_)
        have L45 : ∀ (n_ : Nat), ∀ (k : Int) (g3 : Int) (hm_ : 4 * st 0 3 - k < (n_ : Int)) (k1 : 0 ≤ k) (k2 : k ≤ 4 * st 0 3) (k3 : g3 = fdF (fun k => scnV (st 0) (k / 4) (k % 4)) (fdN (st 0) (st 23 0) (st 0 2).toNat) k.toNat) (H : Heap) (locs : List Loc), jH E s.heap (wM E o (su st 23 0 g3) w0) H locs → ∀ ls : Array Slot, lv_has ls 3 [(0, .ref o), (1, .int (iI k))] → W p l e (rmL 6 0 0) s m args below meth c H locs 0 0 Q (F0 m 45 ls []) := by
          intro n_
          induction n_ with
          | zero =>
            intro k g3 hm_ k1 k2 k3 H locs hH ls hl
            exact absurd hm_ (by omega)
          | succ n_ ih_45 =>
            intro k g3 hm_ k1 k2 k3 H locs hH ls hl
            refine lv_iload_n hx hb dX3_mixThings_45 rfl (lv_at hl 1 rfl) ?_
            refine j_iconst hx hb dX3_mixThings_46 ?_
            refine lv_aload_n hx hb dX3_mixThings_47 rfl (lv_at hl 0 rfl) ?_
            refine j_get hx hb hts hown hV hH wM_o rfl in_X3 0 (Nat.le_of_ble_eq_true rfl) q2229 (fun _ h => h) rfl dX3_mixThings_48 ?_
            refine j_iconst hx hb dX3_mixThings_51 ?_
            refine j_iald (n := 198) hx hb hV hH wM_0 (by omega) (by omega) dX3_mixThings_52 ?_
            refine j_top (b := st 0 3) (rfl) ?_
            refine j_imul hx hb dX3_mixThings_53 ?_
            refine j_icmp_ge (tgt := 78) hx hb dX3_mixThings_54 (by decide) (by omega) (by omega) (fun c54 => ?_) (fun c54 => ?_)
            · refine j_iconst hx hb dX3_mixThings_78 ?_
              refine j_istore_n (lv' := fun x3 => [(1, .int (iI x3)), (0, .ref o)]) hx hb dX3_mixThings_79 rfl hl (by decide) (fun _ => rfl) (fun x3 ex3 ls hl => ?_)
              have L80 : ∀ (n_ : Nat), ∀ (t : Int) (g4 : Int) (hm_ : 7 - t < (n_ : Int)) (l1 : 0 ≤ t ∧ t ≤ 7) (l3 : g4 = fdF (titV (st 0)) (fdF (fun k => scnV (st 0) (k / 4) (k % 4)) (fdN (st 0) (st 23 0) (st 0 2).toNat) (4 * st 0 3).toNat) t.toNat) (H : Heap) (locs : List Loc), jH E s.heap (wM E o (su st 23 0 g4) w0) H locs → ∀ ls : Array Slot, lv_has ls 3 [(0, .ref o), (1, .int (iI t))] → W p l e (rmL 6 0 0) s m args below meth c H locs 0 0 Q (F0 m 80 ls []) := by
                intro n_
                induction n_ with
                | zero =>
                  intro t g4 hm_ l1 l3 H locs hH ls hl
                  exact absurd hm_ (by omega)
                | succ n_ ih_80 =>
                  intro t g4 hm_ l1 l3 H locs hH ls hl
                  have htr := titV_r h1 (what := t) l1.1
                  refine lv_iload_n hx hb dX3_mixThings_80 rfl (lv_at hl 1 rfl) ?_
                  refine j_bipush hx hb dX3_mixThings_81 (by decide) ?_
                  refine j_icmp_ge (tgt := 102) hx hb dX3_mixThings_83 (by decide) (by omega) (by omega) (fun c83 => ?_) (fun c83 => ?_)
                  · exact hret (su st 23 0 g4) hH dX3_mixThings_102 (Nat.le_of_ble_eq_true rfl) (Nat.le_of_ble_eq_true rfl) ((by rw [l3, show t.toNat = 7 by omega]; rfl))
                  · refine lv_aload_n hx hb dX3_mixThings_86 rfl (lv_at hl 0 rfl) ?_
                    refine lv_aload_n hx hb dX3_mixThings_87 rfl (lv_at hl 0 rfl) ?_
                    refine lv_iload_n hx hb dX3_mixThings_88 rfl (lv_at hl 1 rfl) ?_
                    refine j_callif (va_runV (As := [.int (iI t)]) (rest := [.ref o]) ⟨hx, hb, hml, hown, hts⟩ (m_X3_titleOf l o (su st 23 0 g4) w0 _ t (h1) (h2) (by omega)) (cw_X3_titleOf hts q2560 (Nat.le_of_ble_eq_true rfl) (Nat.le_of_ble_eq_true rfl)) (j_preV hV hH wM_o rfl) rfl rfl hl.1 rfl (lv_room (Nat.le_of_ble_eq_true rfl)) dX3_mixThings_89 ⟨Nat.le_of_ble_eq_true rfl, Nat.le_of_ble_eq_true rfl⟩) hH (fun H locs hH => ?_)
                    refine j_top (b := titV (st 0) t) rfl ?_
                    refine j_i2l hx hb dX3_mixThings_92 (by omega) ?_
                    refine j_callvf (va_runV (As := [.long (lL (titV (st 0) t))]) (rest := []) ⟨hx, hb, hml, hown, hts⟩ (m_X3_mix l o (su st 23 0 g4) w0 (titV (st 0) t)) (cw_X3_mix hts q2707 (Nat.le_of_ble_eq_true rfl) (Nat.le_of_ble_eq_true rfl)) (j_preV hV hH wM_o rfl) rfl rfl hl.1 rfl (lv_room (Nat.le_of_ble_eq_true rfl)) dX3_mixThings_93 ⟨Nat.le_of_ble_eq_true rfl, Nat.le_of_ble_eq_true rfl⟩) hH (fun H locs hH => ?_)
                    have hH : jH E s.heap (wM E o (su ((su st 23 0 g4)) 23 0 (31 * g4 + (titV (st 0) t))) w0) H locs := hH
                    refine j_iinc (k := 1) (lv' := fun x4 => [(1, .int (iI x4)), (0, .ref o)]) hx hb dX3_mixThings_96 hl rfl (by decide) (fun _ => rfl) (fun x4 ex4 ls hl => ?_)
                    refine lv_goto (tgt := 80) hx hb dX3_mixThings_99 (by decide) ?_
                    rw [su_su] at hH
                    exact ih_80 x4 (31 * g4 + (titV (st 0) t)) (by omega) (by first | assumption | omega) (fdF_s ex4 l1.1 (by rw [← l3])) _ _ hH ls (lv_sub hl [1, 0] rfl)
              exact L80 ((7 - x3).toNat + 1) x3 g3 (by omega) (by first | assumption | omega) (by rw [ex3, k3, show k = 4 * st 0 3 by omega]; rfl) _ _ hH ls (lv_sub hl [1, 0] rfl)
            · have hsr := scnV_r h1 (n := k / 4) (what := k % 4) (by omega) (by omega) (by omega)
              refine lv_aload_n hx hb dX3_mixThings_57 rfl (lv_at hl 0 rfl) ?_
              refine lv_aload_n hx hb dX3_mixThings_58 rfl (lv_at hl 0 rfl) ?_
              refine lv_iload_n hx hb dX3_mixThings_59 rfl (lv_at hl 1 rfl) ?_
              refine j_iconst hx hb dX3_mixThings_60 ?_
              refine j_idiv hx hb dX3_mixThings_61 (by omega) (by omega) ?_
              refine lv_iload_n hx hb dX3_mixThings_62 rfl (lv_at hl 1 rfl) ?_
              refine j_iconst hx hb dX3_mixThings_63 ?_
              refine j_irem hx hb dX3_mixThings_64 (by omega) (by omega) ?_
              refine j_callif (va_runV (As := [.int (iI (k / 4)), .int (iI (k % 4))]) (rest := [.ref o]) ⟨hx, hb, hml, hown, hts⟩ (m_X3_sceneOf l o (su st 23 0 g3) w0 _ (k / 4) (k % 4) (h1) (by omega) (show (k / 4) < st 0 3 by omega) (by omega)) (cw_X3_sceneOf hts q2552 (Nat.le_of_ble_eq_true rfl) (Nat.le_of_ble_eq_true rfl)) (j_preV hV hH wM_o rfl) rfl rfl hl.1 rfl (lv_room (Nat.le_of_ble_eq_true rfl)) dX3_mixThings_65 ⟨Nat.le_of_ble_eq_true rfl, Nat.le_of_ble_eq_true rfl⟩) hH (fun H locs hH => ?_)
              refine j_top (b := scnV (st 0) (k / 4) (k % 4)) rfl ?_
              refine j_i2l hx hb dX3_mixThings_68 (by omega) ?_
              refine j_callvf (va_runV (As := [.long (lL (scnV (st 0) (k / 4) (k % 4)))]) (rest := []) ⟨hx, hb, hml, hown, hts⟩ (m_X3_mix l o (su st 23 0 g3) w0 (scnV (st 0) (k / 4) (k % 4))) (cw_X3_mix hts q2707 (Nat.le_of_ble_eq_true rfl) (Nat.le_of_ble_eq_true rfl)) (j_preV hV hH wM_o rfl) rfl rfl hl.1 rfl (lv_room (Nat.le_of_ble_eq_true rfl)) dX3_mixThings_69 ⟨Nat.le_of_ble_eq_true rfl, Nat.le_of_ble_eq_true rfl⟩) hH (fun H locs hH => ?_)
              have hH : jH E s.heap (wM E o (su ((su st 23 0 g3)) 23 0 (31 * g3 + (scnV (st 0) (k / 4) (k % 4)))) w0) H locs := hH
              refine j_iinc (k := 1) (lv' := fun x5 => [(1, .int (iI x5)), (0, .ref o)]) hx hb dX3_mixThings_72 hl rfl (by decide) (fun _ => rfl) (fun x5 ex5 ls hl => ?_)
              refine lv_goto (tgt := 45) hx hb dX3_mixThings_75 (by decide) ?_
              rw [su_su] at hH
              exact ih_45 x5 (31 * g3 + (scnV (st 0) (k / 4) (k % 4))) (by omega) (by first | assumption | omega) (by first | assumption | omega) (fdF_s ex5 k1 (by rw [← k3])) _ _ hH ls (lv_sub hl [1, 0] rfl)
        exact L45 ((4 * st 0 3 - x2).toNat + 1) x2 hh (by omega) (by first | assumption | omega) (by first | assumption | omega) (by rw [ex2, i3, show n = st 0 2 by omega]; rfl) _ _ hH ls (lv_sub hl [1, 0] rfl)
      · refine j_iconst hx hb dX3_mixThings_12 ?_
        refine j_istore_n (lv' := fun x6 => [(2, .int (iI x6)), (0, .ref o), (1, .int (iI n))]) hx hb dX3_mixThings_13 rfl hl (by decide) (fun _ => rfl) (fun x6 ex6 ls hl => ?_)
        have L14 : ∀ (n_ : Nat), ∀ (w : Int) (g2 : Int) (hm_ : 16 - w < (n_ : Int)) (j1 : 0 ≤ w ∧ w ≤ 16) (j3 : g2 = fdF (nodV (st 0) n) hh w.toNat) (H : Heap) (locs : List Loc), jH E s.heap (wM E o (su st 23 0 g2) w0) H locs → ∀ ls : Array Slot, lv_has ls 3 [(0, .ref o), (1, .int (iI n)), (2, .int (iI w))] → W p l e (rmL 6 0 0) s m args below meth c H locs 0 0 Q (F0 m 14 ls []) := by
          intro n_
          induction n_ with
          | zero =>
            intro w g2 hm_ j1 j3 H locs hH ls hl
            exact absurd hm_ (by omega)
          | succ n_ ih_14 =>
            intro w g2 hm_ j1 j3 H locs hH ls hl
            have hnr := nodV_r h1 (what := w) i1 c9
            refine lv_iload_n hx hb dX3_mixThings_14 rfl (lv_at hl 2 rfl) ?_
            refine j_bipush hx hb dX3_mixThings_15 (by decide) ?_
            refine j_icmp_ge (tgt := 37) hx hb dX3_mixThings_17 (by decide) (by omega) (by omega) (fun c17 => ?_) (fun c17 => ?_)
            · refine j_iinc (k := 1) (lv' := fun x7 => [(1, .int (iI x7)), (0, .ref o), (2, .int (iI w))]) hx hb dX3_mixThings_37 hl rfl (by decide) (fun _ => rfl) (fun x7 ex7 ls hl => ?_)
              refine lv_goto (tgt := 2) hx hb dX3_mixThings_40 (by decide) ?_
              exact ih_2 x7 g2 (by omega) (by first | assumption | omega) (by first | assumption | omega) (by rw [j3, ex7, show (n + 1).toNat = n.toNat + 1 by omega, fdN, show ((n.toNat : Nat) : Int) = n by omega, ← i3, show w.toNat = 16 by omega]) _ _ hH ls (lv_sub hl [1, 0] rfl)
            · refine lv_aload_n hx hb dX3_mixThings_20 rfl (lv_at hl 0 rfl) ?_
              refine lv_aload_n hx hb dX3_mixThings_21 rfl (lv_at hl 0 rfl) ?_
              refine lv_iload_n hx hb dX3_mixThings_22 rfl (lv_at hl 1 rfl) ?_
              refine lv_iload_n hx hb dX3_mixThings_23 rfl (lv_at hl 2 rfl) ?_
              refine j_callif (va_runV (As := [.int (iI n), .int (iI w)]) (rest := [.ref o]) ⟨hx, hb, hml, hown, hts⟩ (m_X3_nodeOf l o (su st 23 0 g2) w0 _ n w (h1) (h2) (by omega) (show n < st 0 2 by omega) (by omega)) (cw_X3_nodeOf hts q2532 (Nat.le_of_ble_eq_true rfl) (Nat.le_of_ble_eq_true rfl)) (j_preV hV hH wM_o rfl) rfl rfl hl.1 rfl (lv_room (Nat.le_of_ble_eq_true rfl)) dX3_mixThings_24 ⟨Nat.le_of_ble_eq_true rfl, Nat.le_of_ble_eq_true rfl⟩) hH (fun H locs hH => ?_)
              refine j_top (b := nodV (st 0) n w) rfl ?_
              refine j_i2l hx hb dX3_mixThings_27 (by omega) ?_
              refine j_callvf (va_runV (As := [.long (lL (nodV (st 0) n w))]) (rest := []) ⟨hx, hb, hml, hown, hts⟩ (m_X3_mix l o (su st 23 0 g2) w0 (nodV (st 0) n w)) (cw_X3_mix hts q2707 (Nat.le_of_ble_eq_true rfl) (Nat.le_of_ble_eq_true rfl)) (j_preV hV hH wM_o rfl) rfl rfl hl.1 rfl (lv_room (Nat.le_of_ble_eq_true rfl)) dX3_mixThings_28 ⟨Nat.le_of_ble_eq_true rfl, Nat.le_of_ble_eq_true rfl⟩) hH (fun H locs hH => ?_)
              have hH : jH E s.heap (wM E o (su ((su st 23 0 g2)) 23 0 (31 * g2 + (nodV (st 0) n w))) w0) H locs := hH
              refine j_iinc (k := 2) (lv' := fun x8 => [(2, .int (iI x8)), (0, .ref o), (1, .int (iI n))]) hx hb dX3_mixThings_31 hl rfl (by decide) (fun _ => rfl) (fun x8 ex8 ls hl => ?_)
              refine lv_goto (tgt := 14) hx hb dX3_mixThings_34 (by decide) ?_
              rw [su_su] at hH
              exact ih_14 x8 (31 * g2 + (nodV (st 0) n w)) (by omega) (by first | assumption | omega) (fdF_s ex8 j1.1 (by rw [← j3])) _ _ hH ls (lv_sub hl [1, 2, 0] rfl)
        exact L14 ((16 - x6).toNat + 1) x6 hh (by omega) (by first | assumption | omega) (by rw [ex6]; rfl) _ _ hH ls (lv_sub hl [1, 2, 0] rfl)
  have hH : jH E s.heap (wM E o (su st 23 0 (st 23 0)) w0) s.heap [] := by rw [su_self]; exact hH
  exact L2 ((st 0 2 - x1).toNat + 1) x1 (st 23 0) (by omega) (by first | assumption | omega) (by first | assumption | omega) (by rw [ex1]; rfl) _ _ hH ls (lv_sub hl [1, 0] rfl)
theorem cw_X3_digest {R : Room} {s : State} {args : Array Value} {own : String} {index lev mc ms : Nat} (hts : ∀ w ∈ lw_all, w.before args s = true) (hl : Cond.methodLink own index yX3_digest ∈ lw_all) (hR1 : (rmL lev mc ms).frames + 1 ≤ R.frames) (hR2 : 8 + (2 + 11) + (rmL lev mc ms).locals ≤ R.locals) : CallW R s args own RX3 index yX3_digest cX3_digest 2 (some .long) (ws_ yX3_digest cX3_digest 2 (some .long)) (rmL lev mc ms) mc ms 0 :=
  cwV 0 hts (lw_V hl q2703 q2704 q116 q2705) rfl rfl rfl (by decide +kernel) ⟨hR1, hR2⟩
set_option maxHeartbeats 4000000 in
theorem m_X3_digest {E : jE} (l : Launch) (o : Nat) (st : Ms) (w0 : Wl) (T : Int) (h1 : PWF T (st 0)) (h2 : T ≤ 1000000000) (h3 : 0 ≤ st 3 0 ∧ st 3 0 ≤ 4) (h4 : 0 ≤ st 5 0 ∧ st 5 0 ≤ 150) : Met l yX3_digest (ws_ yX3_digest cX3_digest 2 (some .long)) (rmL 8 0 0) (va_Pc [.ref o] (jP E (wM E o st w0))) (jQl E (fun u : Ms => wM E o (su (svO (su st 6 0 0) u) 23 0 (dgO (st 0) (st 3 0) (st 5 0))) w0) (fun z u => z = dgO (st 0) (st 3 0) (st 5 0))) 0 0 (jA E) := by
  refine j_metL (by decide) (Nat.le_of_ble_eq_true rfl) ?_
  intro p e s m args below meth c Q hx hb hml hown hnm hts hV hH hret ls hl
  have hl : lv_has ls 2 [(0, .ref o)] := hl
  have hA := h1.A
  have hwh := mul_b (a := st 0 0) (b := st 0 1) (A := 200) (B := 120) (by omega) (by omega)
  refine lv_aload_n hx hb dX3_digest_0 rfl (lv_at hl 0 rfl) ?_
  refine j_iconst hx hb dX3_digest_1 ?_
  refine j_put hx hb hts hown hV hH wM_o rfl in_X3 tyX3 tyX3_ok nmX3 6 (Nat.le_of_ble_eq_true rfl) q2235 (fun _ h => h) rfl rfl rfl (Nat.le_of_ble_eq_true rfl) dX3_digest_2 (fun H locs hH => ?_)
  rw [wM_f6] at hH
  refine lv_aload_n hx hb dX3_digest_5 rfl (lv_at hl 0 rfl) ?_
  refine j_callv (va_runV (As := []) (rest := []) ⟨hx, hb, hml, hown, hts⟩ (m_X3_survey l o (su st 6 0 0) w0 _ (h1)) (cw_X3_survey hts q2463 (Nat.le_of_ble_eq_true rfl) (Nat.le_of_ble_eq_true rfl)) (j_preV hV hH wM_o rfl) rfl rfl hl.1 rfl (lv_room (Nat.le_of_ble_eq_true rfl)) dX3_digest_6 ⟨Nat.le_of_ble_eq_true rfl, Nat.le_of_ble_eq_true rfl⟩) hH (fun u H locs hp hH => ?_)
  obtain ⟨u2, huu2⟩ : ∃ q, q = u := ⟨_, rfl⟩
  subst huu2
  have hH : jH E s.heap (wM E o (svO (su st 6 0 0) u2) w0) H locs := hH
  have hp6 : (fun u => SVC (svO (su st 6 0 0) u)) u2 := hp
  refine lv_aload_n hx hb dX3_digest_9 rfl (lv_at hl 0 rfl) ?_
  refine j_ldc2 (z := 18767) hx hb hts hown q2706 dX3_digest_10 (by decide +kernel) ?_
  refine j_put hx hb hts hown hV hH wM_o rfl in_X3 tyX3 tyX3_ok nmX3 23 (Nat.le_of_ble_eq_true rfl) q2252 (fun _ h => h) rfl rfl rfl (Nat.le_of_ble_eq_true rfl) dX3_digest_13 (fun H locs hH => ?_)
  rw [wM_f23] at hH
  refine lv_aload_n hx hb dX3_digest_16 rfl (lv_at hl 0 rfl) ?_
  refine lv_aload_n hx hb dX3_digest_17 rfl (lv_at hl 0 rfl) ?_
  refine j_get hx hb hts hown hV hH wM_o rfl in_X3 3 (Nat.le_of_ble_eq_true rfl) q2232 (fun _ h => h) rfl dX3_digest_18 ?_
  refine j_top (b := st 3 0) rfl ?_
  refine j_i2l hx hb dX3_digest_21 (by omega) ?_
  refine j_callvf (va_runV (As := [.long (lL (st 3 0))]) (rest := []) ⟨hx, hb, hml, hown, hts⟩ (m_X3_mix l o (su (svO (su st 6 0 0) u2) 23 0 18767) w0 (st 3 0)) (cw_X3_mix hts q2707 (Nat.le_of_ble_eq_true rfl) (Nat.le_of_ble_eq_true rfl)) (j_preV hV hH wM_o rfl) rfl rfl hl.1 rfl (lv_room (Nat.le_of_ble_eq_true rfl)) dX3_digest_22 ⟨Nat.le_of_ble_eq_true rfl, Nat.le_of_ble_eq_true rfl⟩) hH (fun H locs hH => ?_)
  refine lv_aload_n hx hb dX3_digest_25 rfl (lv_at hl 0 rfl) ?_
  refine lv_aload_n hx hb dX3_digest_26 rfl (lv_at hl 0 rfl) ?_
  refine j_get hx hb hts hown hV hH wM_o rfl in_X3 5 (Nat.le_of_ble_eq_true rfl) q2234 (fun _ h => h) rfl dX3_digest_27 ?_
  refine j_top (b := st 5 0) rfl ?_
  refine j_i2l hx hb dX3_digest_30 (by omega) ?_
  refine j_callvf (va_runV (As := [.long (lL (st 5 0))]) (rest := []) ⟨hx, hb, hml, hown, hts⟩ (m_X3_mix l o (su ((su (svO (su st 6 0 0) u2) 23 0 18767)) 23 0 (31 * (su (svO (su st 6 0 0) u2) 23 0 18767) 23 0 + (st 3 0))) w0 (st 5 0)) (cw_X3_mix hts q2707 (Nat.le_of_ble_eq_true rfl) (Nat.le_of_ble_eq_true rfl)) (j_preV hV hH wM_o rfl) rfl rfl hl.1 rfl (lv_room (Nat.le_of_ble_eq_true rfl)) dX3_digest_31 ⟨Nat.le_of_ble_eq_true rfl, Nat.le_of_ble_eq_true rfl⟩) hH (fun H locs hH => ?_)
  have hH : jH E s.heap (wM E o (su ((su ((su (svO (su st 6 0 0) u2) 23 0 18767)) 23 0 (31 * (su (svO (su st 6 0 0) u2) 23 0 18767) 23 0 + (st 3 0)))) 23 0 (31 * (31 * (su (svO (su st 6 0 0) u2) 23 0 18767) 23 0 + (st 3 0)) + (st 5 0))) w0) H locs := hH
  have hH : jH E s.heap (wM E o (su (svO (su st 6 0 0) u2) 23 0 (31 * (31 * 18767 + st 3 0) + st 5 0)) w0) H locs := by rw [su_su, su_su] at hH; exact hH
  refine j_iconst hx hb dX3_digest_34 ?_
  refine j_istore_n (lv' := fun x3 => [(1, .int (iI x3)), (0, .ref o)]) hx hb dX3_digest_35 rfl hl (by decide) (fun _ => rfl) (fun x3 ex3 ls hl => ?_)
  have L36 : ∀ (n_ : Nat), ∀ (w : Int) (hh : Int) (hm_ : 16 - w < (n_ : Int)) (i1 : 0 ≤ w ∧ w ≤ 16) (i3 : hh = fdF (whoV (st 0)) (31 * (31 * 18767 + st 3 0) + st 5 0) w.toNat) (H : Heap) (locs : List Loc), jH E s.heap (wM E o (su (svO (su st 6 0 0) u2) 23 0 hh) w0) H locs → ∀ ls : Array Slot, lv_has ls 2 [(0, .ref o), (1, .int (iI w))] → W p l e (rmL 8 0 0) s m args below meth c H locs 0 0 Q (F0 m 36 ls []) := by
    intro n_
    induction n_ with
    | zero =>
      intro w hh hm_ i1 i3 H locs hH ls hl
      exact absurd hm_ (by omega)
    | succ n_ ih_36 =>
      intro w hh hm_ i1 i3 H locs hH ls hl
      refine lv_iload_n hx hb dX3_digest_36 rfl (lv_at hl 1 rfl) ?_
      refine j_bipush hx hb dX3_digest_37 (by decide) ?_
      refine j_icmp_ge (tgt := 58) hx hb dX3_digest_39 (by decide) (by omega) (by omega) (fun c39 => ?_) (fun c39 => ?_)
      · refine lv_aload_n hx hb dX3_digest_58 rfl (lv_at hl 0 rfl) ?_
        refine j_callvf (va_runV (As := []) (rest := []) ⟨hx, hb, hml, hown, hts⟩ (m_X3_mixThings l o (su (svO (su st 6 0 0) u2) 23 0 hh) w0 _ (h1) (hp6)) (cw_X3_mixThings hts q2712 (Nat.le_of_ble_eq_true rfl) (Nat.le_of_ble_eq_true rfl)) (j_preV hV hH wM_o rfl) rfl rfl hl.1 rfl (lv_room (Nat.le_of_ble_eq_true rfl)) dX3_digest_59 ⟨Nat.le_of_ble_eq_true rfl, Nat.le_of_ble_eq_true rfl⟩) hH (fun H locs hH => ?_)
        have hH : jH E s.heap (wM E o (su ((su (svO (su st 6 0 0) u2) 23 0 hh)) 23 0 (thgO (st 0) (hh))) w0) H locs := hH
        have hH : jH E s.heap (wM E o (su (svO (su st 6 0 0) u2) 23 0 (thgO (st 0) (fdF (whoV (st 0)) (31 * (31 * 18767 + st 3 0) + st 5 0) 16))) w0) H locs := by rw [su_su, i3, show w.toNat = 16 by omega] at hH; exact hH
        refine j_iconst hx hb dX3_digest_62 ?_
        refine j_istore_n (lv' := fun x4 => [(1, .int (iI x4)), (0, .ref o)]) hx hb dX3_digest_63 rfl hl (by decide) (fun _ => rfl) (fun x4 ex4 ls hl => ?_)
        have L64 : ∀ (n_ : Nat), ∀ (k : Int) (gg : Int) (hm_ : 24000 - k < (n_ : Int)) (k1 : 0 ≤ k) (k2 : k ≤ st 0 0 * st 0 1 ∨ k = 0) (k3 : gg = fdP (st 0) (thgO (st 0) (fdF (whoV (st 0)) (31 * (31 * 18767 + st 3 0) + st 5 0) 16)) k.toNat) (H : Heap) (locs : List Loc), jH E s.heap (wM E o (su (svO (su st 6 0 0) u2) 23 0 gg) w0) H locs → ∀ ls : Array Slot, lv_has ls 2 [(0, .ref o), (1, .int (iI k))] → W p l e (rmL 8 0 0) s m args below meth c H locs 0 0 Q (F0 m 64 ls []) := by
          intro n_
          induction n_ with
          | zero =>
            intro k gg hm_ k1 k2 k3 H locs hH ls hl
            exact absurd hm_ (by omega)
          | succ n_ ih_64 =>
            intro k gg hm_ k1 k2 k3 H locs hH ls hl
            refine lv_iload_n hx hb dX3_digest_64 rfl (lv_at hl 1 rfl) ?_
            refine lv_aload_n hx hb dX3_digest_65 rfl (lv_at hl 0 rfl) ?_
            refine j_get hx hb hts hown hV hH wM_o rfl in_X3 0 (Nat.le_of_ble_eq_true rfl) q2229 (fun _ h => h) rfl dX3_digest_66 ?_
            refine j_iconst hx hb dX3_digest_69 ?_
            refine j_iald (n := 198) hx hb hV hH wM_0 (by omega) (by omega) dX3_digest_70 ?_
            refine j_top (b := st 0 0) (rfl) ?_
            refine lv_aload_n hx hb dX3_digest_71 rfl (lv_at hl 0 rfl) ?_
            refine j_get hx hb hts hown hV hH wM_o rfl in_X3 0 (Nat.le_of_ble_eq_true rfl) q2229 (fun _ h => h) rfl dX3_digest_72 ?_
            refine j_iconst hx hb dX3_digest_75 ?_
            refine j_iald (n := 198) hx hb hV hH wM_0 (by omega) (by omega) dX3_digest_76 ?_
            refine j_top (b := st 0 1) (rfl) ?_
            refine j_imul hx hb dX3_digest_77 ?_
            refine j_icmp_ge (tgt := 139) hx hb dX3_digest_78 (by decide) (by omega) (by omega) (fun c78 => ?_) (fun c78 => ?_)
            · have hgd : gg = dgO (st 0) (st 3 0) (st 5 0) := by rw [k3]; unfold dgO; rw [show k.toNat = (st 0 0 * st 0 1).toNat by omega]
              have hH : jH E s.heap (wM E o (su (svO (su st 6 0 0) u2) 23 0 (dgO (st 0) (st 3 0) (st 5 0))) w0) H locs := by rw [← hgd]; exact hH
              refine lv_aload_n hx hb dX3_digest_139 rfl (lv_at hl 0 rfl) ?_
              refine j_get hx hb hts hown hV hH wM_o rfl in_X3 23 (Nat.le_of_ble_eq_true rfl) q2252 (fun _ h => h) rfl dX3_digest_140 ?_
              refine j_topl (b := (dgO (st 0) (st 3 0) (st 5 0))) rfl ?_
              exact hret u2 hH dX3_digest_143 (Nat.le_of_ble_eq_true rfl) (Nat.le_of_ble_eq_true rfl) (rfl)
            · have hdv := div_lt' (a := st 0 0) (by omega) k1 c78
              have hsT := shadO_b h1 True (k % st 0 0) (k / st 0 0)
              have hsF := shadO_b h1 False (k % st 0 0) (k / st 0 0)
              refine lv_aload_n hx hb dX3_digest_81 rfl (lv_at hl 0 rfl) ?_
              refine lv_aload_n hx hb dX3_digest_82 rfl (lv_at hl 0 rfl) ?_
              refine j_iconst hx hb dX3_digest_83 ?_
              refine lv_iload_n hx hb dX3_digest_84 rfl (lv_at hl 1 rfl) ?_
              refine lv_aload_n hx hb dX3_digest_85 rfl (lv_at hl 0 rfl) ?_
              refine j_get hx hb hts hown hV hH wM_o rfl in_X3 0 (Nat.le_of_ble_eq_true rfl) q2229 (fun _ h => h) rfl dX3_digest_86 ?_
              refine j_iconst hx hb dX3_digest_89 ?_
              refine j_iald (n := 198) hx hb hV hH wM_0 (by omega) (by omega) dX3_digest_90 ?_
              refine j_top (b := st 0 0) (rfl) ?_
              refine j_irem hx hb dX3_digest_91 (by omega) (by omega) ?_
              refine lv_iload_n hx hb dX3_digest_92 rfl (lv_at hl 1 rfl) ?_
              refine lv_aload_n hx hb dX3_digest_93 rfl (lv_at hl 0 rfl) ?_
              refine j_get hx hb hts hown hV hH wM_o rfl in_X3 0 (Nat.le_of_ble_eq_true rfl) q2229 (fun _ h => h) rfl dX3_digest_94 ?_
              refine j_iconst hx hb dX3_digest_97 ?_
              refine j_iald (n := 198) hx hb hV hH wM_0 (by omega) (by omega) dX3_digest_98 ?_
              refine j_top (b := st 0 0) (rfl) ?_
              refine j_idiv hx hb dX3_digest_99 (by omega) (by omega) ?_
              refine j_callif (va_runV (As := [.int (iI (bI True)), .int (iI (k % (st 0 0))), .int (iI (k / (st 0 0)))]) (rest := [.ref o]) ⟨hx, hb, hml, hown, hts⟩ (m_X3_shadeOf l o (su (svO (su st 6 0 0) u2) 23 0 gg) w0 _ True (k % (st 0 0)) (k / (st 0 0)) (h1) (hp6) (by omega) (by omega)) (cw_X3_shadeOf hts q2580 (Nat.le_of_ble_eq_true rfl) (Nat.le_of_ble_eq_true rfl)) (j_preV hV hH wM_o rfl) rfl rfl hl.1 (by simp only [bI_T, bI_F]; rfl) (lv_room (Nat.le_of_ble_eq_true rfl)) dX3_digest_100 ⟨Nat.le_of_ble_eq_true rfl, Nat.le_of_ble_eq_true rfl⟩) hH (fun H locs hH => ?_)
              refine j_top (b := shadO (st 0) True (k % (st 0 0)) (k / (st 0 0))) rfl ?_
              refine j_i2l hx hb dX3_digest_103 (by omega) ?_
              refine j_callvf (va_runV (As := [.long (lL (shadO (st 0) True (k % (st 0 0)) (k / (st 0 0))))]) (rest := []) ⟨hx, hb, hml, hown, hts⟩ (m_X3_mix l o (su (svO (su st 6 0 0) u2) 23 0 gg) w0 (shadO (st 0) True (k % (st 0 0)) (k / (st 0 0)))) (cw_X3_mix hts q2707 (Nat.le_of_ble_eq_true rfl) (Nat.le_of_ble_eq_true rfl)) (j_preV hV hH wM_o rfl) rfl rfl hl.1 rfl (lv_room (Nat.le_of_ble_eq_true rfl)) dX3_digest_104 ⟨Nat.le_of_ble_eq_true rfl, Nat.le_of_ble_eq_true rfl⟩) hH (fun H locs hH => ?_)
              have hH : jH E s.heap (wM E o (su ((su (svO (su st 6 0 0) u2) 23 0 gg)) 23 0 (31 * gg + (shadO (st 0) True (k % (st 0 0)) (k / (st 0 0))))) w0) H locs := hH
              refine lv_aload_n hx hb dX3_digest_107 rfl (lv_at hl 0 rfl) ?_
              refine lv_aload_n hx hb dX3_digest_108 rfl (lv_at hl 0 rfl) ?_
              refine j_iconst hx hb dX3_digest_109 ?_
              refine lv_iload_n hx hb dX3_digest_110 rfl (lv_at hl 1 rfl) ?_
              refine lv_aload_n hx hb dX3_digest_111 rfl (lv_at hl 0 rfl) ?_
              refine j_get hx hb hts hown hV hH wM_o rfl in_X3 0 (Nat.le_of_ble_eq_true rfl) q2229 (fun _ h => h) rfl dX3_digest_112 ?_
              refine j_iconst hx hb dX3_digest_115 ?_
              refine j_iald (n := 198) hx hb hV hH wM_0 (by omega) (by omega) dX3_digest_116 ?_
              refine j_top (b := st 0 0) (rfl) ?_
              refine j_irem hx hb dX3_digest_117 (by omega) (by omega) ?_
              refine lv_iload_n hx hb dX3_digest_118 rfl (lv_at hl 1 rfl) ?_
              refine lv_aload_n hx hb dX3_digest_119 rfl (lv_at hl 0 rfl) ?_
              refine j_get hx hb hts hown hV hH wM_o rfl in_X3 0 (Nat.le_of_ble_eq_true rfl) q2229 (fun _ h => h) rfl dX3_digest_120 ?_
              refine j_iconst hx hb dX3_digest_123 ?_
              refine j_iald (n := 198) hx hb hV hH wM_0 (by omega) (by omega) dX3_digest_124 ?_
              refine j_top (b := st 0 0) (rfl) ?_
              refine j_idiv hx hb dX3_digest_125 (by omega) (by omega) ?_
              refine j_callif (va_runV (As := [.int (iI (bI False)), .int (iI (k % (st 0 0))), .int (iI (k / (st 0 0)))]) (rest := [.ref o]) ⟨hx, hb, hml, hown, hts⟩ (m_X3_shadeOf l o (su ((su (svO (su st 6 0 0) u2) 23 0 gg)) 23 0 (31 * gg + (shadO (st 0) True (k % (st 0 0)) (k / (st 0 0))))) w0 _ False (k % (st 0 0)) (k / (st 0 0)) (h1) (hp6) (by omega) (by omega)) (cw_X3_shadeOf hts q2580 (Nat.le_of_ble_eq_true rfl) (Nat.le_of_ble_eq_true rfl)) (j_preV hV hH wM_o rfl) rfl rfl hl.1 (by simp only [bI_T, bI_F]; rfl) (lv_room (Nat.le_of_ble_eq_true rfl)) dX3_digest_126 ⟨Nat.le_of_ble_eq_true rfl, Nat.le_of_ble_eq_true rfl⟩) hH (fun H locs hH => ?_)
              refine j_top (b := shadO (st 0) False (k % (st 0 0)) (k / (st 0 0))) rfl ?_
              refine j_i2l hx hb dX3_digest_129 (by omega) ?_
              refine j_callvf (va_runV (As := [.long (lL (shadO (st 0) False (k % (st 0 0)) (k / (st 0 0))))]) (rest := []) ⟨hx, hb, hml, hown, hts⟩ (m_X3_mix l o (su ((su (svO (su st 6 0 0) u2) 23 0 gg)) 23 0 (31 * gg + (shadO (st 0) True (k % (st 0 0)) (k / (st 0 0))))) w0 (shadO (st 0) False (k % (st 0 0)) (k / (st 0 0)))) (cw_X3_mix hts q2707 (Nat.le_of_ble_eq_true rfl) (Nat.le_of_ble_eq_true rfl)) (j_preV hV hH wM_o rfl) rfl rfl hl.1 rfl (lv_room (Nat.le_of_ble_eq_true rfl)) dX3_digest_130 ⟨Nat.le_of_ble_eq_true rfl, Nat.le_of_ble_eq_true rfl⟩) hH (fun H locs hH => ?_)
              have hH : jH E s.heap (wM E o (su ((su ((su (svO (su st 6 0 0) u2) 23 0 gg)) 23 0 (31 * gg + (shadO (st 0) True (k % (st 0 0)) (k / (st 0 0)))))) 23 0 (31 * (31 * gg + (shadO (st 0) True (k % (st 0 0)) (k / (st 0 0)))) + (shadO (st 0) False (k % (st 0 0)) (k / (st 0 0))))) w0) H locs := hH
              refine j_iinc (k := 1) (lv' := fun x5 => [(1, .int (iI x5)), (0, .ref o)]) hx hb dX3_digest_133 hl rfl (by decide) (fun _ => rfl) (fun x5 ex5 ls hl => ?_)
              refine lv_goto (tgt := 64) hx hb dX3_digest_136 (by decide) ?_
              rw [su_su, su_su] at hH
              exact ih_64 x5 (31 * (31 * gg + (shadO (st 0) True (k % (st 0 0)) (k / (st 0 0)))) + (shadO (st 0) False (k % (st 0 0)) (k / (st 0 0)))) (by omega) (by first | assumption | omega) (by omega) (by rw [ex5, show (k + 1).toNat = k.toNat + 1 by omega, fdP, show ((k.toNat : Nat) : Int) = k by omega, ← k3]) _ _ hH ls (lv_sub hl [1, 0] rfl)
        exact L64 ((24000 - x4).toNat + 1) x4 (thgO (st 0) (fdF (whoV (st 0)) (31 * (31 * 18767 + st 3 0) + st 5 0) 16)) (by omega) (by first | assumption | omega) (by omega) (by rw [ex4]; rfl) _ _ hH ls (lv_sub hl [1, 0] rfl)
      · have hwr := whoV_r h1 h2 (what := w) (by omega)
        refine lv_aload_n hx hb dX3_digest_42 rfl (lv_at hl 0 rfl) ?_
        refine lv_aload_n hx hb dX3_digest_43 rfl (lv_at hl 0 rfl) ?_
        refine lv_iload_n hx hb dX3_digest_44 rfl (lv_at hl 1 rfl) ?_
        refine j_callif (va_runV (As := [.int (iI w)]) (rest := [.ref o]) ⟨hx, hb, hml, hown, hts⟩ (m_X3_wholeOf l o (su (svO (su st 6 0 0) u2) 23 0 hh) w0 _ w (h1) (hp6) (by omega) (by omega)) (cw_X3_wholeOf hts q2568 (Nat.le_of_ble_eq_true rfl) (Nat.le_of_ble_eq_true rfl)) (j_preV hV hH wM_o rfl) rfl rfl hl.1 rfl (lv_room (Nat.le_of_ble_eq_true rfl)) dX3_digest_45 ⟨Nat.le_of_ble_eq_true rfl, Nat.le_of_ble_eq_true rfl⟩) hH (fun H locs hH => ?_)
        refine j_top (b := whoV (st 0) w) rfl ?_
        refine j_i2l hx hb dX3_digest_48 (by omega) ?_
        refine j_callvf (va_runV (As := [.long (lL (whoV (st 0) w))]) (rest := []) ⟨hx, hb, hml, hown, hts⟩ (m_X3_mix l o (su (svO (su st 6 0 0) u2) 23 0 hh) w0 (whoV (st 0) w)) (cw_X3_mix hts q2707 (Nat.le_of_ble_eq_true rfl) (Nat.le_of_ble_eq_true rfl)) (j_preV hV hH wM_o rfl) rfl rfl hl.1 rfl (lv_room (Nat.le_of_ble_eq_true rfl)) dX3_digest_49 ⟨Nat.le_of_ble_eq_true rfl, Nat.le_of_ble_eq_true rfl⟩) hH (fun H locs hH => ?_)
        have hH : jH E s.heap (wM E o (su ((su (svO (su st 6 0 0) u2) 23 0 hh)) 23 0 (31 * hh + (whoV (st 0) w))) w0) H locs := hH
        refine j_iinc (k := 1) (lv' := fun x6 => [(1, .int (iI x6)), (0, .ref o)]) hx hb dX3_digest_52 hl rfl (by decide) (fun _ => rfl) (fun x6 ex6 ls hl => ?_)
        refine lv_goto (tgt := 36) hx hb dX3_digest_55 (by decide) ?_
        rw [su_su] at hH
        exact ih_36 x6 (31 * hh + (whoV (st 0) w)) (by omega) (by first | assumption | omega) (fdF_s ex6 i1.1 (by rw [← i3])) _ _ hH ls (lv_sub hl [1, 0] rfl)
  exact L36 ((16 - x3).toNat + 1) x3 (31 * (31 * 18767 + st 3 0) + st 5 0) (by omega) (by first | assumption | omega) (by rw [ex3]; rfl) _ _ hH ls (lv_sub hl [1, 0] rfl)
