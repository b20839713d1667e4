/-! THE REFERENCE's METHODS: a node is removed -/
set_option maxRecDepth 100000
/-- how many of the first k nodes stay when x is removed -/
noncomputable def lfF (P : Int → Int) (x : Int) : Nat → Int
  | 0 => 0
  | k + 1 => pI (wiO P (k : Int) x) (lfF P x k) (lfF P x k + 1)
noncomputable def nnO (P : Int → Int) (x n : Int) : Int := pI (wiO P n x) (-1000) (lfF P x n.toNat)
def rcp (Q P : Int → Int) (d fr w : Int) : Int → Int := fun b => if d ≤ b ∧ b < d + w then P (fr + (b - d)) else Q b
noncomputable def rmF (P : Int → Int) (x : Int) : Nat → Int → Int
  | 0 => P
  | k + 1 => fun b => pI (wiO P (k : Int) x) (rmF P x k b) (upz (rcp (rmF P x k) P (14 + 8 * lfF P x k) (14 + 8 * (k : Int)) 8) (14 + 8 * lfF P x k) (if nd P (k : Int) 0 = -1000 then -1000 else nnO P x (nd P (k : Int) 0)) b)
noncomputable def remP (P : Int → Int) (x : Int) : Int → Int := upz (rmF P x (P 2).toNat) 2 (lfF P x (P 2).toNat)
theorem lfF_b (P : Int → Int) (x : Int) : ∀ k : Nat, 0 ≤ lfF P x k ∧ lfF P x k ≤ (k : Int) := by
  intro k
  induction k with
  | zero => simp [lfF]
  | succ k ih =>
    simp only [lfF]
    rcases pI_or (wiO P (k : Int) x) (lfF P x k) (lfF P x k + 1) with q | q <;> rw [q.2] <;> omega
theorem rmF_y {P : Int → Int} {x k : Int} (h0 : 0 ≤ k) (h : wiO P k x) : rmF P x (k + 1).toNat = rmF P x k.toNat := by
  rw [show (k + 1).toNat = k.toNat + 1 by omega]
  funext b
  have e : ((k.toNat : Nat) : Int) = k := by omega
  simp only [rmF, e]
  exact pI_t h
theorem rmF_n {P : Int → Int} {x k : Int} (h0 : 0 ≤ k) (h : ¬ wiO P k x) : rmF P x (k + 1).toNat = upz (rcp (rmF P x k.toNat) P (14 + 8 * lfF P x k.toNat) (14 + 8 * k) 8) (14 + 8 * lfF P x k.toNat) (if nd P k 0 = -1000 then -1000 else nnO P x (nd P k 0)) := by
  rw [show (k + 1).toNat = k.toNat + 1 by omega]
  funext b
  have e : ((k.toNat : Nat) : Int) = k := by omega
  simp only [rmF, e]
  exact pI_f h
theorem rmF_out (P : Int → Int) (x : Int) : ∀ (k : Nat) (b : Int), b < 14 ∨ 14 + 8 * (k : Int) ≤ b → rmF P x k b = P b := by
  intro k
  induction k with
  | zero => intro b _; rfl
  | succ k ih =>
    intro b hb
    have hl := lfF_b P x k
    simp only [rmF]
    rcases pI_or (wiO P (k : Int) x) (rmF P x k b) (upz (rcp (rmF P x k) P (14 + 8 * lfF P x k) (14 + 8 * (k : Int)) 8) (14 + 8 * lfF P x k) (if nd P (k : Int) 0 = -1000 then -1000 else nnO P x (nd P (k : Int) 0)) b) with q | q
    · rw [q.2]; exact ih b (by omega)
    · rw [q.2, upz_n (by omega)]
      unfold rcp
      rw [if_neg (by omega)]
      exact ih b (by omega)
theorem rcp_0 (Q P : Int → Int) (d fr : Int) : rcp Q P d fr 0 = Q := by
  funext b
  unfold rcp
  rw [if_neg (by omega)]
theorem rcp_s (Q P : Int → Int) {d fr w : Int} (h : 0 ≤ w) : upz (rcp Q P d fr w) (d + w) (P (fr + w)) = rcp Q P d fr (w + 1) := by
  funext b
  unfold upz rcp
  by_cases hb : b = d + w
  · subst hb
    rw [if_pos rfl, if_pos (by omega)]
    congr 1; omega
  · rw [if_neg hb]
    by_cases h2 : d ≤ b ∧ b < d + w
    · rw [if_pos h2, if_pos (by omega)]
    · rw [if_neg h2, if_neg (by omega)]
theorem rcp_hi {Q P : Int → Int} {d fr w b : Int} (h : d + w ≤ b) : rcp Q P d fr w b = Q b := by
  unfold rcp; rw [if_neg (by omega)]
/-- the new numbers of the first n nodes -/
noncomputable def nnS (st : Ms) (x n : Int) : Ms := fun k b => if k = 7 ∧ 0 ≤ b ∧ b < n then nnO (st 0) x b else st k b
theorem nnS_0 (st : Ms) (x : Int) : nnS st x 0 = st := by
  funext k b
  unfold nnS
  rw [if_neg (by omega)]
theorem nnS_k (st : Ms) (x n : Int) {k : Nat} (h : k ≠ 7) : nnS st x n k = st k := by
  funext b
  simp [nnS, h]
theorem nnS_s (st : Ms) {x n v : Int} (h : 0 ≤ n) (hv : v = nnO (st 0) x n) : su (nnS st x n) 7 n v = nnS st x (n + 1) := by
  subst hv
  funext k b
  unfold nnS su
  by_cases hb : b = n
  · subst hb
    by_cases h8 : k = 7
    · subst h8; simp; omega
    · simp [h8]
  · have e : (0 ≤ b ∧ b < n + 1) ↔ (0 ≤ b ∧ b < n) := by omega
    simp only [hb, and_false, if_false, e]
theorem nnS_at (st : Ms) {x n b : Int} {Q : Int → Int} (h0 : 0 ≤ b) (h1 : b < n) : sp (nnS st x n) Q 7 b = nnO (st 0) x b := by
  rw [sp_k _ _ (by decide)]
  unfold nnS
  rw [if_pos ⟨rfl, h0, h1⟩]
theorem nn0 (st : Ms) (x n k : Int) (hk : k = 0) : sp (nnS st x n) (rmF (st 0) x k.toNat) = nnS st x n := by
  subst hk
  have e : nnS st x n 0 = st 0 := nnS_k st x n (by decide)
  have := sp_self (nnS st x n)
  rw [e] at this
  exact this
noncomputable def remS (st : Ms) (n : Int) : Ms := if nRem (st 0) n = 0 then sp (nnS (kep (su st 6 0 (nRem (st 0) n))) n (st 0 2)) (remP (st 0) n) else su st 6 0 (nRem (st 0) n)
theorem cw_X3_removes {R : Room} {s : State} {args : Array Value} {own : String} {index lev mc ms : Nat} (hts : ∀ w ∈ lw_all, w.before args s = true) (hl : Cond.methodLink own index yX3_removes ∈ lw_all) (hR1 : (rmL lev mc ms).frames + 1 ≤ R.frames) (hR2 : 8 + (7 + 11) + (rmL lev mc ms).locals ≤ R.locals) : CallW R s args own RX3 index yX3_removes cX3_removes 7 (some .int) (ws_ yX3_removes cX3_removes 7 (some .int)) (rmL lev mc ms) mc ms 1 :=
  cwV 1 hts (lw_V hl q2392 qs59 q116 q2393) rfl rfl rfl (by decide +kernel) ⟨hR1, hR2⟩
set_option maxHeartbeats 4000000 in
theorem m_X3_removes {E : jE} (l : Launch) (o : Nat) (st : Ms) (w0 : Wl) (T : Int) (x : Int) (h1 : PWF T (st 0)) (h2 : 0 ≤ x ∧ x < st 0 2) : Met l yX3_removes (ws_ yX3_removes cX3_removes 7 (some .int)) (rmL 3 0 0) (va_Pc [.ref o, .int (iI x)] (jP E (wM E o st w0))) (jQi E (fun u : Ms => wM E o u w0) (fun z u => z = lfF (st 0) x (st 0 2).toNat ∧ u = sp (nnS (st) x (st 0 2)) (remP (st 0) x))) 0 0 (jA E) := by
  refine j_metI (by decide) (Nat.le_of_ble_eq_true rfl) ?_
  intro p e s m args below meth c Q hx hb hml hown hnm hts hV hH hret ls hl
  have hl : lv_has ls 7 [(0, .ref o), (1, .int (iI x))] := hl
  have hA := h1.A
  refine j_iconst hx hb dX3_removes_0 ?_
  refine j_istore_n (lv' := fun x1 => [(2, .int (iI x1)), (0, .ref o), (1, .int (iI x))]) hx hb dX3_removes_1 rfl hl (by decide) (fun _ => rfl) (fun x1 ex1 ls hl => ?_)
  refine j_iconst hx hb dX3_removes_2 ?_
  refine j_istore_n (lv' := fun x2 => [(3, .int (iI x2)), (2, .int (iI x1)), (0, .ref o), (1, .int (iI x))]) hx hb dX3_removes_3 rfl hl (by decide) (fun _ => rfl) (fun x2 ex2 ls hl => ?_)
  have L4 : ∀ (n_ : Nat), ∀ (lf : Int) (it : Int) (hm_ : st 0 2 - it < (n_ : Int)) (i1 : 0 ≤ it) (i2 : it ≤ st 0 2) (i3 : lf = lfF (st 0) x it.toNat) (H : Heap) (locs : List Loc), jH E s.heap (wM E o (nnS st x it) w0) H locs → ∀ ls : Array Slot, lv_has ls 7 [(0, .ref o), (1, .int (iI x)), (2, .int (iI lf)), (3, .int (iI it))] → W p l e (rmL 3 0 0) s m args below meth c H locs 0 0 Q (F0 m 4 ls []) := by
    intro n_
    induction n_ with
    | zero =>
      intro lf it hm_ i1 i2 i3 H locs hH ls hl
      exact absurd hm_ (by omega)
    | succ n_ ih_4 =>
      intro lf it hm_ i1 i2 i3 H locs hH ls hl
      have hlb := lfF_b (st 0) x it.toNat
      refine lv_iload_n hx hb dX3_removes_4 rfl (lv_at hl 3 rfl) ?_
      refine lv_aload_n hx hb dX3_removes_5 rfl (lv_at hl 0 rfl) ?_
      refine j_get hx hb hts hown hV hH wM_o rfl in_X3 0 (Nat.le_of_ble_eq_true rfl) q2229 (fun _ h => h) rfl dX3_removes_6 ?_
      refine j_iconst hx hb dX3_removes_9 ?_
      refine j_iald (n := 198) hx hb hV hH wM_0 (by omega) (by omega) dX3_removes_10 ?_
      refine j_top (b := st 0 2) (rfl) ?_
      refine j_icmp_ge (tgt := 62) hx hb dX3_removes_11 (by decide) (by omega) (by omega) (fun c11 => ?_) (fun c11 => ?_)
      · refine j_iconst hx hb dX3_removes_62 ?_
        refine j_istore_n (lv' := fun x3 => [(3, .int (iI x3)), (0, .ref o), (1, .int (iI x)), (2, .int (iI lf))]) hx hb dX3_removes_63 rfl hl (by decide) (fun _ => rfl) (fun x3 ex3 ls hl => ?_)
        have L64 : ∀ (n_ : Nat), ∀ (k : Int) (hm_ : st 0 2 - k < (n_ : Int)) (k1 : 0 ≤ k) (k2 : k ≤ st 0 2) (H : Heap) (locs : List Loc), jH E s.heap (wM E o (sp (nnS st x (st 0 2)) (rmF (st 0) x k.toNat)) w0) H locs → ∀ ls : Array Slot, lv_has ls 7 [(0, .ref o), (1, .int (iI x)), (2, .int (iI lf)), (3, .int (iI k))] → W p l e (rmL 3 0 0) s m args below meth c H locs 0 0 Q (F0 m 64 ls []) := by
          intro n_
          induction n_ with
          | zero =>
            intro k hm_ k1 k2 H locs hH ls hl
            exact absurd hm_ (by omega)
          | succ n_ ih_64 =>
            intro k hm_ k1 k2 H locs hH ls hl
            have hlk := lfF_b (st 0) x k.toNat
            have hnn : (wiO (st 0) k x ∧ nnO (st 0) x k = -1000) ∨ (¬ wiO (st 0) k x ∧ nnO (st 0) x k = lfF (st 0) x k.toNat) := pI_or _ _ _
            refine lv_iload_n hx hb dX3_removes_64 rfl (lv_at hl 3 rfl) ?_
            refine lv_aload_n hx hb dX3_removes_65 rfl (lv_at hl 0 rfl) ?_
            refine j_get hx hb hts hown hV hH wM_o rfl in_X3 0 (Nat.le_of_ble_eq_true rfl) q2229 (fun _ h => h) rfl dX3_removes_66 ?_
            refine j_iconst hx hb dX3_removes_69 ?_
            refine j_iald (n := 198) hx hb hV hH wM_0 (by omega) (by omega) dX3_removes_70 ?_
            refine j_top (b := st 0 2) (by rw [sp_0]; exact rmF_out _ _ _ _ (Or.inl (by decide))) ?_
            refine j_icmp_ge (tgt := 175) hx hb dX3_removes_71 (by decide) (by omega) (by omega) (fun c71 => ?_) (fun c71 => ?_)
            · refine lv_aload_n hx hb dX3_removes_175 rfl (lv_at hl 0 rfl) ?_
              refine j_get hx hb hts hown hV hH wM_o rfl in_X3 0 (Nat.le_of_ble_eq_true rfl) q2229 (fun _ h => h) rfl dX3_removes_176 ?_
              refine j_iconst hx hb dX3_removes_179 ?_
              refine lv_iload_n hx hb dX3_removes_180 rfl (lv_at hl 2 rfl) ?_
              refine j_iast (n := 198) hx hb hV hH wM_0 (by omega) (by omega) dX3_removes_181 (fun H locs hH => ?_)
              rw [wM_s0] at hH
              refine lv_iload_n hx hb dX3_removes_182 rfl (lv_at hl 2 rfl) ?_
              exact hret (su (sp (nnS st x (st 0 2)) (rmF (st 0) x k.toNat)) 0 2 lf) hH dX3_removes_183 (Nat.le_of_ble_eq_true rfl) (Nat.le_of_ble_eq_true rfl) (⟨by rw [i3, show it = st 0 2 by omega], by simp only [sp_su, sp_sp, sp_0]; rw [i3, show it = st 0 2 by omega, show k = st 0 2 by omega]; rfl⟩)
            · refine lv_aload_n hx hb dX3_removes_74 rfl (lv_at hl 0 rfl) ?_
              refine j_get hx hb hts hown hV hH wM_o rfl in_X3 7 (Nat.le_of_ble_eq_true rfl) q2236 (fun _ h => h) rfl dX3_removes_75 ?_
              refine lv_iload_n hx hb dX3_removes_78 rfl (lv_at hl 3 rfl) ?_
              refine j_iald (n := 20) hx hb hV hH wM_7 (by omega) (by omega) dX3_removes_79 ?_
              refine j_top (b := nnO (st 0) x k) (nnS_at st k1 c71) ?_
              refine j_sipush hx hb dX3_removes_80 (by decide) ?_
              refine j_icmp_eq (tgt := 169) hx hb dX3_removes_83 (by decide) (by omega) (by omega) (fun c83 => ?_) (fun c83 => ?_)
              · have hwy : wiO (st 0) k x := by rcases hnn with q | q; exact q.1; exact absurd (q.2.symm.trans c83) (by omega)
                refine j_iinc (k := 3) (lv' := fun x4 => [(3, .int (iI x4)), (0, .ref o), (1, .int (iI x)), (2, .int (iI lf))]) hx hb dX3_removes_169 hl rfl (by decide) (fun _ => rfl) (fun x4 ex4 ls hl => ?_)
                refine lv_goto (tgt := 64) hx hb dX3_removes_172 (by decide) ?_
                have hH : jH E s.heap (wM E o (sp (nnS st x (st 0 2)) (rmF (st 0) x (x4).toNat)) w0) H locs := by first | (rw [ex4, rmF_y k1 hwy]; exact hH) | (rw [ex4, rmF_n k1 hwn, ← i5, ← i6]; rw [show w = 8 by omega] at hH; simp only [sp_su, sp_sp, sp_0] at hH; exact hH)
                exact ih_64 x4 (by omega) (by first | assumption | omega) (by first | assumption | omega) _ _ hH ls (lv_sub hl [1, 2, 3, 0] rfl)
              · have hwn : ¬ wiO (st 0) k x := fun q => c83 (pI_t q)
                have hokp := okN.parent h1 k1 c71
                have hNk := h1.N k1 c71
                refine lv_aload_n hx hb dX3_removes_86 rfl (lv_at hl 0 rfl) ?_
                refine lv_iload_n hx hb dX3_removes_87 rfl (lv_at hl 3 rfl) ?_
                refine j_iconst hx hb dX3_removes_88 ?_
                refine j_callif (va_runV (As := [.int (iI k), .int (iI 0)]) (rest := []) ⟨hx, hb, hml, hown, hts⟩ (m_X3_of l o (sp (nnS st x (st 0 2)) (rmF (st 0) x k.toNat)) w0 k 0 (by omega)) (cw_X3_of hts q2343 (Nat.le_of_ble_eq_true rfl) (Nat.le_of_ble_eq_true rfl)) (j_preV hV hH wM_o rfl) rfl rfl hl.1 rfl (lv_room (Nat.le_of_ble_eq_true rfl)) dX3_removes_89 ⟨Nat.le_of_ble_eq_true rfl, Nat.le_of_ble_eq_true rfl⟩) hH (fun H locs hH => ?_)
                refine j_top (b := nd (st 0) k 0) (rmF_out _ _ _ _ (Or.inr (by omega))) ?_
                refine j_istore (lv' := fun x5 => [(4, .int (iI x5)), (0, .ref o), (1, .int (iI x)), (2, .int (iI lf)), (3, .int (iI k))]) hx hb dX3_removes_92 hl (by decide) (fun _ => rfl) (fun x5 ex5 ls hl => ?_)
                refine j_bipush hx hb dX3_removes_94 (by decide) ?_
                refine j_bipush hx hb dX3_removes_96 (by decide) ?_
                refine lv_aload_n hx hb dX3_removes_98 rfl (lv_at hl 1 rfl) ?_
                refine j_get hx hb hts hown hV hH wM_o rfl in_X3 7 (Nat.le_of_ble_eq_true rfl) q2236 (fun _ h => h) rfl dX3_removes_99 ?_
                refine lv_iload_n hx hb dX3_removes_102 rfl (lv_at hl 4 rfl) ?_
                refine j_iald (n := 20) hx hb hV hH wM_7 (by omega) (by omega) dX3_removes_103 ?_
                refine j_top (b := lfF (st 0) x k.toNat) ((nnS_at st k1 c71).trans (pI_f hwn)) ?_
                refine j_imul hx hb dX3_removes_104 ?_
                refine j_iadd hx hb dX3_removes_105 ?_
                refine j_istore (lv' := fun x6 => [(5, .int (iI x6)), (4, .int (iI x5)), (0, .ref o), (1, .int (iI x)), (2, .int (iI lf)), (3, .int (iI k))]) hx hb dX3_removes_106 hl (by decide) (fun _ => rfl) (fun x6 ex6 ls hl => ?_)
                refine j_iconst hx hb dX3_removes_108 ?_
                refine j_istore (lv' := fun x7 => [(6, .int (iI x7)), (5, .int (iI x6)), (4, .int (iI x5)), (0, .ref o), (1, .int (iI x)), (2, .int (iI lf)), (3, .int (iI k))]) hx hb dX3_removes_109 hl (by decide) (fun _ => rfl) (fun x7 ex7 ls hl => ?_)
                have L111 : ∀ (n_ : Nat), ∀ (pa : Int) (d : Int) (w : Int) (hm_ : 8 - w < (n_ : Int)) (i5 : d = 14 + 8 * lfF (st 0) x k.toNat) (i6 : pa = nd (st 0) k 0) (i7 : 0 ≤ w ∧ w ≤ 8) (H : Heap) (locs : List Loc), jH E s.heap (wM E o (sp (nnS st x (st 0 2)) (rcp (rmF (st 0) x k.toNat) (st 0) d (14 + 8 * k) w)) w0) H locs → ∀ ls : Array Slot, lv_has ls 7 [(0, .ref o), (1, .int (iI x)), (2, .int (iI lf)), (3, .int (iI k)), (4, .int (iI pa)), (5, .int (iI d)), (6, .int (iI w))] → W p l e (rmL 3 0 0) s m args below meth c H locs 0 0 Q (F0 m 111 ls []) := by
                  intro n_
                  induction n_ with
                  | zero =>
                    intro pa d w hm_ i5 i6 i7 H locs hH ls hl
                    exact absurd hm_ (by omega)
                  | succ n_ ih_111 =>
                    intro pa d w hm_ i5 i6 i7 H locs hH ls hl
                    refine lv_iload hx hb dX3_removes_111 (lv_at hl 6 rfl) ?_
                    refine j_bipush hx hb dX3_removes_113 (by decide) ?_
                    refine j_icmp_ge (tgt := 141) hx hb dX3_removes_115 (by decide) (by omega) (by omega) (fun c115 => ?_) (fun c115 => ?_)
                    · refine lv_aload_n hx hb dX3_removes_141 rfl (lv_at hl 0 rfl) ?_
                      refine j_get hx hb hts hown hV hH wM_o rfl in_X3 0 (Nat.le_of_ble_eq_true rfl) q2229 (fun _ h => h) rfl dX3_removes_142 ?_
                      refine lv_iload hx hb dX3_removes_145 (lv_at hl 5 rfl) ?_
                      refine lv_iload hx hb dX3_removes_147 (lv_at hl 4 rfl) ?_
                      refine j_sipush hx hb dX3_removes_149 (by decide) ?_
                      refine j_icmp_ne (tgt := 161) hx hb dX3_removes_152 (by decide) (by omega) (by omega) (fun c152 => ?_) (fun c152 => ?_)
                      · refine lv_aload_n hx hb dX3_removes_161 rfl (lv_at hl 0 rfl) ?_
                        refine j_get hx hb hts hown hV hH wM_o rfl in_X3 7 (Nat.le_of_ble_eq_true rfl) q2236 (fun _ h => h) rfl dX3_removes_162 ?_
                        refine lv_iload hx hb dX3_removes_165 (lv_at hl 4 rfl) ?_
                        refine j_iald (n := 20) hx hb hV hH wM_7 (by omega) (by omega) dX3_removes_167 ?_
                        refine j_top (b := (if pa = -1000 then -1000 else nnO (st 0) x pa)) (by first | rw [if_pos (by omega)] | (rw [if_neg (by omega)]; exact nnS_at st (by omega) (by omega))) ?_
                        refine j_iast (n := 198) hx hb hV hH wM_0 (by omega) (by omega) dX3_removes_168 (fun H locs hH => ?_)
                        rw [wM_s0] at hH
                        refine j_iinc (k := 3) (lv' := fun x8 => [(3, .int (iI x8)), (0, .ref o), (1, .int (iI x)), (2, .int (iI lf)), (4, .int (iI pa)), (5, .int (iI d)), (6, .int (iI w))]) hx hb dX3_removes_169 hl rfl (by decide) (fun _ => rfl) (fun x8 ex8 ls hl => ?_)
                        refine lv_goto (tgt := 64) hx hb dX3_removes_172 (by decide) ?_
                        have hH : jH E s.heap (wM E o (sp (nnS st x (st 0 2)) (rmF (st 0) x (x8).toNat)) w0) H locs := by first | (rw [ex8, rmF_y k1 hwy]; exact hH) | (rw [ex8, rmF_n k1 hwn, ← i5, ← i6]; rw [show w = 8 by omega] at hH; simp only [sp_su, sp_sp, sp_0] at hH; exact hH)
                        exact ih_64 x8 (by omega) (by first | assumption | omega) (by first | assumption | omega) _ _ hH ls (lv_sub hl [1, 2, 3, 0] rfl)
                      · refine j_sipush hx hb dX3_removes_155 (by decide) ?_
                        refine lv_goto (tgt := 168) hx hb dX3_removes_158 (by decide) ?_
                        refine j_top (b := (if pa = -1000 then -1000 else nnO (st 0) x pa)) (by first | rw [if_pos (by omega)] | (rw [if_neg (by omega)]; exact nnS_at st (by omega) (by omega))) ?_
                        refine j_iast (n := 198) hx hb hV hH wM_0 (by omega) (by omega) dX3_removes_168 (fun H locs hH => ?_)
                        rw [wM_s0] at hH
                        refine j_iinc (k := 3) (lv' := fun x9 => [(3, .int (iI x9)), (0, .ref o), (1, .int (iI x)), (2, .int (iI lf)), (4, .int (iI pa)), (5, .int (iI d)), (6, .int (iI w))]) hx hb dX3_removes_169 hl rfl (by decide) (fun _ => rfl) (fun x9 ex9 ls hl => ?_)
                        refine lv_goto (tgt := 64) hx hb dX3_removes_172 (by decide) ?_
                        have hH : jH E s.heap (wM E o (sp (nnS st x (st 0 2)) (rmF (st 0) x (x9).toNat)) w0) H locs := by first | (rw [ex9, rmF_y k1 hwy]; exact hH) | (rw [ex9, rmF_n k1 hwn, ← i5, ← i6]; rw [show w = 8 by omega] at hH; simp only [sp_su, sp_sp, sp_0] at hH; exact hH)
                        exact ih_64 x9 (by omega) (by first | assumption | omega) (by first | assumption | omega) _ _ hH ls (lv_sub hl [1, 2, 3, 0] rfl)
                    · refine lv_aload_n hx hb dX3_removes_118 rfl (lv_at hl 0 rfl) ?_
                      refine j_get hx hb hts hown hV hH wM_o rfl in_X3 0 (Nat.le_of_ble_eq_true rfl) q2229 (fun _ h => h) rfl dX3_removes_119 ?_
                      refine lv_iload hx hb dX3_removes_122 (lv_at hl 5 rfl) ?_
                      refine lv_iload hx hb dX3_removes_124 (lv_at hl 6 rfl) ?_
                      refine j_iadd hx hb dX3_removes_126 ?_
                      refine lv_aload_n hx hb dX3_removes_127 rfl (lv_at hl 0 rfl) ?_
                      refine lv_iload_n hx hb dX3_removes_128 rfl (lv_at hl 3 rfl) ?_
                      refine lv_iload hx hb dX3_removes_129 (lv_at hl 6 rfl) ?_
                      refine j_callif (va_runV (As := [.int (iI k), .int (iI w)]) (rest := [.int (iI (d + w)), .ref (o + 1)]) ⟨hx, hb, hml, hown, hts⟩ (m_X3_of l o (sp (nnS st x (st 0 2)) (rcp (rmF (st 0) x k.toNat) (st 0) d (14 + 8 * k) w)) w0 k w (by omega)) (cw_X3_of hts q2343 (Nat.le_of_ble_eq_true rfl) (Nat.le_of_ble_eq_true rfl)) (j_preV hV hH wM_o rfl) rfl rfl hl.1 rfl (lv_room (Nat.le_of_ble_eq_true rfl)) dX3_removes_131 ⟨Nat.le_of_ble_eq_true rfl, Nat.le_of_ble_eq_true rfl⟩) hH (fun H locs hH => ?_)
                      refine j_top (b := nd (st 0) k w) (by show rcp _ _ _ _ _ (14 + 8 * k + w) = _; rw [rcp_hi (by omega)]; exact rmF_out _ _ _ _ (Or.inr (by omega))) ?_
                      refine j_iast (n := 198) hx hb hV hH wM_0 (by omega) (by omega) dX3_removes_134 (fun H locs hH => ?_)
                      rw [wM_s0] at hH
                      refine j_iinc (k := 6) (lv' := fun x10 => [(6, .int (iI x10)), (0, .ref o), (1, .int (iI x)), (2, .int (iI lf)), (3, .int (iI k)), (4, .int (iI pa)), (5, .int (iI d))]) hx hb dX3_removes_135 hl rfl (by decide) (fun _ => rfl) (fun x10 ex10 ls hl => ?_)
                      refine lv_goto (tgt := 111) hx hb dX3_removes_138 (by decide) ?_
                      have hH : jH E s.heap (wM E o (sp (nnS st x (st 0 2)) (rcp (rmF (st 0) x k.toNat) (st 0) d (14 + 8 * k) x10)) w0) H locs := by rw [ex10, ← rcp_s _ _ (by omega)]; simp only [sp_su, sp_sp, sp_0] at hH; exact hH
                      exact ih_111 pa d x10 (by omega) (i5) (i6) (by first | assumption | omega) _ _ hH ls (lv_sub hl [1, 2, 3, 4, 5, 6, 0] rfl)
                have hH : jH E s.heap (wM E o (sp (nnS st x (st 0 2)) (rcp (rmF (st 0) x k.toNat) (st 0) x6 (14 + 8 * k) x7)) w0) H locs := by rw [ex7, rcp_0]; exact hH
                exact L111 ((8 - x7).toNat + 1) x5 x6 x7 (by omega) (by first | assumption | omega) (by first | assumption | omega) (by first | assumption | omega) _ _ hH ls (lv_sub hl [3, 4, 5, 6, 2, 1, 0] rfl)
        have hH : jH E s.heap (wM E o (sp (nnS st x (st 0 2)) (rmF (st 0) x (x3).toNat)) w0) H locs := by rw [nn0 st x _ _ ex3]; rw [show it = st 0 2 by omega] at hH; exact hH
        exact L64 ((st 0 2 - x3).toNat + 1) x3 (by omega) (by first | assumption | omega) (by first | assumption | omega) _ _ hH ls (lv_sub hl [1, 2, 3, 0] rfl)
      · refine lv_aload_n hx hb dX3_removes_14 rfl (lv_at hl 0 rfl) ?_
        refine j_get hx hb hts hown hV hH wM_o rfl in_X3 7 (Nat.le_of_ble_eq_true rfl) q2236 (fun _ h => h) rfl dX3_removes_15 ?_
        refine lv_iload_n hx hb dX3_removes_18 rfl (lv_at hl 3 rfl) ?_
        refine lv_aload_n hx hb dX3_removes_19 rfl (lv_at hl 0 rfl) ?_
        refine lv_iload_n hx hb dX3_removes_20 rfl (lv_at hl 3 rfl) ?_
        refine lv_iload_n hx hb dX3_removes_21 rfl (lv_at hl 1 rfl) ?_
        refine j_callif (va_runV (As := [.int (iI it), .int (iI x)]) (rest := [.int (iI it), .ref (o + 5)]) ⟨hx, hb, hml, hown, hts⟩ (m_X3_isWithin l o (nnS st x it) w0 _ it x (h1) (by omega) (show it < st 0 2 by omega) (by omega)) (cw_X3_isWithin hts q2394 (Nat.le_of_ble_eq_true rfl) (Nat.le_of_ble_eq_true rfl)) (j_preV hV hH wM_o rfl) rfl rfl hl.1 rfl (lv_room (Nat.le_of_ble_eq_true rfl)) dX3_removes_22 ⟨Nat.le_of_ble_eq_true rfl, Nat.le_of_ble_eq_true rfl⟩) hH (fun H locs hH => ?_)
        refine j_top (b := bI (wiO (st 0) it x)) rfl ?_
        refine j_ifeq_b (tgt := 34) hx hb dX3_removes_25 (by decide) (fun c25 => ?_) (fun c25 => ?_)
        · refine lv_iload_n hx hb dX3_removes_34 rfl (lv_at hl 2 rfl) ?_
          refine j_iast (n := 20) hx hb hV hH wM_7 (by omega) (by omega) dX3_removes_35 (fun H locs hH => ?_)
          rw [wM_s7] at hH
          refine lv_iload_n hx hb dX3_removes_36 rfl (lv_at hl 2 rfl) ?_
          refine lv_aload_n hx hb dX3_removes_37 rfl (lv_at hl 0 rfl) ?_
          refine j_get hx hb hts hown hV hH wM_o rfl in_X3 7 (Nat.le_of_ble_eq_true rfl) q2236 (fun _ h => h) rfl dX3_removes_38 ?_
          refine lv_iload_n hx hb dX3_removes_41 rfl (lv_at hl 3 rfl) ?_
          refine j_iald (n := 20) hx hb hV hH wM_7 (by omega) (by omega) dX3_removes_42 ?_
          refine j_top (b := lf) (by first | exact su_s | rfl) ?_
          refine j_sipush hx hb dX3_removes_43 (by decide) ?_
          refine j_icmp_ne (tgt := 53) hx hb dX3_removes_46 (by decide) (by omega) (by omega) (fun c46 => ?_) (fun c46 => ?_)
          · refine j_iconst hx hb dX3_removes_53 ?_
            refine j_iadd hx hb dX3_removes_54 ?_
            refine j_istore_n (lv' := fun x11 => [(2, .int (iI x11)), (0, .ref o), (1, .int (iI x)), (3, .int (iI it))]) hx hb dX3_removes_55 rfl hl (by decide) (fun _ => rfl) (fun x11 ex11 ls hl => ?_)
            refine j_iinc (k := 3) (lv' := fun x12 => [(3, .int (iI x12)), (2, .int (iI x11)), (0, .ref o), (1, .int (iI x))]) hx hb dX3_removes_56 hl rfl (by decide) (fun _ => rfl) (fun x12 ex12 ls hl => ?_)
            refine lv_goto (tgt := 4) hx hb dX3_removes_59 (by decide) ?_
            have hH : jH E s.heap (wM E o (nnS st x x12) w0) H locs := by first | exact absurd rfl c46 | exact absurd c46 (by omega) | (rw [ex12]; rw [nnS_s st i1] at hH; exact hH; unfold nnO; rw [← i3]; first | exact (pI_t c25).symm | exact (pI_f c25).symm)
            exact ih_4 x11 x12 (by omega) (by first | assumption | omega) (by first | assumption | omega) (by first | exact absurd rfl c46 | exact absurd c46 (by omega) | (rw [ex12, show (it + 1).toNat = it.toNat + 1 by omega, lfF, show ((it.toNat : Nat) : Int) = it by omega, ← i3, ex11]; first | exact (Int.add_zero lf).trans (pI_t c25).symm | exact (pI_f c25).symm)) _ _ hH ls (lv_sub hl [2, 3, 1, 0] rfl)
          · refine j_iconst hx hb dX3_removes_49 ?_
            refine lv_goto (tgt := 54) hx hb dX3_removes_50 (by decide) ?_
            refine j_iadd hx hb dX3_removes_54 ?_
            refine j_istore_n (lv' := fun x13 => [(2, .int (iI x13)), (0, .ref o), (1, .int (iI x)), (3, .int (iI it))]) hx hb dX3_removes_55 rfl hl (by decide) (fun _ => rfl) (fun x13 ex13 ls hl => ?_)
            refine j_iinc (k := 3) (lv' := fun x14 => [(3, .int (iI x14)), (2, .int (iI x13)), (0, .ref o), (1, .int (iI x))]) hx hb dX3_removes_56 hl rfl (by decide) (fun _ => rfl) (fun x14 ex14 ls hl => ?_)
            refine lv_goto (tgt := 4) hx hb dX3_removes_59 (by decide) ?_
            have hH : jH E s.heap (wM E o (nnS st x x14) w0) H locs := by first | exact absurd rfl c46 | exact absurd c46 (by omega) | (rw [ex14]; rw [nnS_s st i1] at hH; exact hH; unfold nnO; rw [← i3]; first | exact (pI_t c25).symm | exact (pI_f c25).symm)
            exact ih_4 x13 x14 (by omega) (by first | assumption | omega) (by first | assumption | omega) (by first | exact absurd rfl c46 | exact absurd c46 (by omega) | (rw [ex14, show (it + 1).toNat = it.toNat + 1 by omega, lfF, show ((it.toNat : Nat) : Int) = it by omega, ← i3, ex13]; first | exact (Int.add_zero lf).trans (pI_t c25).symm | exact (pI_f c25).symm)) _ _ hH ls (lv_sub hl [2, 3, 1, 0] rfl)
        · refine j_sipush hx hb dX3_removes_28 (by decide) ?_
          refine lv_goto (tgt := 35) hx hb dX3_removes_31 (by decide) ?_
          refine j_iast (n := 20) hx hb hV hH wM_7 (by omega) (by omega) dX3_removes_35 (fun H locs hH => ?_)
          rw [wM_s7] at hH
          refine lv_iload_n hx hb dX3_removes_36 rfl (lv_at hl 2 rfl) ?_
          refine lv_aload_n hx hb dX3_removes_37 rfl (lv_at hl 0 rfl) ?_
          refine j_get hx hb hts hown hV hH wM_o rfl in_X3 7 (Nat.le_of_ble_eq_true rfl) q2236 (fun _ h => h) rfl dX3_removes_38 ?_
          refine lv_iload_n hx hb dX3_removes_41 rfl (lv_at hl 3 rfl) ?_
          refine j_iald (n := 20) hx hb hV hH wM_7 (by omega) (by omega) dX3_removes_42 ?_
          refine j_top (b := (-1000)) (by first | exact su_s | rfl) ?_
          refine j_sipush hx hb dX3_removes_43 (by decide) ?_
          refine j_icmp_ne (tgt := 53) hx hb dX3_removes_46 (by decide) (by omega) (by omega) (fun c46 => ?_) (fun c46 => ?_)
          · refine j_iconst hx hb dX3_removes_53 ?_
            refine j_iadd hx hb dX3_removes_54 ?_
            refine j_istore_n (lv' := fun x15 => [(2, .int (iI x15)), (0, .ref o), (1, .int (iI x)), (3, .int (iI it))]) hx hb dX3_removes_55 rfl hl (by decide) (fun _ => rfl) (fun x15 ex15 ls hl => ?_)
            refine j_iinc (k := 3) (lv' := fun x16 => [(3, .int (iI x16)), (2, .int (iI x15)), (0, .ref o), (1, .int (iI x))]) hx hb dX3_removes_56 hl rfl (by decide) (fun _ => rfl) (fun x16 ex16 ls hl => ?_)
            refine lv_goto (tgt := 4) hx hb dX3_removes_59 (by decide) ?_
            have hH : jH E s.heap (wM E o (nnS st x x16) w0) H locs := by first | exact absurd rfl c46 | exact absurd c46 (by omega) | (rw [ex16]; rw [nnS_s st i1] at hH; exact hH; unfold nnO; rw [← i3]; first | exact (pI_t c25).symm | exact (pI_f c25).symm)
            exact ih_4 x15 x16 (by omega) (by first | assumption | omega) (by first | assumption | omega) (by first | exact absurd rfl c46 | exact absurd c46 (by omega) | (rw [ex16, show (it + 1).toNat = it.toNat + 1 by omega, lfF, show ((it.toNat : Nat) : Int) = it by omega, ← i3, ex15]; first | exact (Int.add_zero lf).trans (pI_t c25).symm | exact (pI_f c25).symm)) _ _ hH ls (lv_sub hl [2, 3, 1, 0] rfl)
          · refine j_iconst hx hb dX3_removes_49 ?_
            refine lv_goto (tgt := 54) hx hb dX3_removes_50 (by decide) ?_
            refine j_iadd hx hb dX3_removes_54 ?_
            refine j_istore_n (lv' := fun x17 => [(2, .int (iI x17)), (0, .ref o), (1, .int (iI x)), (3, .int (iI it))]) hx hb dX3_removes_55 rfl hl (by decide) (fun _ => rfl) (fun x17 ex17 ls hl => ?_)
            refine j_iinc (k := 3) (lv' := fun x18 => [(3, .int (iI x18)), (2, .int (iI x17)), (0, .ref o), (1, .int (iI x))]) hx hb dX3_removes_56 hl rfl (by decide) (fun _ => rfl) (fun x18 ex18 ls hl => ?_)
            refine lv_goto (tgt := 4) hx hb dX3_removes_59 (by decide) ?_
            have hH : jH E s.heap (wM E o (nnS st x x18) w0) H locs := by first | exact absurd rfl c46 | exact absurd c46 (by omega) | (rw [ex18]; rw [nnS_s st i1] at hH; exact hH; unfold nnO; rw [← i3]; first | exact (pI_t c25).symm | exact (pI_f c25).symm)
            exact ih_4 x17 x18 (by omega) (by first | assumption | omega) (by first | assumption | omega) (by first | exact absurd rfl c46 | exact absurd c46 (by omega) | (rw [ex18, show (it + 1).toNat = it.toNat + 1 by omega, lfF, show ((it.toNat : Nat) : Int) = it by omega, ← i3, ex17]; first | exact (Int.add_zero lf).trans (pI_t c25).symm | exact (pI_f c25).symm)) _ _ hH ls (lv_sub hl [2, 3, 1, 0] rfl)
  have hH : jH E s.heap (wM E o (nnS st x x2) w0) s.heap [] := by rw [ex2, nnS_0]; exact hH
  exact L4 ((st 0 2 - x2).toNat + 1) x1 x2 (by omega) (by first | assumption | omega) (by first | assumption | omega) (by rw [ex1, ex2]; rfl) _ _ hH ls (lv_sub hl [2, 3, 1, 0] rfl)
theorem cw_X3_removeNode {R : Room} {s : State} {args : Array Value} {own : String} {index lev mc ms : Nat} (hts : ∀ w ∈ lw_all, w.before args s = true) (hl : Cond.methodLink own index yX3_removeNode ∈ lw_all) (hR1 : (rmL lev mc ms).frames + 1 ≤ R.frames) (hR2 : 8 + (2 + 11) + (rmL lev mc ms).locals ≤ R.locals) : CallW R s args own RX3 index yX3_removeNode cX3_removeNode 2 (some .int) (ws_ yX3_removeNode cX3_removeNode 2 (some .int)) (rmL lev mc ms) mc ms 1 :=
  cwV 1 hts (lw_V hl q2383 q2384 q116 q2385) rfl rfl rfl (by decide +kernel) ⟨hR1, hR2⟩
set_option maxHeartbeats 4000000 in
theorem m_X3_removeNode {E : jE} (l : Launch) (o : Nat) (st : Ms) (w0 : Wl) (T : Int) (n : Int) (h1 : PWF T (st 0)) (h2 : 0 ≤ st 3 0 ∧ st 3 0 ≤ 4) (h3 : -2147483648 ≤ n ∧ n ≤ 2147483647) : Met l yX3_removeNode (ws_ yX3_removeNode cX3_removeNode 2 (some .int)) (rmL 4 0 0) (va_Pc [.ref o, .int (iI n)] (jP E (wM E o st w0))) (jQi E (fun u : Ms => wM E o u w0) (fun z u => z = (if nRem (st 0) n = 0 then lfF (st 0) n (st 0 2).toNat else 0) ∧ u = remS (st) n)) 0 0 (jA E) := by
  refine j_metI (by decide) (Nat.le_of_ble_eq_true rfl) ?_
  intro p e s m args below meth c Q hx hb hml hown hnm hts hV hH hret ls hl
  have hl : lv_has ls 2 [(0, .ref o), (1, .int (iI n))] := hl
  have hA := h1.A
  have hcb : nRem (st 0) n = 1 ∨ (nRem (st 0) n = 0 ∧ 0 ≤ n ∧ n < st 0 2) := by unfold nRem; split <;> omega
  refine lv_aload_n hx hb dX3_removeNode_0 rfl (lv_at hl 0 rfl) ?_
  refine lv_aload_n hx hb dX3_removeNode_1 rfl (lv_at hl 0 rfl) ?_
  refine lv_iload_n hx hb dX3_removeNode_2 rfl (lv_at hl 1 rfl) ?_
  refine j_callif (va_runV (As := [.int (iI n)]) (rest := [.ref o]) ⟨hx, hb, hml, hown, hts⟩ (m_X3_notRemove l o st w0 _ n (h1) (by omega)) (cw_X3_notRemove hts q2386 (Nat.le_of_ble_eq_true rfl) (Nat.le_of_ble_eq_true rfl)) (j_preV hV hH wM_o rfl) rfl rfl hl.1 rfl (lv_room (Nat.le_of_ble_eq_true rfl)) dX3_removeNode_3 ⟨Nat.le_of_ble_eq_true rfl, Nat.le_of_ble_eq_true rfl⟩) hH (fun H locs hH => ?_)
  refine j_put hx hb hts hown hV hH wM_o rfl in_X3 tyX3 tyX3_ok nmX3 6 (Nat.le_of_ble_eq_true rfl) q2235 (fun _ h => h) rfl rfl rfl (Nat.le_of_ble_eq_true rfl) dX3_removeNode_6 (fun H locs hH => ?_)
  rw [wM_f6] at hH
  refine lv_aload_n hx hb dX3_removeNode_9 rfl (lv_at hl 0 rfl) ?_
  refine j_get hx hb hts hown hV hH wM_o rfl in_X3 6 (Nat.le_of_ble_eq_true rfl) q2235 (fun _ h => h) rfl dX3_removeNode_10 ?_
  refine j_top (b := nRem (st 0) n) rfl ?_
  refine j_if_eq (tgt := 18) hx hb dX3_removeNode_13 (by decide) (by omega) (fun c13 => ?_) (fun c13 => ?_)
  · refine lv_aload_n hx hb dX3_removeNode_18 rfl (lv_at hl 0 rfl) ?_
    refine j_callvf (va_runV (As := []) (rest := []) ⟨hx, hb, hml, hown, hts⟩ (m_X3_keep l o (su st 6 0 (nRem (st 0) n)) w0 (show 0 ≤ st 3 0 ∧ st 3 0 ≤ 4 by omega)) (cw_X3_keep hts q2316 (Nat.le_of_ble_eq_true rfl) (Nat.le_of_ble_eq_true rfl)) (j_preV hV hH wM_o rfl) rfl rfl hl.1 rfl (lv_room (Nat.le_of_ble_eq_true rfl)) dX3_removeNode_19 ⟨Nat.le_of_ble_eq_true rfl, Nat.le_of_ble_eq_true rfl⟩) hH (fun H locs hH => ?_)
    refine lv_aload_n hx hb dX3_removeNode_22 rfl (lv_at hl 0 rfl) ?_
    refine lv_iload_n hx hb dX3_removeNode_23 rfl (lv_at hl 1 rfl) ?_
    refine j_callif (va_runV (As := [.int (iI n)]) (rest := []) ⟨hx, hb, hml, hown, hts⟩ (m_X3_removes l o (kep (su st 6 0 (nRem (st 0) n))) w0 _ n (h1) (show 0 ≤ n ∧ n < st 0 2 by omega)) (cw_X3_removes hts q2390 (Nat.le_of_ble_eq_true rfl) (Nat.le_of_ble_eq_true rfl)) (j_preV hV hH wM_o rfl) rfl rfl hl.1 rfl (lv_room (Nat.le_of_ble_eq_true rfl)) dX3_removeNode_24 ⟨Nat.le_of_ble_eq_true rfl, Nat.le_of_ble_eq_true rfl⟩) hH (fun H locs hH => ?_)
    have hH : jH E s.heap (wM E o (sp (nnS ((kep (su st 6 0 (nRem (st 0) n)))) n (st 0 2)) (remP (st 0) n)) w0) H locs := hH
    refine j_top (b := lfF (st 0) n (st 0 2).toNat) rfl ?_
    exact hret (sp (nnS ((kep (su st 6 0 (nRem (st 0) n)))) n (st 0 2)) (remP (st 0) n)) hH dX3_removeNode_27 (Nat.le_of_ble_eq_true rfl) (Nat.le_of_ble_eq_true rfl) (⟨(if_pos c13).symm, (if_pos c13).symm⟩)
  · refine j_iconst hx hb dX3_removeNode_16 ?_
    exact hret (su st 6 0 (nRem (st 0) n)) hH dX3_removeNode_17 (Nat.le_of_ble_eq_true rfl) (Nat.le_of_ble_eq_true rfl) (⟨(if_neg c13).symm, (if_neg c13).symm⟩)
