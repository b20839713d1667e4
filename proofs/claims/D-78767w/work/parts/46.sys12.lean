/-! THE SYSTEM's METHODS: java.util.LinkedList -/
set_option maxRecDepth 100000
/-- the list's k-th node, if there is one; the one before the k-th -/
def hdO (n : Int) (ch : Int → Nat) (k : Int) : Option Nat := if k < n then some (ch k) else none
def prO (ch : Int → Nat) (k : Int) : Option Nat := if 0 < k then some (ch (k - 1)) else none
theorem hdO_s {n k : Int} {ch : Int → Nat} (h : k < n) : hdO n ch k = some (ch k) := if_pos h
theorem hdO_n {n k : Int} {ch : Int → Nat} (h : ¬ k < n) : hdO n ch k = none := if_neg h
theorem prO_s {k : Int} {ch : Int → Nat} (h : 0 < k) : prO ch k = some (ch (k - 1)) := if_pos h
theorem prO_n {k : Int} {ch : Int → Nat} (h : ¬ 0 < k) : prO ch k = none := if_neg h
/-- a list's chain of nodes -/
def LQ (w : Wl) (t : Nat) (n : Int) (ch se : Int → Nat) : Prop := (0 ≤ n ∧ n ≤ 40) ∧ (∀ k : Int, 0 ≤ k → k < n → w (ch k) = some (t, .inr (13, [.ref (se k), va_rf (hdO n ch (k + 1)), va_rf (prO ch k)]))) ∧ (∀ i j : Int, 0 ≤ i → i < n → 0 ≤ j → j < n → ch i = ch j → i = j) ∧ ∀ k : Int, 0 ≤ k → k < n → OB w (se k)
theorem LQ.kp {C : Nat → Nat → Prop} {w u : Wl} {t : Nat} {n : Int} {ch se : Int → Nat} (h : LQ w t n ch se) (k : FR C w u) (hC : ∀ T k : Nat, C T k → ¬ (T = t ∧ k = 23)) : LQ u t n ch se :=
  ⟨h.1, fun j p q => k.at (h.2.1 j p q) (k := 23) rfl (fun r => hC _ _ r ⟨rfl, rfl⟩), h.2.2.1, fun j p q => (h.2.2.2 j p q).kp k⟩
theorem LQ.zero {w : Wl} {t : Nat} {ch se : Int → Nat} : LQ w t 0 ch se := ⟨by omega, fun k p q => by omega, fun i j p q => by omega, fun k p q => by omega⟩
theorem LQ.fr {w : Wl} {t : Nat} {n : Int} {ch se : Int → Nat} {r : Nat} (h : LQ w t n ch se) (hr : w r = none) : ∀ k : Int, 0 ≤ k → k < n → ch k ≠ r := fun k p q => ne_fr (h.2.1 k p q) hr
theorem LQ.off {C : Nat → Nat → Prop} {w u : Wl} {t : Nat} {n : Int} {ch se : Int → Nat} {r : Nat} {c : Nat × va_E} (h : LQ w t n ch se) (k : FR C w u) (hd : ∀ k : Int, 0 ≤ k → k < n → ch k ≠ r) (hu : u = up w r c) : LQ u t n ch se :=
  ⟨h.1, fun j p q => by rw [hu, up_n (hd j p q)]; exact h.2.1 j p q, h.2.2.1, fun j p q => (h.2.2.2 j p q).kp k⟩
/-- the first node -/
theorem LQ.one {w : Wl} {t r ob : Nat} {n : Int} {ch se : Int → Nat} (hn : n = 0) (hr : w r = some (t, .inr (13, [.ref ob, .null, va_rf (prO ch n)]))) (ho : OB w ob) : LQ w t (n + 1) (upz ch n r) (upz se n ob) := by
  subst hn
  refine ⟨by omega, fun k p q => ?_, fun i j p q p2 q2 _ => by omega, fun k p q => ?_⟩
  · have hk : k = 0 := by omega
    subst hk
    rw [upz_s, upz_s, hdO_n (by omega), hr, prO_n (by omega), prO_n (by omega)]
    rfl
  · have hk : k = 0 := by omega
    subst hk
    rw [upz_s]
    exact ho
/-- one more node behind the last -/
theorem LQ.ext {w u : Wl} {t r ob : Nat} {n : Int} {ch se : Int → Nat} (h : LQ w t n ch se) (hn : 0 < n) (hn2 : n < 40) (hr : w r = some (t, .inr (13, [.ref ob, .null, va_rf (prO ch n)]))) (hd : ∀ k : Int, 0 ≤ k → k < n → ch k ≠ r) (ho : OB w ob)
    (hu : u = up w (ch (n - 1)) (t, .inr (13, [.ref (se (n - 1)), .ref r, va_rf (prO ch (n - 1))]))) (hk : ∀ y : Nat, OB w y → OB u y) : LQ u t (n + 1) (upz ch n r) (upz se n ob) := by
  subst hu
  have hlast := hd (n - 1) (by omega) (by omega)
  refine ⟨by omega, fun k p q => ?_, fun i j p q p2 q2 e => ?_, fun k p q => ?_⟩
  · by_cases hkn : k = n
    · subst hkn
      rw [upz_s, upz_s, up_n (Ne.symm hlast), hr, hdO_n (by omega)]
      have e1 : prO (upz ch k r) k = prO ch k := by rw [prO_s hn, prO_s hn, upz_n (by omega)]
      rw [e1]
      rfl
    · have e1 : prO (upz ch n r) k = prO ch k := by
        by_cases h0 : 0 < k
        · rw [prO_s h0, prO_s h0, upz_n (by omega)]
        · rw [prO_n h0, prO_n h0]
      rw [upz_n hkn, upz_n hkn, e1]
      by_cases hl : k = n - 1
      · subst hl
        rw [up_s, hdO_s (by omega), show n - 1 + 1 = n by omega, upz_s]
        rfl
      · rw [up_n (fun e => hl (h.2.2.1 k (n - 1) p (by omega) (by omega) (by omega) e)), h.2.1 k p (by omega), hdO_s (by omega), hdO_s (by omega), upz_n (by omega)]
  · by_cases hi : i = n <;> by_cases hj : j = n
    · omega
    · rw [hi, upz_s, upz_n hj] at e
      exact absurd e.symm (hd j p2 (by omega))
    · rw [hj, upz_s, upz_n hi] at e
      exact absurd e (hd i p (by omega))
    · rw [upz_n hi, upz_n hj] at e
      exact h.2.2.1 i j p (by omega) p2 (by omega) e
  · by_cases hkn : k = n
    · subst hkn
      rw [upz_s]
      exact hk _ ho
    · rw [upz_n hkn]
      exact hk _ (h.2.2.2 k p (by omega))
theorem prO_up {ch : Int → Nat} {n : Int} {r : Nat} (h : 0 ≤ n) : prO (upz ch n r) (n + 1) = some r := by rw [prO_s (by omega), show n + 1 - 1 = n by omega, upz_s]
theorem hdO_upz {ch : Int → Nat} {n : Int} {r : Nat} (h : n = 0) : hdO (n + 1) (upz ch n r) 0 = some r := by rw [h, hdO_s (by omega), upz_s]
theorem hdO_ups {ch : Int → Nat} {n : Int} {r : Nat} (h : 0 < n) : hdO (n + 1) (upz ch n r) 0 = hdO n ch 0 := by rw [hdO_s (by omega), hdO_s h, upz_n (by omega)]
theorem prO_some {ch : Int → Nat} {n : Int} {r : Nat} (h : prO ch n = some r) : 0 < n ∧ r = ch (n - 1) := by
  by_cases q : 0 < n
  · rw [prO_s q] at h
    cases h
    exact ⟨q, rfl⟩
  · rw [prO_n q] at h
    cases h
theorem prO_none {ch : Int → Nat} {n : Int} (h : prO ch n = none) : ¬ 0 < n := fun q => by
  rw [prO_s q] at h
  cases h
theorem LQ.se {w : Wl} {t : Nat} {n : Int} {ch se se2 : Int → Nat} (h : LQ w t n ch se) (hs : ∀ k : Int, 0 ≤ k → k < n → se k = se2 k) : LQ w t n ch se2 :=
  ⟨h.1, fun k p q => by rw [← hs k p q]; exact h.2.1 k p q, h.2.2.1, fun k p q => by rw [← hs k p q]; exact h.2.2.2 k p q⟩
theorem hdO_some {ch : Int → Nat} {n k : Int} {r : Nat} (h : hdO n ch k = some r) : k < n ∧ r = ch k := by
  by_cases q : k < n
  · rw [hdO_s q] at h
    cases h
    exact ⟨q, rfl⟩
  · rw [hdO_n q] at h
    cases h
theorem hdO_none {ch : Int → Nat} {n k : Int} (h : hdO n ch k = none) : ¬ k < n := fun q => by
  rw [hdO_s q] at h
  cases h
theorem cw_J4_node {R : Room} {s : State} {args : Array Value} {own : String} {index lev mc ms : Nat} (hts : ∀ w ∈ lw_all, w.before args s = true) (hl : Cond.methodLink own index yJ4_node ∈ lw_all) (hR1 : (rmL lev mc ms).frames + 1 ≤ R.frames) (hR2 : 8 + (4 + 11) + (rmL lev mc ms).locals ≤ R.locals) : CallW R s args own RJ4 index yJ4_node cJ4_node 4 (some (.object "java/util/LinkedList$Node")) (ws_ yJ4_node cJ4_node 4 (some (.object "java/util/LinkedList$Node"))) (rmL lev mc ms) mc ms 1 :=
  cwV 1 hts (lw_V hl q912 q913 q114 q914) rfl rfl rfl (by decide +kernel) ⟨hR1, hR2⟩
set_option maxHeartbeats 4000000 in
theorem m_J4_node {E : jE} (l : Launch) (w : Wl) (a : Nat) (t : Nat) (mo : Int) (n1 : Int) (ch : Int → Nat) (se : Int → Nat) (i1 : Int) (h1 : w a = some (t, .inr (12, [.int (iI mo), .int (iI n1), va_rf (hdO n1 ch 0), va_rf (prO ch n1)]))) (h2 : LQ w t n1 ch se) (h3 : 0 ≤ i1 ∧ i1 < n1) : Met l yJ4_node (ws_ yJ4_node cJ4_node 4 (some (.object "java/util/LinkedList$Node"))) (rmL 1 0 0) (va_Pc [.ref a, .int (iI i1)] (jP E w)) (jQq E (fun _ : Unit => w) (fun z _ => z = some (ch i1))) 0 0 (jA E) := by
  refine j_metQ (by decide) (Nat.le_of_ble_eq_true rfl) (Or.inl ⟨_, rfl⟩) ?_
  intro p e s m args below meth c Q hx hb hml hown hnm hts hV hH hret ls hl
  have hl : lv_has ls 4 [(0, .ref a), (1, .int (iI i1))] := hl
  have hn40 := h2.1
  refine lv_iload_n hx hb dJ4_node_0 rfl (lv_at hl 1 rfl) ?_
  refine lv_aload_n hx hb dJ4_node_1 rfl (lv_at hl 0 rfl) ?_
  refine j_get hx hb hts hown hV hH h1 rfl in_J4 1 (Nat.le_of_ble_eq_true rfl) q207 (fun _ h => h) rfl dJ4_node_2 ?_
  refine j_iconst hx hb dJ4_node_5 ?_
  refine j_ishr1 hx hb dJ4_node_6 (by omega) ?_
  refine j_icmp_ge (tgt := 35) hx hb dJ4_node_7 (by decide) (by omega) (by omega) (fun c7 => ?_) (fun c7 => ?_)
  · refine lv_aload_n hx hb dJ4_node_35 rfl (lv_at hl 0 rfl) ?_
    refine j_get hx hb hts hown hV hH h1 rfl in_J4 3 (Nat.le_of_ble_eq_true rfl) q209 (fun _ h => h) rfl dJ4_node_36 ?_
    rw [prO_s (by omega)]
    refine lv_astore_n (lv' := [(2, .ref (ch (n1 - 1))), (0, .ref a), (1, .int (iI i1))]) hx hb dJ4_node_39 rfl hl (by decide) rfl (fun ls hl => ?_)
    refine lv_aload_n hx hb dJ4_node_40 rfl (lv_at hl 1 rfl) ?_
    refine j_get hx hb hts hown hV hH h1 rfl in_J4 1 (Nat.le_of_ble_eq_true rfl) q207 (fun _ h => h) rfl dJ4_node_41 ?_
    refine j_iconst hx hb dJ4_node_44 ?_
    refine j_isub hx hb dJ4_node_45 ?_
    refine j_istore_n (lv' := fun x1 => [(3, .int (iI x1)), (2, .ref (ch (n1 - 1))), (0, .ref a), (1, .int (iI i1))]) hx hb dJ4_node_46 rfl hl (by decide) (fun _ => rfl) (fun x1 ex1 ls hl => ?_)
    have L47 : ∀ (n_ : Nat), ∀ (j : Int) (hm_ : j - i1 < (n_ : Int)) (hj : i1 ≤ j ∧ j < n1) (H : Heap) (locs : List Loc), jH E s.heap w H locs → ∀ ls : Array Slot, lv_has ls 4 [(0, .ref a), (1, .int (iI i1)), (2, .ref (ch j)), (3, .int (iI j))] → W p l e (rmL 1 0 0) s m args below meth c H locs 0 0 Q (F0 m 47 ls []) := by
      intro n_
      induction n_ with
      | zero =>
        intro j hm_ hj H locs hH ls hl
        exact absurd hm_ (by omega)
      | succ n_ ih_47 =>
        intro j hm_ hj H locs hH ls hl
        have f2 : w (ch j) = some (t, .inr (13, [.ref (se j), va_rf (hdO n1 ch (j + 1)), va_rf (prO ch j)])) := h2.2.1 j (by omega) (by omega)
        refine lv_iload_n hx hb dJ4_node_47 rfl (lv_at hl 3 rfl) ?_
        refine lv_iload_n hx hb dJ4_node_48 rfl (lv_at hl 1 rfl) ?_
        refine j_icmp_le (tgt := 63) hx hb dJ4_node_49 (by decide) (by omega) (by omega) (fun c49 => ?_) (fun c49 => ?_)
        · refine lv_aload_n hx hb dJ4_node_63 rfl (lv_at hl 2 rfl) ?_
          exact hret (some (ch j)) () hH dJ4_node_64 (Nat.le_of_ble_eq_true rfl) (Nat.le_of_ble_eq_true rfl) (by rw [show j = i1 by omega])
        · refine lv_aload_n hx hb dJ4_node_52 rfl (lv_at hl 2 rfl) ?_
          refine j_get hx hb hts hown hV hH f2 rfl in_J25 2 (Nat.le_of_ble_eq_true rfl) q926 (fun _ h => h) rfl dJ4_node_53 ?_
          rw [prO_s (by omega)]
          refine lv_astore_n (lv' := [(2, .ref (ch (j - 1))), (0, .ref a), (1, .int (iI i1)), (3, .int (iI j))]) hx hb dJ4_node_56 rfl hl (by decide) rfl (fun ls hl => ?_)
          refine j_iinc (k := 3) (lv' := fun x3 => [(3, .int (iI x3)), (2, .ref (ch (j - 1))), (0, .ref a), (1, .int (iI i1))]) hx hb dJ4_node_57 hl rfl (by decide) (fun _ => rfl) (fun x3 ex3 ls hl => ?_)
          refine lv_goto (tgt := 47) hx hb dJ4_node_60 (by decide) ?_
          have hl : lv_has ls 4 [(3, .int (iI x3)), (2, .ref (ch x3)), (0, .ref a), (1, .int (iI i1))] := by subst ex3; exact hl
          exact ih_47 x3 (by omega) (by first | assumption | omega) _ _ hH ls (lv_sub hl [2, 3, 1, 0] rfl)
    have hl : lv_has ls 4 [(3, .int (iI x1)), (2, .ref (ch x1)), (0, .ref a), (1, .int (iI i1))] := by subst ex1; exact hl
    exact L47 ((x1 - i1).toNat + 1) x1 (by omega) (by first | assumption | omega) _ _ hH ls (lv_sub hl [2, 3, 1, 0] rfl)
  · refine lv_aload_n hx hb dJ4_node_10 rfl (lv_at hl 0 rfl) ?_
    refine j_get hx hb hts hown hV hH h1 rfl in_J4 2 (Nat.le_of_ble_eq_true rfl) q208 (fun _ h => h) rfl dJ4_node_11 ?_
    rw [hdO_s (by omega)]
    refine lv_astore_n (lv' := [(2, .ref (ch 0)), (0, .ref a), (1, .int (iI i1))]) hx hb dJ4_node_14 rfl hl (by decide) rfl (fun ls hl => ?_)
    refine j_iconst hx hb dJ4_node_15 ?_
    refine j_istore_n (lv' := fun x4 => [(3, .int (iI x4)), (2, .ref (ch 0)), (0, .ref a), (1, .int (iI i1))]) hx hb dJ4_node_16 rfl hl (by decide) (fun _ => rfl) (fun x4 ex4 ls hl => ?_)
    have L17 : ∀ (n_ : Nat), ∀ (j : Int) (hm_ : i1 - j < (n_ : Int)) (hj : 0 ≤ j ∧ j ≤ i1) (H : Heap) (locs : List Loc), jH E s.heap w H locs → ∀ ls : Array Slot, lv_has ls 4 [(0, .ref a), (1, .int (iI i1)), (2, .ref (ch j)), (3, .int (iI j))] → W p l e (rmL 1 0 0) s m args below meth c H locs 0 0 Q (F0 m 17 ls []) := by
      intro n_
      induction n_ with
      | zero =>
        intro j hm_ hj H locs hH ls hl
        exact absurd hm_ (by omega)
      | succ n_ ih_17 =>
        intro j hm_ hj H locs hH ls hl
        have f5 : w (ch j) = some (t, .inr (13, [.ref (se j), va_rf (hdO n1 ch (j + 1)), va_rf (prO ch j)])) := h2.2.1 j (by omega) (by omega)
        refine lv_iload_n hx hb dJ4_node_17 rfl (lv_at hl 3 rfl) ?_
        refine lv_iload_n hx hb dJ4_node_18 rfl (lv_at hl 1 rfl) ?_
        refine j_icmp_ge (tgt := 33) hx hb dJ4_node_19 (by decide) (by omega) (by omega) (fun c19 => ?_) (fun c19 => ?_)
        · refine lv_aload_n hx hb dJ4_node_33 rfl (lv_at hl 2 rfl) ?_
          exact hret (some (ch j)) () hH dJ4_node_34 (Nat.le_of_ble_eq_true rfl) (Nat.le_of_ble_eq_true rfl) (by rw [show j = i1 by omega])
        · refine lv_aload_n hx hb dJ4_node_22 rfl (lv_at hl 2 rfl) ?_
          refine j_get hx hb hts hown hV hH f5 rfl in_J25 1 (Nat.le_of_ble_eq_true rfl) q924 (fun _ h => h) rfl dJ4_node_23 ?_
          rw [hdO_s (by omega)]
          refine lv_astore_n (lv' := [(2, .ref (ch (j + 1))), (0, .ref a), (1, .int (iI i1)), (3, .int (iI j))]) hx hb dJ4_node_26 rfl hl (by decide) rfl (fun ls hl => ?_)
          refine j_iinc (k := 3) (lv' := fun x6 => [(3, .int (iI x6)), (2, .ref (ch (j + 1))), (0, .ref a), (1, .int (iI i1))]) hx hb dJ4_node_27 hl rfl (by decide) (fun _ => rfl) (fun x6 ex6 ls hl => ?_)
          refine lv_goto (tgt := 17) hx hb dJ4_node_30 (by decide) ?_
          have hl : lv_has ls 4 [(3, .int (iI x6)), (2, .ref (ch x6)), (0, .ref a), (1, .int (iI i1))] := by subst ex6; exact hl
          exact ih_17 x6 (by omega) (by first | assumption | omega) _ _ hH ls (lv_sub hl [2, 3, 1, 0] rfl)
    have hl : lv_has ls 4 [(3, .int (iI x4)), (2, .ref (ch x4)), (0, .ref a), (1, .int (iI i1))] := by subst ex4; exact hl
    exact L17 ((i1 - x4).toNat + 1) x4 (by omega) (by first | assumption | omega) _ _ hH ls (lv_sub hl [2, 3, 1, 0] rfl)
theorem cw_J4_get {R : Room} {s : State} {args : Array Value} {own : String} {index lev mc ms : Nat} (hts : ∀ w ∈ lw_all, w.before args s = true) (hl : Cond.methodLink own index yJ4_get ∈ lw_all) (hR1 : (rmL lev mc ms).frames + 1 ≤ R.frames) (hR2 : 8 + (2 + 11) + (rmL lev mc ms).locals ≤ R.locals) : CallW R s args own RJ4 index yJ4_get cJ4_get 2 (some (.object "java/lang/Object")) (ws_ yJ4_get cJ4_get 2 (some (.object "java/lang/Object"))) (rmL lev mc ms) mc ms 1 :=
  cwV 1 hts (lw_V hl q1512 q1513 q114 q1514) rfl rfl rfl (by decide +kernel) ⟨hR1, hR2⟩
set_option maxHeartbeats 4000000 in
theorem m_J4_get {E : jE} (l : Launch) (w : Wl) (a : Nat) (t : Nat) (mo : Int) (n1 : Int) (ch : Int → Nat) (se : Int → Nat) (i1 : Int) (h1 : w a = some (t, .inr (12, [.int (iI mo), .int (iI n1), va_rf (hdO n1 ch 0), va_rf (prO ch n1)]))) (h2 : LQ w t n1 ch se) (h3 : 0 ≤ i1 ∧ i1 < n1) : Met l yJ4_get (ws_ yJ4_get cJ4_get 2 (some (.object "java/lang/Object"))) (rmL 3 0 0) (va_Pc [.ref a, .int (iI i1)] (jP E w)) (jQq E (fun _ : Unit => w) (fun z _ => z = some (se i1))) 0 0 (jA E) := by
  refine j_metQ (by decide) (Nat.le_of_ble_eq_true rfl) (Or.inl ⟨_, rfl⟩) ?_
  intro p e s m args below meth c Q hx hb hml hown hnm hts hV hH hret ls hl
  have hl : lv_has ls 2 [(0, .ref a), (1, .int (iI i1))] := hl
  have hn40 := h2.1
  refine lv_aload_n hx hb dJ4_get_0 rfl (lv_at hl 0 rfl) ?_
  refine lv_iload_n hx hb dJ4_get_1 rfl (lv_at hl 1 rfl) ?_
  refine j_callvp (va_runV (As := [.int (iI i1)]) (rest := []) ⟨hx, hb, hml, hown, hts⟩ (m_J4_checkElementIndex l _ _ _ _ _ _ _ i1 (h1) (by omega) (by omega)) (cw_J4_checkElementIndex hts q1515 (Nat.le_of_ble_eq_true rfl) (Nat.le_of_ble_eq_true rfl)) (j_preV hV hH h1 rfl) rfl rfl hl.1 rfl (lv_room (Nat.le_of_ble_eq_true rfl)) dJ4_get_2 ⟨Nat.le_of_ble_eq_true rfl, Nat.le_of_ble_eq_true rfl⟩) hH (fun H locs hH => ?_)
  refine lv_aload_n hx hb dJ4_get_5 rfl (lv_at hl 0 rfl) ?_
  refine lv_iload_n hx hb dJ4_get_6 rfl (lv_at hl 1 rfl) ?_
  refine j_callqp (va_runV (As := [.int (iI i1)]) (rest := []) ⟨hx, hb, hml, hown, hts⟩ (m_J4_node l _ _ _ _ _ _ _ i1 (h1) (h2) (by omega)) (cw_J4_node hts q911 (Nat.le_of_ble_eq_true rfl) (Nat.le_of_ble_eq_true rfl)) (j_preV hV hH h1 rfl) rfl rfl hl.1 rfl (lv_room (Nat.le_of_ble_eq_true rfl)) dJ4_get_7 ⟨Nat.le_of_ble_eq_true rfl, Nat.le_of_ble_eq_true rfl⟩) hH (fun H locs hH => ?_)
  have f1 : w (ch i1) = some (t, .inr (13, [.ref (se i1), va_rf (hdO n1 ch (i1 + 1)), va_rf (prO ch i1)])) := h2.2.1 i1 (by omega) (by omega)
  refine j_get hx hb hts hown hV hH f1 rfl in_J25 0 (Nat.le_of_ble_eq_true rfl) q922 (fun _ h => h) rfl dJ4_get_10 ?_
  exact hret (some (se i1)) () hH dJ4_get_13 (Nat.le_of_ble_eq_true rfl) (Nat.le_of_ble_eq_true rfl) (by first | rfl | omega)
theorem cw_J4_isPositionIndex {R : Room} {s : State} {args : Array Value} {own : String} {index lev mc ms : Nat} (hts : ∀ w ∈ lw_all, w.before args s = true) (hl : Cond.methodLink own index yJ4_isPositionIndex ∈ lw_all) (hR1 : (rmL lev mc ms).frames + 1 ≤ R.frames) (hR2 : 8 + (2 + 11) + (rmL lev mc ms).locals ≤ R.locals) : CallW R s args own RJ4 index yJ4_isPositionIndex cJ4_isPositionIndex 2 (some .boolean) (ws_ yJ4_isPositionIndex cJ4_isPositionIndex 2 (some .boolean)) (rmL lev mc ms) mc ms 1 :=
  cwV 1 hts (lw_V hl q561 qs4 q114 q562) rfl rfl rfl (by decide +kernel) ⟨hR1, hR2⟩
set_option maxHeartbeats 4000000 in
theorem m_J4_isPositionIndex {E : jE} (l : Launch) (w : Wl) (a : Nat) (t : Nat) (mo : Int) (n1 : Int) (fi : Option Nat) (la : Option Nat) (i1 : Int) (h1 : w a = some (t, .inr (12, [.int (iI mo), .int (iI n1), va_rf fi, va_rf la]))) (h2 : -2147483648 ≤ i1 ∧ i1 ≤ 2147483647) (h3 : -2147483648 ≤ n1 ∧ n1 ≤ 2147483647) : Met l yJ4_isPositionIndex (ws_ yJ4_isPositionIndex cJ4_isPositionIndex 2 (some .boolean)) (rmL 1 0 0) (va_Pc [.ref a, .int (iI i1)] (jP E w)) (jQi E (fun _ : Unit => w) (fun z _ => z = bI (0 ≤ i1 ∧ i1 ≤ n1))) 0 0 (jA E) := by
  refine j_metZ (by decide) (Nat.le_of_ble_eq_true rfl) ?_
  intro p e s m args below meth c Q hx hb hml hown hnm hts hV hH hret ls hl
  have hl : lv_has ls 2 [(0, .ref a), (1, .int (iI i1))] := hl
  refine lv_iload_n hx hb dJ4_isPositionIndex_0 rfl (lv_at hl 1 rfl) ?_
  refine j_if_lt (tgt := 16) hx hb dJ4_isPositionIndex_1 (by decide) (by omega) (fun c1 => ?_) (fun c1 => ?_)
  · refine j_iconst hx hb dJ4_isPositionIndex_16 ?_
    exact hret () hH dJ4_isPositionIndex_17 (Nat.le_of_ble_eq_true rfl) (Nat.le_of_ble_eq_true rfl) (by decide) (by first | exact (bI_t (by omega)).symm | exact (bI_f (by omega)).symm)
  · refine lv_iload_n hx hb dJ4_isPositionIndex_4 rfl (lv_at hl 1 rfl) ?_
    refine lv_aload_n hx hb dJ4_isPositionIndex_5 rfl (lv_at hl 0 rfl) ?_
    refine j_get hx hb hts hown hV hH h1 rfl in_J4 1 (Nat.le_of_ble_eq_true rfl) q207 (fun _ h => h) rfl dJ4_isPositionIndex_6 ?_
    refine j_icmp_gt (tgt := 16) hx hb dJ4_isPositionIndex_9 (by decide) (by omega) (by omega) (fun c9 => ?_) (fun c9 => ?_)
    · refine j_iconst hx hb dJ4_isPositionIndex_16 ?_
      exact hret () hH dJ4_isPositionIndex_17 (Nat.le_of_ble_eq_true rfl) (Nat.le_of_ble_eq_true rfl) (by decide) (by first | exact (bI_t (by omega)).symm | exact (bI_f (by omega)).symm)
    · refine j_iconst hx hb dJ4_isPositionIndex_12 ?_
      refine lv_goto (tgt := 17) hx hb dJ4_isPositionIndex_13 (by decide) ?_
      exact hret () hH dJ4_isPositionIndex_17 (Nat.le_of_ble_eq_true rfl) (Nat.le_of_ble_eq_true rfl) (by decide) (by first | exact (bI_t (by omega)).symm | exact (bI_f (by omega)).symm)
theorem cw_J4_checkPositionIndex {R : Room} {s : State} {args : Array Value} {own : String} {index lev mc ms : Nat} (hts : ∀ w ∈ lw_all, w.before args s = true) (hl : Cond.methodLink own index yJ4_checkPositionIndex ∈ lw_all) (hR1 : (rmL lev mc ms).frames + 1 ≤ R.frames) (hR2 : 8 + (2 + 11) + (rmL lev mc ms).locals ≤ R.locals) : CallW R s args own RJ4 index yJ4_checkPositionIndex cJ4_checkPositionIndex 2 none (ws_ yJ4_checkPositionIndex cJ4_checkPositionIndex 2 none) (rmL lev mc ms) mc ms 1 :=
  cwV 1 hts (lw_V hl q557 qs3 q114 q558) rfl rfl rfl (by decide +kernel) ⟨hR1, hR2⟩
set_option maxHeartbeats 4000000 in
theorem m_J4_checkPositionIndex {E : jE} (l : Launch) (w : Wl) (a : Nat) (t : Nat) (mo : Int) (n1 : Int) (fi : Option Nat) (la : Option Nat) (i1 : Int) (h1 : w a = some (t, .inr (12, [.int (iI mo), .int (iI n1), va_rf fi, va_rf la]))) (h2 : 0 ≤ i1 ∧ i1 ≤ n1) (h3 : -2147483648 ≤ n1 ∧ n1 ≤ 2147483647) : Met l yJ4_checkPositionIndex (ws_ yJ4_checkPositionIndex cJ4_checkPositionIndex 2 none) (rmL 2 0 0) (va_Pc [.ref a, .int (iI i1)] (jP E w)) (jQv E (fun _ : Unit => w) (fun _ => True)) 0 0 (jA E) := by
  refine j_metV (by decide) (Nat.le_of_ble_eq_true rfl) ?_
  intro p e s m args below meth c Q hx hb hml hown hnm hts hV hH hret ls hl
  have hl : lv_has ls 2 [(0, .ref a), (1, .int (iI i1))] := hl
  refine lv_aload_n hx hb dJ4_checkPositionIndex_0 rfl (lv_at hl 0 rfl) ?_
  refine lv_iload_n hx hb dJ4_checkPositionIndex_1 rfl (lv_at hl 1 rfl) ?_
  refine j_callip (va_runV (As := [.int (iI i1)]) (rest := []) ⟨hx, hb, hml, hown, hts⟩ (m_J4_isPositionIndex l _ _ _ _ _ _ _ i1 (h1) (by omega) (by omega)) (cw_J4_isPositionIndex hts q559 (Nat.le_of_ble_eq_true rfl) (Nat.le_of_ble_eq_true rfl)) (j_preV hV hH h1 rfl) rfl rfl hl.1 rfl (lv_room (Nat.le_of_ble_eq_true rfl)) dJ4_checkPositionIndex_2 ⟨Nat.le_of_ble_eq_true rfl, Nat.le_of_ble_eq_true rfl⟩) hH (fun H locs hH => ?_)
  refine j_ifne_b (tgt := 21) hx hb dJ4_checkPositionIndex_5 (by decide) (fun c5 => ?_) (fun c5 => ?_)
  · exact hret () hH dJ4_checkPositionIndex_21 (Nat.le_of_ble_eq_true rfl) (Nat.le_of_ble_eq_true rfl) trivial
  · exact absurd h2 c5
theorem cw_J25_init {R : Room} {s : State} {args : Array Value} {own : String} {index lev mc ms : Nat} (hts : ∀ w ∈ lw_all, w.before args s = true) (hl : Cond.methodLink own index yJ25_init ∈ lw_all) (hR1 : (rmL lev mc ms).frames + 1 ≤ R.frames) (hR2 : 8 + (4 + 11) + (rmL lev mc ms).locals ≤ R.locals) : CallB R s args own index yJ25_init cJ25_init 4 none (ws_ yJ25_init cJ25_init 4 none) (rmL lev mc ms) mc ms 3 ∧ yJ25_init.name = "<init>" ∧ (Cond.instanceMethod yJ25_init).before args s = true :=
  cwI 3 hts (lw_meth q919) rfl rfl rfl (hts _ q141) (hts _ hl) (hts _ q918) rfl (by decide +kernel) ⟨hR1, hR2⟩
set_option maxHeartbeats 4000000 in
theorem m_J25_init {E : jE} (l : Launch) (w : Wl) (a : Nat) (t : Nat) (v0 : Value) (v1 : Value) (v2 : Value) (pv : Option Nat) (el : Option Nat) (nx : Option Nat) (h1 : w a = some (t, .inr (13, [v0, v1, v2]))) : Met l yJ25_init (ws_ yJ25_init cJ25_init 4 none) (rmL 2 0 0) (va_Pc [.ref a, va_rf pv, va_rf el, va_rf nx] (jP E w)) (jQv E (fun _ : Unit => up w a (t, .inr (13, [va_rf el, va_rf nx, va_rf pv]))) (fun _ => True)) 0 0 (jA E) := by
  refine j_metV (by decide) (by cases pv <;> cases el <;> cases nx <;> exact Nat.le_of_ble_eq_true rfl) ?_
  intro p e s m args below meth c Q hx hb hml hown hnm hts hV hH hret ls hl
  have hl : lv_has ls 4 [(0, .ref a), (1, va_rf pv), (2, va_rf el), (3, va_rf nx)] := by cases pv <;> cases el <;> cases nx <;> exact hl
  refine lv_aload_n hx hb dJ25_init_0 rfl (lv_at hl 0 rfl) ?_
  refine j_oinit hx hb hts hown hml q920 q158 q159 hl.1 dJ25_init_1 (Nat.le_of_ble_eq_true rfl) (Nat.le_of_ble_eq_true rfl) ?_
  refine lv_aload_n hx hb dJ25_init_4 rfl (lv_at hl 0 rfl) ?_
  refine j_aload_n hx hb dJ25_init_5 rfl (lv_at hl 2 rfl) ?_
  refine j_put hx hb hts hown hV hH h1 rfl in_J25 tyJ25 tyJ25_ok nmJ25 0 (Nat.le_of_ble_eq_true rfl) q921 (fun _ h => h) rfl (by cases el <;> rfl) (by cases el <;> rfl) (Nat.le_of_ble_eq_true rfl) dJ25_init_6 (fun H locs hH => ?_)
  have hH : jH E s.heap (up w a (t, .inr (13, [va_rf el, v1, v2]))) H locs := hH
  have hf1 : (up w a (t, .inr (13, [va_rf el, v1, v2]))) a = some (t, .inr (13, [va_rf el, v1, v2])) := up_s
  refine lv_aload_n hx hb dJ25_init_9 rfl (lv_at hl 0 rfl) ?_
  refine j_aload_n hx hb dJ25_init_10 rfl (lv_at hl 3 rfl) ?_
  refine j_put hx hb hts hown hV hH hf1 rfl in_J25 tyJ25 tyJ25_ok nmJ25 1 (Nat.le_of_ble_eq_true rfl) q923 (fun _ h => h) rfl (by cases nx <;> rfl) (by cases nx <;> rfl) (Nat.le_of_ble_eq_true rfl) dJ25_init_11 (fun H locs hH => ?_)
  have hH : jH E s.heap (up w a (t, .inr (13, [va_rf el, va_rf nx, v2]))) H locs := up2 hH
  have hf2 : (up w a (t, .inr (13, [va_rf el, va_rf nx, v2]))) a = some (t, .inr (13, [va_rf el, va_rf nx, v2])) := up_s
  refine lv_aload_n hx hb dJ25_init_14 rfl (lv_at hl 0 rfl) ?_
  refine j_aload_n hx hb dJ25_init_15 rfl (lv_at hl 1 rfl) ?_
  refine j_put hx hb hts hown hV hH hf2 rfl in_J25 tyJ25 tyJ25_ok nmJ25 2 (Nat.le_of_ble_eq_true rfl) q925 (fun _ h => h) rfl (by cases pv <;> rfl) (by cases pv <;> rfl) (Nat.le_of_ble_eq_true rfl) dJ25_init_16 (fun H locs hH => ?_)
  have hH : jH E s.heap (up w a (t, .inr (13, [va_rf el, va_rf nx, va_rf pv]))) H locs := up2 hH
  have hf3 : (up w a (t, .inr (13, [va_rf el, va_rf nx, va_rf pv]))) a = some (t, .inr (13, [va_rf el, va_rf nx, va_rf pv])) := up_s
  exact hret () hH dJ25_init_19 (Nat.le_of_ble_eq_true rfl) (Nat.le_of_ble_eq_true rfl) trivial
theorem cw_J4_linkLast {R : Room} {s : State} {args : Array Value} {own : String} {index lev mc ms : Nat} (hts : ∀ w ∈ lw_all, w.before args s = true) (hl : Cond.methodLink own index yJ4_linkLast ∈ lw_all) (hR1 : (rmL lev mc ms).frames + 1 ≤ R.frames) (hR2 : 8 + (4 + 11) + (rmL lev mc ms).locals ≤ R.locals) : CallW R s args own RJ4 index yJ4_linkLast cJ4_linkLast 4 none (ws_ yJ4_linkLast cJ4_linkLast 4 none) (rmL lev mc ms) mc ms 1 :=
  cwV 1 hts (lw_V hl q1349 q1350 q114 q1351) rfl rfl rfl (by decide +kernel) ⟨hR1, hR2⟩
set_option maxHeartbeats 4000000 in
theorem m_J4_linkLast {E : jE} (l : Launch) (w : Wl) (a : Nat) (t : Nat) (mo : Int) (n1 : Int) (ch : Int → Nat) (se : Int → Nat) (ob : Nat) (h1 : w a = some (t, .inr (12, [.int (iI mo), .int (iI n1), va_rf (hdO n1 ch 0), va_rf (prO ch n1)]))) (h2 : LQ w t n1 ch se) (h3 : OB w ob) (h4 : n1 ≤ 38) : Met l yJ4_linkLast (ws_ yJ4_linkLast cJ4_linkLast 4 none) (rmL 3 1 3) (va_Pc [.ref a, .ref ob] (jP E w)) (jQv E (fun u : Wl => u) (fun u => ∃ (ch2 : Int → Nat), u a = some (t, .inr (12, [.int (iI (mo + 1)), .int (iI (n1 + 1)), va_rf (hdO (n1 + 1) ch2 0), va_rf (prO ch2 (n1 + 1))])) ∧ (LQ u t (n1 + 1) ch2 (upz se n1 ob)) ∧ FR (fun T k => T = t ∧ (k = 22 ∨ k = 23)) w u)) 1 3 (jA E) := by
  refine j_metV (by decide) (Nat.le_of_ble_eq_true rfl) ?_
  intro p e s m args below meth c Q hx hb hml hown hnm hts hV hH hret ls hl
  have hl : lv_has ls 4 [(0, .ref a), (1, .ref ob)] := hl
  have h0 := hH.1.2
  have hR0 := hH.1
  have hk : FR (fun T k => T = t ∧ (k = 22 ∨ k = 23)) w w := FR.rf
  have hn40 := h2.1
  refine lv_aload_n hx hb dJ4_linkLast_0 rfl (lv_at hl 0 rfl) ?_
  refine j_get hx hb hts hown hV hH h1 rfl in_J4 3 (Nat.le_of_ble_eq_true rfl) q209 (fun _ h => h) rfl dJ4_linkLast_1 ?_
  refine j_astore_n (lv' := [(2, va_rf (prO ch n1)), (0, .ref a), (1, .ref ob)]) hx hb dJ4_linkLast_4 rfl hl (by decide) rfl (fun ls hl => ?_)
  refine j_new (ci := 13) hx hb hts hown hV hH rfl in_J25 tyJ25 tyJ25_ok q915 q916 q141 [.null, .null, .null] (fun j hj => by rcases j with _ | _ | _ | j <;> first | rfl | omega) (Nat.le_of_ble_eq_true rfl) (Nat.le_of_ble_eq_true rfl) dJ4_linkLast_5 (fun r5 H er5 zr5 nr5 hH => ?_)
  have hH := hH t
  obtain ⟨V1, eV1⟩ : ∃ V_ : Wl, V_ = up w r5 (t, .inr (13, [.null, .null, .null])) := ⟨_, rfl⟩
  have hH := jH_eq hH eV1
  have nwr5 : w r5 = none := hk.non_ nr5
  have hs2 : FR (fun _ _ => False) w V1 := by rw [eV1]; exact FR.new1 nr5
  have f3 : V1 a = some (t, .inr (12, [.int (iI mo), .int (iI n1), va_rf (hdO n1 ch 0), va_rf (prO ch n1)])) := hs2.at h1 (k := 22) rfl (by first | exact not_false | (intro q_; simp at q_; done) | omega)
  have p4 : LQ V1 t n1 ch se := LQ.kp h2 hs2 (by intro T k h_; first | exact h_.elim | (obtain ⟨-, rfl⟩ := h_; simp; done) | omega)
  have p5 : OB V1 ob := OB.kp h3 hs2
  have f6 : V1 r5 = some (t, .inr (13, [.null, .null, .null])) := by rw [eV1]; exact up_s
  have hk : FR (fun T k => T = t ∧ (k = 22 ∨ k = 23)) w V1 := FR.tr hk hs2 (by intro T k h_; exact h_.elim)
  refine lv_dup hx hb dJ4_linkLast_8 rfl ?_
  refine j_aload_n hx hb dJ4_linkLast_9 rfl (lv_at hl 0 rfl) ?_
  refine lv_aload_n hx hb dJ4_linkLast_10 rfl (lv_at hl 2 rfl) ?_
  refine lv_null hx hb dJ4_linkLast_11 ?_
  refine j_callvp (va_runI (As := [va_rf (prO ch n1), va_rf (some ob), va_rf none]) (rest := [.ref r5]) ⟨hx, hb, hml, hown, hts⟩ (m_J25_init l _ _ _ _ _ _ (prO ch n1) (some ob) none (f6)) (cw_J25_init hts q917 (Nat.le_of_ble_eq_true rfl) (Nat.le_of_ble_eq_true rfl)) (j_preS hV hH) rfl rfl hl.1 rfl (lv_room (Nat.le_of_ble_eq_true rfl)) dJ4_linkLast_12 ⟨Nat.le_of_ble_eq_true rfl, Nat.le_of_ble_eq_true rfl⟩) hH (fun H locs hH => ?_)
  obtain ⟨V7, eV7⟩ : ∃ V_ : Wl, V_ = up V1 r5 (t, .inr (13, [va_rf (some ob), va_rf none, va_rf (prO ch n1)])) := ⟨_, rfl⟩
  have hH := jH_eq hH eV7
  have hs8 : FR (fun T k => T = t ∧ k = 23) V1 V7 := by rw [eV7]; exact FR.one f6 rfl rfl
  have f9 : V7 a = some (t, .inr (12, [.int (iI mo), .int (iI n1), va_rf (hdO n1 ch 0), va_rf (prO ch n1)])) := hs8.at f3 (k := 22) rfl (by first | exact not_false | (intro q_; simp at q_; done) | omega)
  have p10 : LQ V7 t n1 ch se := LQ.off p4 hs8 (LQ.fr h2 nr5) eV7
  have p11 : OB V7 ob := OB.kp p5 hs8
  have f12 : V7 r5 = some (t, .inr (13, [va_rf (some ob), va_rf none, va_rf (prO ch n1)])) := by rw [eV7]; exact up_s
  have hk : FR (fun T k => T = t ∧ (k = 22 ∨ k = 23)) w V7 := by rw [eV7]; exact FR.putF hk nwr5
  refine lv_astore_n (lv' := [(3, .ref r5), (2, va_rf (prO ch n1)), (0, .ref a), (1, .ref ob)]) hx hb dJ4_linkLast_15 rfl hl (by decide) (by cases (prO ch n1) <;> rfl) (fun ls hl => ?_)
  refine lv_aload_n hx hb dJ4_linkLast_16 rfl (lv_at hl 2 rfl) ?_
  refine lv_aload_n hx hb dJ4_linkLast_17 rfl (lv_at hl 0 rfl) ?_
  refine j_put hx hb hts hown hV hH f9 rfl in_J4 tyJ4 tyJ4_ok nmJ4 3 (Nat.le_of_ble_eq_true rfl) q209 (fun _ h => h) rfl rfl rfl (Nat.le_of_ble_eq_true rfl) dJ4_linkLast_18 (fun H locs hH => ?_)
  obtain ⟨V13, eV13⟩ : ∃ V_ : Wl, V_ = up V7 a (t, .inr (12, [.int (iI mo), .int (iI n1), va_rf (hdO n1 ch 0), .ref r5])) := ⟨_, rfl⟩
  have hH := jH_eq hH eV13
  have hs14 : FR (fun T k => T = t ∧ k = 22) V7 V13 := by rw [eV13]; exact FR.one f9 rfl rfl
  have f15 : V13 r5 = some (t, .inr (13, [va_rf (some ob), va_rf none, va_rf (prO ch n1)])) := hs14.at f12 (k := 23) rfl (by first | exact not_false | (intro q_; simp at q_; done) | omega)
  have p16 : LQ V13 t n1 ch se := LQ.kp p10 hs14 (by intro T k h_; first | exact h_.elim | (obtain ⟨-, rfl⟩ := h_; simp; done) | omega)
  have p17 : OB V13 ob := OB.kp p11 hs14
  have f18 : V13 a = some (t, .inr (12, [.int (iI mo), .int (iI n1), va_rf (hdO n1 ch 0), .ref r5])) := by rw [eV13]; exact up_s
  have hk : FR (fun T k => T = t ∧ (k = 22 ∨ k = 23)) w V13 := FR.tr hk hs14 (by intro T k h_; first | exact h_.elim | (obtain ⟨rfl, rfl⟩ := h_; simp; done) | omega)
  refine j_aload_n hx hb dJ4_linkLast_21 rfl (lv_at hl 1 rfl) ?_
  rcases hq22 : (prO ch n1) with _ | r22
  · refine lv_ifnonnullN hx hb dJ4_linkLast_22 ?_
    have hl : lv_has ls 4 [(3, .ref r5), (2, .null), (0, .ref a), (1, .ref ob)] := by rw [hq22] at hl; exact hl
    have hn0 := prO_none hq22
    have p19 : LQ V13 t (n1 + 1) (upz ch n1 r5) (upz se n1 ob) := LQ.one (by omega) f15 p17
    refine lv_aload_n hx hb dJ4_linkLast_25 rfl (lv_at hl 2 rfl) ?_
    refine lv_aload_n hx hb dJ4_linkLast_26 rfl (lv_at hl 0 rfl) ?_
    refine j_put hx hb hts hown hV hH f18 rfl in_J4 tyJ4 tyJ4_ok nmJ4 2 (Nat.le_of_ble_eq_true rfl) q208 (fun _ h => h) rfl rfl rfl (Nat.le_of_ble_eq_true rfl) dJ4_linkLast_27 (fun H locs hH => ?_)
    obtain ⟨V20, eV20⟩ : ∃ V_ : Wl, V_ = up V13 a (t, .inr (12, [.int (iI mo), .int (iI n1), .ref r5, .ref r5])) := ⟨_, rfl⟩
    have hH := jH_eq hH eV20
    have hs21 : FR (fun T k => T = t ∧ k = 22) V13 V20 := by rw [eV20]; exact FR.one f18 rfl rfl
    have f22 : V20 r5 = some (t, .inr (13, [va_rf (some ob), va_rf none, va_rf (prO ch n1)])) := hs21.at f15 (k := 23) rfl (by first | exact not_false | (intro q_; simp at q_; done) | omega)
    have p23 : LQ V20 t n1 ch se := LQ.kp p16 hs21 (by intro T k h_; first | exact h_.elim | (obtain ⟨-, rfl⟩ := h_; simp; done) | omega)
    have p24 : OB V20 ob := OB.kp p17 hs21
    have p25 : LQ V20 t (n1 + 1) (upz ch n1 r5) (upz se n1 ob) := LQ.kp p19 hs21 (by intro T k h_; first | exact h_.elim | (obtain ⟨-, rfl⟩ := h_; simp; done) | omega)
    have f26 : V20 a = some (t, .inr (12, [.int (iI mo), .int (iI n1), .ref r5, .ref r5])) := by rw [eV20]; exact up_s
    have hk : FR (fun T k => T = t ∧ (k = 22 ∨ k = 23)) w V20 := FR.tr hk hs21 (by intro T k h_; first | exact h_.elim | (obtain ⟨rfl, rfl⟩ := h_; simp; done) | omega)
    refine lv_goto (tgt := 38) hx hb dJ4_linkLast_30 (by decide) ?_
    refine lv_aload_n hx hb dJ4_linkLast_38 rfl (lv_at hl 2 rfl) ?_
    refine lv_dup hx hb dJ4_linkLast_39 rfl ?_
    refine j_get hx hb hts hown hV hH f26 rfl in_J4 1 (Nat.le_of_ble_eq_true rfl) q207 (fun _ h => h) rfl dJ4_linkLast_40 ?_
    refine j_iconst hx hb dJ4_linkLast_43 ?_
    refine j_iadd hx hb dJ4_linkLast_44 ?_
    refine j_put hx hb hts hown hV hH f26 rfl in_J4 tyJ4 tyJ4_ok nmJ4 1 (Nat.le_of_ble_eq_true rfl) q207 (fun _ h => h) rfl rfl rfl (Nat.le_of_ble_eq_true rfl) dJ4_linkLast_45 (fun H locs hH => ?_)
    obtain ⟨V27, eV27⟩ : ∃ V_ : Wl, V_ = up V20 a (t, .inr (12, [.int (iI mo), .int (iI (n1 + 1)), .ref r5, .ref r5])) := ⟨_, rfl⟩
    have hH := jH_eq hH eV27
    have hs28 : FR (fun T k => T = t ∧ k = 22) V20 V27 := by rw [eV27]; exact FR.one f26 rfl rfl
    have f29 : V27 r5 = some (t, .inr (13, [va_rf (some ob), va_rf none, va_rf (prO ch n1)])) := hs28.at f22 (k := 23) rfl (by first | exact not_false | (intro q_; simp at q_; done) | omega)
    have p30 : LQ V27 t n1 ch se := LQ.kp p23 hs28 (by intro T k h_; first | exact h_.elim | (obtain ⟨-, rfl⟩ := h_; simp; done) | omega)
    have p31 : OB V27 ob := OB.kp p24 hs28
    have p32 : LQ V27 t (n1 + 1) (upz ch n1 r5) (upz se n1 ob) := LQ.kp p25 hs28 (by intro T k h_; first | exact h_.elim | (obtain ⟨-, rfl⟩ := h_; simp; done) | omega)
    have f33 : V27 a = some (t, .inr (12, [.int (iI mo), .int (iI (n1 + 1)), .ref r5, .ref r5])) := by rw [eV27]; exact up_s
    have hk : FR (fun T k => T = t ∧ (k = 22 ∨ k = 23)) w V27 := FR.tr hk hs28 (by intro T k h_; first | exact h_.elim | (obtain ⟨rfl, rfl⟩ := h_; simp; done) | omega)
    refine lv_aload_n hx hb dJ4_linkLast_48 rfl (lv_at hl 2 rfl) ?_
    refine lv_dup hx hb dJ4_linkLast_49 rfl ?_
    refine j_get hx hb hts hown hV hH f33 rfl in_J4 0 (Nat.le_of_ble_eq_true rfl) q187 (u_same (hts _ q188)) rfl dJ4_linkLast_50 ?_
    refine j_iconst hx hb dJ4_linkLast_53 ?_
    refine j_iadd hx hb dJ4_linkLast_54 ?_
    refine j_put hx hb hts hown hV hH f33 rfl in_J4 tyJ4 tyJ4_ok nmJ4 0 (Nat.le_of_ble_eq_true rfl) q187 (u_same (hts _ q188)) rfl rfl rfl (Nat.le_of_ble_eq_true rfl) dJ4_linkLast_55 (fun H locs hH => ?_)
    obtain ⟨V34, eV34⟩ : ∃ V_ : Wl, V_ = up V27 a (t, .inr (12, [.int (iI (mo + 1)), .int (iI (n1 + 1)), .ref r5, .ref r5])) := ⟨_, rfl⟩
    have hH := jH_eq hH eV34
    have hs35 : FR (fun T k => T = t ∧ k = 22) V27 V34 := by rw [eV34]; exact FR.one f33 rfl rfl
    have f36 : V34 r5 = some (t, .inr (13, [va_rf (some ob), va_rf none, va_rf (prO ch n1)])) := hs35.at f29 (k := 23) rfl (by first | exact not_false | (intro q_; simp at q_; done) | omega)
    have p37 : LQ V34 t n1 ch se := LQ.kp p30 hs35 (by intro T k h_; first | exact h_.elim | (obtain ⟨-, rfl⟩ := h_; simp; done) | omega)
    have p38 : OB V34 ob := OB.kp p31 hs35
    have p39 : LQ V34 t (n1 + 1) (upz ch n1 r5) (upz se n1 ob) := LQ.kp p32 hs35 (by intro T k h_; first | exact h_.elim | (obtain ⟨-, rfl⟩ := h_; simp; done) | omega)
    have f40 : V34 a = some (t, .inr (12, [.int (iI (mo + 1)), .int (iI (n1 + 1)), .ref r5, .ref r5])) := by rw [eV34]; exact up_s
    have hk : FR (fun T k => T = t ∧ (k = 22 ∨ k = 23)) w V34 := FR.tr hk hs35 (by intro T k h_; first | exact h_.elim | (obtain ⟨rfl, rfl⟩ := h_; simp; done) | omega)
    exact hret V34 hH dJ4_linkLast_58 (Nat.le_of_ble_eq_true rfl) (Nat.le_of_ble_eq_true rfl) (⟨upz ch n1 r5, by first | (rw [hdO_ups (by omega), prO_up (by omega)]; assumption) | (rw [hdO_upz (by omega), prO_up (by omega)]; assumption), by assumption, hk⟩)
  · refine lv_ifnonnull (tgt := 33) hx hb dJ4_linkLast_22 (by decide) ?_
    have hl : lv_has ls 4 [(3, .ref r5), (2, .ref r22), (0, .ref a), (1, .ref ob)] := by rw [hq22] at hl; exact hl
    obtain ⟨hn0, hr22⟩ := prO_some hq22
    have hne5 : r5 ≠ r22 := by rw [hr22]; exact Ne.symm (LQ.fr h2 nr5 (n1 - 1) (by omega) (by omega))
    have f41 : V13 r22 = some (t, .inr (13, [.ref (se (n1 - 1)), va_rf (hdO n1 ch (n1 - 1 + 1)), va_rf (prO ch (n1 - 1))])) := by rw [hr22]; exact p16.2.1 (n1 - 1) (by omega) (by omega)
    refine lv_aload_n hx hb dJ4_linkLast_33 rfl (lv_at hl 1 rfl) ?_
    refine lv_aload_n hx hb dJ4_linkLast_34 rfl (lv_at hl 0 rfl) ?_
    refine j_put hx hb hts hown hV hH f41 rfl in_J25 tyJ25 tyJ25_ok nmJ25 1 (Nat.le_of_ble_eq_true rfl) q924 (fun _ h => h) rfl rfl rfl (Nat.le_of_ble_eq_true rfl) dJ4_linkLast_35 (fun H locs hH => ?_)
    obtain ⟨V42, eV42⟩ : ∃ V_ : Wl, V_ = up V13 r22 (t, .inr (13, [.ref (se (n1 - 1)), .ref r5, va_rf (prO ch (n1 - 1))])) := ⟨_, rfl⟩
    have hH := jH_eq hH eV42
    have hs43 : FR (fun T k => T = t ∧ k = 23) V13 V42 := by rw [eV42]; exact FR.one f41 rfl rfl
    have f44 : V42 r5 = some (t, .inr (13, [va_rf (some ob), va_rf none, va_rf (prO ch n1)])) := by rw [eV42]; exact up_k f15 (by first | assumption | omega)
    have f45 : V42 a = some (t, .inr (12, [.int (iI mo), .int (iI n1), va_rf (hdO n1 ch 0), .ref r5])) := hs43.at f18 (k := 22) rfl (by first | exact not_false | (intro q_; simp at q_; done) | omega)
    have p46 : LQ V42 t (n1 + 1) (upz ch n1 r5) (upz se n1 ob) := LQ.ext p16 hn0 (by omega) f15 (LQ.fr h2 nr5) p17 (by rw [eV42, hr22]) (fun y hy => hy.kp hs43)
    have p47 : OB V42 ob := OB.kp p17 hs43
    have f48 : V42 r22 = some (t, .inr (13, [.ref (se (n1 - 1)), .ref r5, va_rf (prO ch (n1 - 1))])) := by rw [eV42]; exact up_s
    have hk : FR (fun T k => T = t ∧ (k = 22 ∨ k = 23)) w V42 := FR.tr hk hs43 (by intro T k h_; first | exact h_.elim | (obtain ⟨rfl, rfl⟩ := h_; simp; done) | omega)
    refine lv_aload_n hx hb dJ4_linkLast_38 rfl (lv_at hl 2 rfl) ?_
    refine lv_dup hx hb dJ4_linkLast_39 rfl ?_
    refine j_get hx hb hts hown hV hH f45 rfl in_J4 1 (Nat.le_of_ble_eq_true rfl) q207 (fun _ h => h) rfl dJ4_linkLast_40 ?_
    refine j_iconst hx hb dJ4_linkLast_43 ?_
    refine j_iadd hx hb dJ4_linkLast_44 ?_
    refine j_put hx hb hts hown hV hH f45 rfl in_J4 tyJ4 tyJ4_ok nmJ4 1 (Nat.le_of_ble_eq_true rfl) q207 (fun _ h => h) rfl rfl rfl (Nat.le_of_ble_eq_true rfl) dJ4_linkLast_45 (fun H locs hH => ?_)
    obtain ⟨V49, eV49⟩ : ∃ V_ : Wl, V_ = up V42 a (t, .inr (12, [.int (iI mo), .int (iI (n1 + 1)), va_rf (hdO n1 ch 0), .ref r5])) := ⟨_, rfl⟩
    have hH := jH_eq hH eV49
    have hs50 : FR (fun T k => T = t ∧ k = 22) V42 V49 := by rw [eV49]; exact FR.one f45 rfl rfl
    have f51 : V49 r5 = some (t, .inr (13, [va_rf (some ob), va_rf none, va_rf (prO ch n1)])) := hs50.at f44 (k := 23) rfl (by first | exact not_false | (intro q_; simp at q_; done) | omega)
    have f52 : V49 r22 = some (t, .inr (13, [.ref (se (n1 - 1)), .ref r5, va_rf (prO ch (n1 - 1))])) := hs50.at f48 (k := 23) rfl (by first | exact not_false | (intro q_; simp at q_; done) | omega)
    have p53 : LQ V49 t (n1 + 1) (upz ch n1 r5) (upz se n1 ob) := LQ.kp p46 hs50 (by intro T k h_; first | exact h_.elim | (obtain ⟨-, rfl⟩ := h_; simp; done) | omega)
    have p54 : OB V49 ob := OB.kp p47 hs50
    have f55 : V49 a = some (t, .inr (12, [.int (iI mo), .int (iI (n1 + 1)), va_rf (hdO n1 ch 0), .ref r5])) := by rw [eV49]; exact up_s
    have hk : FR (fun T k => T = t ∧ (k = 22 ∨ k = 23)) w V49 := FR.tr hk hs50 (by intro T k h_; first | exact h_.elim | (obtain ⟨rfl, rfl⟩ := h_; simp; done) | omega)
    refine lv_aload_n hx hb dJ4_linkLast_48 rfl (lv_at hl 2 rfl) ?_
    refine lv_dup hx hb dJ4_linkLast_49 rfl ?_
    refine j_get hx hb hts hown hV hH f55 rfl in_J4 0 (Nat.le_of_ble_eq_true rfl) q187 (u_same (hts _ q188)) rfl dJ4_linkLast_50 ?_
    refine j_iconst hx hb dJ4_linkLast_53 ?_
    refine j_iadd hx hb dJ4_linkLast_54 ?_
    refine j_put hx hb hts hown hV hH f55 rfl in_J4 tyJ4 tyJ4_ok nmJ4 0 (Nat.le_of_ble_eq_true rfl) q187 (u_same (hts _ q188)) rfl rfl rfl (Nat.le_of_ble_eq_true rfl) dJ4_linkLast_55 (fun H locs hH => ?_)
    obtain ⟨V56, eV56⟩ : ∃ V_ : Wl, V_ = up V49 a (t, .inr (12, [.int (iI (mo + 1)), .int (iI (n1 + 1)), va_rf (hdO n1 ch 0), .ref r5])) := ⟨_, rfl⟩
    have hH := jH_eq hH eV56
    have hs57 : FR (fun T k => T = t ∧ k = 22) V49 V56 := by rw [eV56]; exact FR.one f55 rfl rfl
    have f58 : V56 r5 = some (t, .inr (13, [va_rf (some ob), va_rf none, va_rf (prO ch n1)])) := hs57.at f51 (k := 23) rfl (by first | exact not_false | (intro q_; simp at q_; done) | omega)
    have f59 : V56 r22 = some (t, .inr (13, [.ref (se (n1 - 1)), .ref r5, va_rf (prO ch (n1 - 1))])) := hs57.at f52 (k := 23) rfl (by first | exact not_false | (intro q_; simp at q_; done) | omega)
    have p60 : LQ V56 t (n1 + 1) (upz ch n1 r5) (upz se n1 ob) := LQ.kp p53 hs57 (by intro T k h_; first | exact h_.elim | (obtain ⟨-, rfl⟩ := h_; simp; done) | omega)
    have p61 : OB V56 ob := OB.kp p54 hs57
    have f62 : V56 a = some (t, .inr (12, [.int (iI (mo + 1)), .int (iI (n1 + 1)), va_rf (hdO n1 ch 0), .ref r5])) := by rw [eV56]; exact up_s
    have hk : FR (fun T k => T = t ∧ (k = 22 ∨ k = 23)) w V56 := FR.tr hk hs57 (by intro T k h_; first | exact h_.elim | (obtain ⟨rfl, rfl⟩ := h_; simp; done) | omega)
    exact hret V56 hH dJ4_linkLast_58 (Nat.le_of_ble_eq_true rfl) (Nat.le_of_ble_eq_true rfl) (⟨upz ch n1 r5, by first | (rw [hdO_ups (by omega), prO_up (by omega)]; assumption) | (rw [hdO_upz (by omega), prO_up (by omega)]; assumption), by assumption, hk⟩)
theorem cw_J4_addLast {R : Room} {s : State} {args : Array Value} {own : String} {index lev mc ms : Nat} (hts : ∀ w ∈ lw_all, w.before args s = true) (hl : Cond.methodLink own index yJ4_addLast ∈ lw_all) (hR1 : (rmL lev mc ms).frames + 1 ≤ R.frames) (hR2 : 8 + (2 + 11) + (rmL lev mc ms).locals ≤ R.locals) : CallW R s args own RJ4 index yJ4_addLast cJ4_addLast 2 none (ws_ yJ4_addLast cJ4_addLast 2 none) (rmL lev mc ms) mc ms 1 :=
  cwV 1 hts (lw_V hl q1345 q1346 q114 q1347) rfl rfl rfl (by decide +kernel) ⟨hR1, hR2⟩
set_option maxHeartbeats 4000000 in
theorem m_J4_addLast {E : jE} (l : Launch) (w : Wl) (a : Nat) (t : Nat) (mo : Int) (n1 : Int) (ch : Int → Nat) (se : Int → Nat) (ob : Nat) (h1 : w a = some (t, .inr (12, [.int (iI mo), .int (iI n1), va_rf (hdO n1 ch 0), va_rf (prO ch n1)]))) (h2 : LQ w t n1 ch se) (h3 : OB w ob) (h4 : n1 ≤ 38) : Met l yJ4_addLast (ws_ yJ4_addLast cJ4_addLast 2 none) (rmL 4 1 3) (va_Pc [.ref a, .ref ob] (jP E w)) (jQv E (fun u : Wl => u) (fun u => ∃ (ch2 : Int → Nat), u a = some (t, .inr (12, [.int (iI (mo + 1)), .int (iI (n1 + 1)), va_rf (hdO (n1 + 1) ch2 0), va_rf (prO ch2 (n1 + 1))])) ∧ (LQ u t (n1 + 1) ch2 (upz se n1 ob)) ∧ FR (fun T k => T = t ∧ (k = 22 ∨ k = 23)) w u)) 1 3 (jA E) := by
  refine j_metV (by decide) (Nat.le_of_ble_eq_true rfl) ?_
  intro p e s m args below meth c Q hx hb hml hown hnm hts hV hH hret ls hl
  have hl : lv_has ls 2 [(0, .ref a), (1, .ref ob)] := hl
  have h0 := hH.1.2
  have hR0 := hH.1
  have hk : FR (fun T k => T = t ∧ (k = 22 ∨ k = 23)) w w := FR.rf
  refine lv_aload_n hx hb dJ4_addLast_0 rfl (lv_at hl 0 rfl) ?_
  refine lv_aload_n hx hb dJ4_addLast_1 rfl (lv_at hl 1 rfl) ?_
  refine j_callv (va_runV (As := [.ref ob]) (rest := []) ⟨hx, hb, hml, hown, hts⟩ (m_J4_linkLast l w a t mo n1 _ _ ob (h1) (h2) (h3) (by omega)) (cw_J4_linkLast hts q1348 (Nat.le_of_ble_eq_true rfl) (Nat.le_of_ble_eq_true rfl)) (j_preV hV hH h1 rfl) rfl rfl hl.1 rfl (lv_room (Nat.le_of_ble_eq_true rfl)) dJ4_addLast_2 ⟨Nat.le_of_ble_eq_true rfl, Nat.le_of_ble_eq_true rfl⟩) hH (fun U1 H locs hp hH => ?_)
  obtain ⟨ch23, f4, p5, hs2⟩ := hp
  have p6 : OB U1 ob := OB.kp h3 hs2
  have hk : FR (fun T k => T = t ∧ (k = 22 ∨ k = 23)) w U1 := FR.tr hk hs2 (by intro T k h_; first | exact h_.elim | (obtain ⟨rfl, rfl⟩ := h_; simp; done) | omega)
  exact hret U1 hH dJ4_addLast_5 (Nat.le_of_ble_eq_true rfl) (Nat.le_of_ble_eq_true rfl) (⟨_, by assumption, by assumption, hk⟩)
set_option maxHeartbeats 4000000 in
theorem m_J4_toArray {E : jE} (l : Launch) (w : Wl) (a : Nat) (t : Nat) (mo : Int) (n1 : Int) (ch : Int → Nat) (se : Int → Nat) (h1 : w a = some (t, .inr (12, [.int (iI mo), .int (iI n1), va_rf (hdO n1 ch 0), va_rf (prO ch n1)]))) (h2 : LQ w t n1 ch se) : Met l yJ4_toArray (ws_ yJ4_toArray cJ4_toArray 4 (some (.array (.object "java/lang/Object")))) (rmL 1 1 40) (va_Pc [.ref a] (jP E w)) (jQq E (fun u : Wl => u) (fun z u => ∃ (b : Nat) (g : Int → Option Nat), z = some b ∧ u b = some (2, arQ E n1.toNat g) ∧ (AO u g) ∧ (∀ j : Int, 0 ≤ j → j < n1 → g j = some (se j)) ∧ (w b = none) ∧ FR (fun T k => False) w u)) 1 40 (jA E) := by
  refine j_metQ (by decide) (Nat.le_of_ble_eq_true rfl) (Or.inr ⟨_, rfl⟩) ?_
  intro p e s m args below meth c Q hx hb hml hown hnm hts hV hH hret ls hl
  have hl : lv_has ls 4 [(0, .ref a)] := hl
  have h0 := hH.1.2
  have hR0 := hH.1
  have hk : FR (fun T k => False) w w := FR.rf
  have hn40 := h2.1
  refine lv_aload_n hx hb dJ4_toArray_0 rfl (lv_at hl 0 rfl) ?_
  refine j_get hx hb hts hown hV hH h1 rfl in_J4 1 (Nat.le_of_ble_eq_true rfl) q207 (fun _ h => h) rfl dJ4_toArray_1 ?_
  refine j_newq hx hb hts hown hV h0 hH q910 (by omega) (Nat.le_of_ble_eq_true rfl) (by show _ ≤ 40; omega) dJ4_toArray_4 (fun r4 H nr4 hH => ?_)
  refine W.widen (k := 1) (n := 40) (Nat.le_of_ble_eq_true rfl) (by show _ ≤ 40; omega) ?_
  have hH := hH 2
  obtain ⟨V1, eV1⟩ : ∃ V_ : Wl, V_ = up w r4 (2, arQ E n1.toNat (fun _ => none)) := ⟨_, rfl⟩
  have hH := jH_eq hH eV1
  have nwr4 : w r4 = none := hk.non_ nr4
  have hs2 : FR (fun _ _ => False) w V1 := by rw [eV1]; exact FR.new1 nr4
  have f3 : V1 a = some (t, .inr (12, [.int (iI mo), .int (iI n1), va_rf (hdO n1 ch 0), va_rf (prO ch n1)])) := hs2.at h1 (k := 22) rfl (by first | exact not_false | (intro q_; simp at q_; done) | omega)
  have p4 : LQ V1 t n1 ch se := LQ.kp h2 hs2 (by intro T k h_; first | exact h_.elim | (obtain ⟨-, rfl⟩ := h_; simp; done) | omega)
  have f5 : V1 r4 = some (2, arQ E n1.toNat (fun _ => none)) := by rw [eV1]; exact up_s
  have hk : FR (fun T k => False) w V1 := FR.tr hk hs2 (by intro T k h_; exact h_.elim)
  have p6 : AO V1 (fun _ => none) := AO.emp
  refine lv_astore_n (lv' := [(1, .ref r4), (0, .ref a)]) hx hb dJ4_toArray_7 rfl hl (by decide) rfl (fun ls hl => ?_)
  refine j_iconst hx hb dJ4_toArray_8 ?_
  refine j_istore_n (lv' := fun x7 => [(2, .int (iI x7)), (1, .ref r4), (0, .ref a)]) hx hb dJ4_toArray_9 rfl hl (by decide) (fun _ => rfl) (fun x7 ex7 ls hl => ?_)
  refine lv_aload_n hx hb dJ4_toArray_10 rfl (lv_at hl 2 rfl) ?_
  refine j_get hx hb hts hown hV hH f3 rfl in_J4 2 (Nat.le_of_ble_eq_true rfl) q208 (fun _ h => h) rfl dJ4_toArray_11 ?_
  refine j_astore_n (lv' := [(3, va_rf (hdO n1 ch 0)), (2, .int (iI x7)), (1, .ref r4), (0, .ref a)]) hx hb dJ4_toArray_14 rfl hl (by decide) rfl (fun ls hl => ?_)
  have L15 : ∀ (n_ : Nat), ∀ (j : Int) (g : Int → Option Nat) (W_ : Wl) (hm_ : n1 - j < (n_ : Int)) (fa : W_ a = some (t, .inr (12, [.int (iI mo), .int (iI n1), va_rf (hdO n1 ch 0), va_rf (prO ch n1)]))) (fr : W_ r4 = some (2, arQ E n1.toNat g)) (hlq : LQ W_ t n1 ch se) (hao : AO W_ g) (hk : FR (fun T k => False) w W_) (hj : 0 ≤ j ∧ j ≤ n1) (hin : ∀ k : Int, 0 ≤ k → k < j → g k = some (se k)) (H : Heap) (locs : List Loc), jH E s.heap W_ H locs → ∀ ls : Array Slot, lv_has ls 4 [(0, .ref a), (1, .ref r4), (2, .int (iI j)), (3, va_rf (hdO n1 ch j))] → W p l e (rmL 1 1 40) s m args below meth c H locs 1 40 Q (F0 m 15 ls []) := by
    intro n_
    induction n_ with
    | zero =>
      intro j g W_ hm_ fa fr hlq hao hk hj hin H locs hH ls hl
      exact absurd hm_ (by omega)
    | succ n_ ih_15 =>
      intro j g W_ hm_ fa fr hlq hao hk hj hin H locs hH ls hl
      refine j_aload_n hx hb dJ4_toArray_15 rfl (lv_at hl 3 rfl) ?_
      rcases hq16 : (hdO n1 ch j) with _ | r16
      · refine lv_ifnullN (tgt := 37) hx hb dJ4_toArray_16 (by decide) ?_
        have hl : lv_has ls 4 [(0, .ref a), (1, .ref r4), (2, .int (iI j)), (3, .null)] := by rw [hq16] at hl; exact hl
        have hjn := hdO_none hq16
        refine lv_aload_n hx hb dJ4_toArray_37 rfl (lv_at hl 1 rfl) ?_
        exact hret (some r4) W_ hH dJ4_toArray_38 (Nat.le_of_ble_eq_true rfl) (Nat.le_of_ble_eq_true rfl) (⟨r4, _, by first | rfl | omega, by assumption, by assumption, fun k p_ q_ => hin k p_ (by omega), nwr4, hk⟩)
      · refine lv_ifnull hx hb dJ4_toArray_16 ?_
        have hl : lv_has ls 4 [(0, .ref a), (1, .ref r4), (2, .int (iI j)), (3, .ref r16)] := by rw [hq16] at hl; exact hl
        obtain ⟨hjn, hr16⟩ := hdO_some hq16
        have f8 : W_ r16 = some (t, .inr (13, [.ref (se j), va_rf (hdO n1 ch (j + 1)), va_rf (prO ch j)])) := by rw [hr16]; exact hlq.2.1 j (by omega) hjn
        refine lv_aload_n hx hb dJ4_toArray_19 rfl (lv_at hl 1 rfl) ?_
        refine lv_iload_n hx hb dJ4_toArray_20 rfl (lv_at hl 2 rfl) ?_
        refine j_iinc (k := 2) (lv' := fun x9 => [(2, .int (iI x9)), (0, .ref a), (1, .ref r4), (3, .ref r16)]) hx hb dJ4_toArray_21 hl rfl (by decide) (fun _ => rfl) (fun x9 ex9 ls hl => ?_)
        refine lv_aload_n hx hb dJ4_toArray_24 rfl (lv_at hl 3 rfl) ?_
        refine j_get hx hb hts hown hV hH f8 rfl in_J25 0 (Nat.le_of_ble_eq_true rfl) q922 (fun _ h => h) rfl dJ4_toArray_25 ?_
        refine j_aastA hx hb hV h0 hH fr (j_anyO hV hH (hlq.2.2.2 j (by omega) (by omega))) (by omega) (by omega) dJ4_toArray_28 (fun H locs hH => ?_)
        obtain ⟨V10, eV10⟩ : ∃ V_ : Wl, V_ = up W_ r4 (2, arQ E n1.toNat (upz g j (some (se j)))) := ⟨_, rfl⟩
        have hH := jH_eq hH eV10
        have hs11 : FR (fun T k => T = 2 ∧ k = 4) W_ V10 := by rw [eV10]; exact FR.one fr rfl rfl
        have f12 : V10 a = some (t, .inr (12, [.int (iI mo), .int (iI n1), va_rf (hdO n1 ch 0), va_rf (prO ch n1)])) := hs11.at fa (k := 22) rfl (by first | exact not_false | (intro q_; simp at q_; done) | omega)
        have f13 : V10 r16 = some (t, .inr (13, [.ref (se j), va_rf (hdO n1 ch (j + 1)), va_rf (prO ch j)])) := hs11.at f8 (k := 23) rfl (by first | exact not_false | (intro q_; simp at q_; done) | omega)
        have p14 : LQ V10 t n1 ch se := LQ.kp hlq hs11 (by intro T k h_; first | exact h_.elim | (obtain ⟨-, rfl⟩ := h_; simp; done) | omega)
        have p15 : AO V10 (upz g j (some (se j))) := AO.put (AO.kp hao hs11) (fun y hy => by cases hy; exact (hlq.2.2.2 j (by omega) (by omega)).kp hs11)
        have f16 : V10 r4 = some (2, arQ E n1.toNat (upz g j (some (se j)))) := by rw [eV10]; exact up_s
        have hk : FR (fun T k => False) w V10 := by rw [eV10]; exact FR.putF hk nwr4
        refine lv_aload_n hx hb dJ4_toArray_29 rfl (lv_at hl 3 rfl) ?_
        refine j_get hx hb hts hown hV hH f13 rfl in_J25 1 (Nat.le_of_ble_eq_true rfl) q924 (fun _ h => h) rfl dJ4_toArray_30 ?_
        refine j_astore_n (lv' := [(3, va_rf (hdO n1 ch (j + 1))), (2, .int (iI x9)), (0, .ref a), (1, .ref r4)]) hx hb dJ4_toArray_33 rfl hl (by decide) rfl (fun ls hl => ?_)
        refine lv_goto (tgt := 15) hx hb dJ4_toArray_34 (by decide) ?_
        have hl : lv_has ls 4 [(3, va_rf (hdO n1 ch x9)), (2, .int (iI x9)), (0, .ref a), (1, .ref r4)] := by subst ex9; exact hl
        exact ih_15 x9 (upz g j (some (se j))) V10 (by omega) (f12) (f16) p14 p15 hk (by first | assumption | omega) (fun k p_ q_ => if hk_ : k = j then by rw [hk_, upz_s] else by rw [upz_n hk_]; exact hin k p_ (by omega)) _ _ hH ls (lv_sub hl [2, 3, 1, 0] rfl)
  have hl : lv_has ls 4 [(3, va_rf (hdO n1 ch x7)), (2, .int (iI x7)), (1, .ref r4), (0, .ref a)] := by subst ex7; exact hl
  exact L15 ((n1 - x7).toNat + 1) x7 (fun _ => none) V1 (by omega) (f3) (f5) p4 p6 hk (by first | assumption | omega) (fun k p_ q_ => by omega) _ _ hH ls (lv_sub hl [3, 2, 1, 0] rfl)
