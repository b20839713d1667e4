/-! THE REFERENCE's METHODS: the writers -/
set_option maxRecDepth 100000
/-- behind keep(), by cells -/
def kep (st : Ms) : Ms := fun k => if k = 2 ∨ k = 3 then kpO st k else st k
theorem kep_eq (st : Ms) : kpO st = kep st := by
  funext k b
  unfold kep
  by_cases h : k = 2 ∨ k = 3
  · rw [if_pos h]
  · rw [if_neg h]
    unfold kpO
    rw [su_n (by omega), cpO_k _ (by omega)]
    split
    · rw [su_n (by omega), dwO_k _ _ (by omega)]
    · rfl
def wrS (st : Ms) (c : Int) (P : Int → Int) : Ms := if c = 0 then sp (kep (su st 6 0 c)) P else su st 6 0 c
theorem wrS_y {st : Ms} {c : Int} {P : Int → Int} (h : c = 0) : sp (kep (su st 6 0 c)) P = wrS st c P := (if_pos h).symm
theorem wrS_n {st : Ms} {c : Int} {P : Int → Int} (h : c ≠ 0) : su st 6 0 c = wrS st c P := (if_neg h).symm
def undS (st : Ms) : Ms := if st 3 0 = 0 then su st 6 0 1 else cpO (su (su st 6 0 0) 3 0 (st 3 0 - 1)) 2 (198 * (st 3 0 - 1)) 0 0 198
def anwP (P : Int → Int) (w h : Int) : Int → Int := upz (upz (upz (upz (upz (upz (upz (upz P 0 w) 1 h) 2 0) 3 0) 4 0) 5 (-5)) 6 5) 13 0
def addP (P : Int → Int) (pa dx dy dz w h : Int) : Int → Int := upz (upz (upz (upz (upz (upz (upz (upz P (14 + 8 * P 2) pa) (14 + 8 * P 2 + 1) dx) (14 + 8 * P 2 + 2) dy) (14 + 8 * P 2 + 3) dz) (14 + 8 * P 2 + 4) w) (14 + 8 * P 2 + 5) h) (14 + 8 * P 2 + 6) 8) 2 (P 2 + 1)
def movP (P : Int → Int) (n dx dy dz : Int) : Int → Int := upz (upz (upz P (14 + 8 * n + 1) dx) (14 + 8 * n + 2) dy) (14 + 8 * n + 3) dz
def shdP (P : Int → Int) (n x : Int) : Int → Int := upz P (14 + 8 * n + 6) x
def scnP (P : Int → Int) (a b t : Int) : Int → Int := upz (upz (upz (upz P (174 + 3 * P 3) a) (174 + 3 * P 3 + 1) b) (174 + 3 * P 3 + 2) t) 3 (P 3 + 1)
def setP (P : Int → Int) (what v : Int) : Int → Int := upz P (7 + what) v
def ttlP (P : Int → Int) (x y n : Int) : Int → Int := upz (upz (upz P 11 x) 12 y) 13 n
noncomputable def nAdd (P : Int → Int) (pa dx dy dz : Int) : Int := if pa ≠ -1000 ∧ ¬ (0 ≤ pa ∧ pa < P 2) then 1 else if (pa ≠ -1000 ∧ 0 < nd P pa 4) ∨ ¬ (-200 ≤ dx ∧ dx ≤ 200) ∨ ¬ (-200 ≤ dy ∧ dy ≤ 200) ∨ ¬ (-200 ≤ dz ∧ dz ≤ 200) then 2 else if P 2 = 20 ∨ (pa ≠ -1000 ∧ 5 ≤ depO P pa) then 3 else 0
theorem nAdd_or (P : Int → Int) (pa dx dy dz : Int) : (nAdd P pa dx dy dz = 1 ∧ pa ≠ -1000 ∧ ¬ (0 ≤ pa ∧ pa < P 2)) ∨ ((pa = -1000 ∨ (0 ≤ pa ∧ pa < P 2)) ∧ ((nAdd P pa dx dy dz = 2 ∧ ((pa ≠ -1000 ∧ 0 < nd P pa 4) ∨ ¬ (-200 ≤ dx ∧ dx ≤ 200) ∨ ¬ (-200 ≤ dy ∧ dy ≤ 200) ∨ ¬ (-200 ≤ dz ∧ dz ≤ 200))) ∨ ((pa = -1000 ∨ ¬ 0 < nd P pa 4) ∧ (-200 ≤ dx ∧ dx ≤ 200) ∧ (-200 ≤ dy ∧ dy ≤ 200) ∧ (-200 ≤ dz ∧ dz ≤ 200) ∧ ((nAdd P pa dx dy dz = 3 ∧ (P 2 = 20 ∨ (pa ≠ -1000 ∧ 5 ≤ depO P pa))) ∨ (nAdd P pa dx dy dz = 0 ∧ P 2 ≠ 20 ∧ (pa = -1000 ∨ depO P pa < 5)))))) := by
  unfold nAdd
  split
  · omega
  · split
    · omega
    · split <;> omega
noncomputable def nBox (P : Int → Int) (pa dx dy dz w h : Int) : Int := if nAdd P pa dx dy dz ≠ 1 ∧ ¬ ((1 ≤ w ∧ w ≤ 100) ∧ 1 ≤ h ∧ h ≤ 100) then 2 else nAdd P pa dx dy dz
def nMove (P : Int → Int) (n dx dy dz : Int) : Int := if 0 ≤ n ∧ n < P 2 then (if (-200 ≤ dx ∧ dx ≤ 200) ∧ (-200 ≤ dy ∧ dy ≤ 200) ∧ (-200 ≤ dz ∧ dz ≤ 200) then 0 else 2) else 1
def nShd (P : Int → Int) (n x : Int) : Int := if 0 ≤ n ∧ n < P 2 then (if 0 < nd P n 4 ∧ 0 ≤ x ∧ x ≤ 15 then 0 else 2) else 1
def nRem (P : Int → Int) (n : Int) : Int := if 0 ≤ n ∧ n < P 2 then 0 else 1
def nScn (P : Int → Int) (a b t : Int) : Int := if (-20 ≤ a ∧ a ≤ 0) ∧ (0 ≤ b ∧ b ≤ 20) ∧ 1 ≤ t ∧ t ≤ 50 then (if P 3 = 8 then 2 else 0) else 1
def nTtl (P : Int → Int) (x y n : Int) : Int := if (0 ≤ x ∧ x ≤ P 0 - 1) ∧ (0 ≤ y ∧ y ≤ P 1 - 1) ∧ 1 ≤ n ∧ n ≤ 40 then 0 else 1
theorem tickO_n {P P1 : Int → Int} (h : P1 = upz P 4 (P 4 + 1)) (hs : nowO P1 = -1000) : P1 = tickO P := by
  subst h; exact (if_pos hs).symm
theorem tickO_y {P P1 : Int → Int} (h : P1 = upz P 4 (P 4 + 1)) (hs : nowO P1 ≠ -1000) : upz (upz P1 5 (twO (P 5) (sc P (nowO P1) 0) (P 8))) 6 (twO (P 6) (sc P (nowO P1) 1) (P 8)) = tickO P := by
  subst h; exact (if_neg hs).symm
theorem cw_X3_bring {R : Room} {s : State} {args : Array Value} {own : String} {index lev mc ms : Nat} (hts : ∀ w ∈ lw_all, w.before args s = true) (hl : Cond.methodLink own index yX3_bring ∈ lw_all) (hR1 : (rmL lev mc ms).frames + 1 ≤ R.frames) (hR2 : 8 + (5 + 11) + (rmL lev mc ms).locals ≤ R.locals) : CallB R s args own index yX3_bring cX3_bring 5 none (ws_ yX3_bring cX3_bring 5 none) (rmL lev mc ms) mc ms 4 ∧ (Cond.static yX3_bring).before args s = true :=
  va_cwS 4 hts (lw_S hl q2321 q116 q2322) rfl rfl rfl (by decide +kernel) ⟨hR1, hR2⟩
set_option maxHeartbeats 4000000 in
theorem m_X3_bring02 {E : jE} (l : Launch) (o : Nat) (st : Ms) (w0 : Wl) (ia : Int) (ib : Int) (h1 : 0 ≤ ia ∧ ia + 198 ≤ 198) (h2 : 0 ≤ ib ∧ ib + 198 ≤ 792) : Met l yX3_bring (ws_ yX3_bring cX3_bring 5 none) (rmL 1 0 0) (va_Pc [.ref (o + 1), .int (iI ia), .ref (o + 3), .int (iI ib)] (jP E (wM E o st w0))) (jQv E (fun u : Ms => wM E o u w0) (fun u => u = cpO (st) 0 ia 2 ib 198)) 0 0 (jA E) := by
  refine j_metV (by decide) (Nat.le_of_ble_eq_true rfl) ?_
  intro p e s m args below meth c Q hx hb hml hown hnm hts hV hH hret ls hl
  have hl : lv_has ls 5 [(0, .ref (o + 1)), (1, .int (iI ia)), (2, .ref (o + 3)), (3, .int (iI ib))] := hl
  refine j_iconst hx hb dX3_bring_0 ?_
  refine j_istore (lv' := fun x1 => [(4, .int (iI x1)), (0, .ref (o + 1)), (1, .int (iI ia)), (2, .ref (o + 3)), (3, .int (iI ib))]) hx hb dX3_bring_1 hl (by decide) (fun _ => rfl) (fun x1 ex1 ls hl => ?_)
  have L3 : ∀ (n_ : Nat), ∀ (it : Int) (hm_ : 198 - it < (n_ : Int)) (i1 : 0 ≤ it) (i2 : it ≤ 198) (H : Heap) (locs : List Loc), jH E s.heap (wM E o (cpO st 0 ia 2 ib it) w0) H locs → ∀ ls : Array Slot, lv_has ls 5 [(0, .ref (o + 1)), (1, .int (iI ia)), (2, .ref (o + 3)), (3, .int (iI ib)), (4, .int (iI it))] → W p l e (rmL 1 0 0) s m args below meth c H locs 0 0 Q (F0 m 3 ls []) := by
    intro n_
    induction n_ with
    | zero =>
      intro it hm_ i1 i2 H locs hH ls hl
      exact absurd hm_ (by omega)
    | succ n_ ih_3 =>
      intro it hm_ i1 i2 H locs hH ls hl
      refine lv_iload hx hb dX3_bring_3 (lv_at hl 4 rfl) ?_
      refine j_sipush hx hb dX3_bring_5 (by decide) ?_
      refine j_icmp_ge (tgt := 29) hx hb dX3_bring_8 (by decide) (by omega) (by omega) (fun c8 => ?_) (fun c8 => ?_)
      · exact hret (cpO st 0 ia 2 ib it) hH dX3_bring_29 (Nat.le_of_ble_eq_true rfl) (Nat.le_of_ble_eq_true rfl) ((by rw [show it = 198 by omega]))
      · refine lv_aload_n hx hb dX3_bring_11 rfl (lv_at hl 2 rfl) ?_
        refine lv_iload_n hx hb dX3_bring_12 rfl (lv_at hl 3 rfl) ?_
        refine lv_iload hx hb dX3_bring_13 (lv_at hl 4 rfl) ?_
        refine j_iadd hx hb dX3_bring_15 ?_
        refine lv_aload_n hx hb dX3_bring_16 rfl (lv_at hl 0 rfl) ?_
        refine lv_iload_n hx hb dX3_bring_17 rfl (lv_at hl 1 rfl) ?_
        refine lv_iload hx hb dX3_bring_18 (lv_at hl 4 rfl) ?_
        refine j_iadd hx hb dX3_bring_20 ?_
        refine j_iald (n := 198) hx hb hV hH wM_0 (by omega) (by omega) dX3_bring_21 ?_
        refine j_top (b := st 0 (ia + it)) (rfl) ?_
        refine j_iast (n := 792) hx hb hV hH wM_2 (by omega) (by omega) dX3_bring_22 (fun H locs hH => ?_)
        rw [wM_s2] at hH
        refine j_iinc (k := 4) (lv' := fun x2 => [(4, .int (iI x2)), (0, .ref (o + 1)), (1, .int (iI ia)), (2, .ref (o + 3)), (3, .int (iI ib))]) hx hb dX3_bring_23 hl rfl (by decide) (fun _ => rfl) (fun x2 ex2 ls hl => ?_)
        refine lv_goto (tgt := 3) hx hb dX3_bring_26 (by decide) ?_
        have hH : jH E s.heap (wM E o (cpO st 0 ia 2 ib x2) w0) H locs := by rw [ex2, ← cpO_s st (by decide) i1]; exact hH
        exact ih_3 x2 (by omega) (by first | assumption | omega) (by first | assumption | omega) _ _ hH ls (lv_sub hl [1, 2, 3, 4, 0] rfl)
  have hH : jH E s.heap (wM E o (cpO st 0 ia 2 ib x1) w0) s.heap [] := by rw [ex1, cpO_0]; exact hH
  exact L3 ((198 - x1).toNat + 1) x1 (by omega) (by first | assumption | omega) (by first | assumption | omega) _ _ hH ls (lv_sub hl [1, 2, 3, 4, 0] rfl)
set_option maxHeartbeats 4000000 in
theorem m_X3_bring20 {E : jE} (l : Launch) (o : Nat) (st : Ms) (w0 : Wl) (ia : Int) (ib : Int) (h1 : 0 ≤ ia ∧ ia + 198 ≤ 792) (h2 : 0 ≤ ib ∧ ib + 198 ≤ 198) : Met l yX3_bring (ws_ yX3_bring cX3_bring 5 none) (rmL 1 0 0) (va_Pc [.ref (o + 3), .int (iI ia), .ref (o + 1), .int (iI ib)] (jP E (wM E o st w0))) (jQv E (fun u : Ms => wM E o u w0) (fun u => u = cpO (st) 2 ia 0 ib 198)) 0 0 (jA E) := by
  refine j_metV (by decide) (Nat.le_of_ble_eq_true rfl) ?_
  intro p e s m args below meth c Q hx hb hml hown hnm hts hV hH hret ls hl
  have hl : lv_has ls 5 [(0, .ref (o + 3)), (1, .int (iI ia)), (2, .ref (o + 1)), (3, .int (iI ib))] := hl
  refine j_iconst hx hb dX3_bring_0 ?_
  refine j_istore (lv' := fun x1 => [(4, .int (iI x1)), (0, .ref (o + 3)), (1, .int (iI ia)), (2, .ref (o + 1)), (3, .int (iI ib))]) hx hb dX3_bring_1 hl (by decide) (fun _ => rfl) (fun x1 ex1 ls hl => ?_)
  have L3 : ∀ (n_ : Nat), ∀ (it : Int) (hm_ : 198 - it < (n_ : Int)) (i1 : 0 ≤ it) (i2 : it ≤ 198) (H : Heap) (locs : List Loc), jH E s.heap (wM E o (cpO st 2 ia 0 ib it) w0) H locs → ∀ ls : Array Slot, lv_has ls 5 [(0, .ref (o + 3)), (1, .int (iI ia)), (2, .ref (o + 1)), (3, .int (iI ib)), (4, .int (iI it))] → W p l e (rmL 1 0 0) s m args below meth c H locs 0 0 Q (F0 m 3 ls []) := by
    intro n_
    induction n_ with
    | zero =>
      intro it hm_ i1 i2 H locs hH ls hl
      exact absurd hm_ (by omega)
    | succ n_ ih_3 =>
      intro it hm_ i1 i2 H locs hH ls hl
      refine lv_iload hx hb dX3_bring_3 (lv_at hl 4 rfl) ?_
      refine j_sipush hx hb dX3_bring_5 (by decide) ?_
      refine j_icmp_ge (tgt := 29) hx hb dX3_bring_8 (by decide) (by omega) (by omega) (fun c8 => ?_) (fun c8 => ?_)
      · exact hret (cpO st 2 ia 0 ib it) hH dX3_bring_29 (Nat.le_of_ble_eq_true rfl) (Nat.le_of_ble_eq_true rfl) ((by rw [show it = 198 by omega]))
      · refine lv_aload_n hx hb dX3_bring_11 rfl (lv_at hl 2 rfl) ?_
        refine lv_iload_n hx hb dX3_bring_12 rfl (lv_at hl 3 rfl) ?_
        refine lv_iload hx hb dX3_bring_13 (lv_at hl 4 rfl) ?_
        refine j_iadd hx hb dX3_bring_15 ?_
        refine lv_aload_n hx hb dX3_bring_16 rfl (lv_at hl 0 rfl) ?_
        refine lv_iload_n hx hb dX3_bring_17 rfl (lv_at hl 1 rfl) ?_
        refine lv_iload hx hb dX3_bring_18 (lv_at hl 4 rfl) ?_
        refine j_iadd hx hb dX3_bring_20 ?_
        refine j_iald (n := 792) hx hb hV hH wM_2 (by omega) (by omega) dX3_bring_21 ?_
        refine j_top (b := st 2 (ia + it)) (rfl) ?_
        refine j_iast (n := 198) hx hb hV hH wM_0 (by omega) (by omega) dX3_bring_22 (fun H locs hH => ?_)
        rw [wM_s0] at hH
        refine j_iinc (k := 4) (lv' := fun x2 => [(4, .int (iI x2)), (0, .ref (o + 3)), (1, .int (iI ia)), (2, .ref (o + 1)), (3, .int (iI ib))]) hx hb dX3_bring_23 hl rfl (by decide) (fun _ => rfl) (fun x2 ex2 ls hl => ?_)
        refine lv_goto (tgt := 3) hx hb dX3_bring_26 (by decide) ?_
        have hH : jH E s.heap (wM E o (cpO st 2 ia 0 ib x2) w0) H locs := by rw [ex2, ← cpO_s st (by decide) i1]; exact hH
        exact ih_3 x2 (by omega) (by first | assumption | omega) (by first | assumption | omega) _ _ hH ls (lv_sub hl [1, 2, 3, 4, 0] rfl)
  have hH : jH E s.heap (wM E o (cpO st 2 ia 0 ib x1) w0) s.heap [] := by rw [ex1, cpO_0]; exact hH
  exact L3 ((198 - x1).toNat + 1) x1 (by omega) (by first | assumption | omega) (by first | assumption | omega) _ _ hH ls (lv_sub hl [1, 2, 3, 4, 0] rfl)
set_option maxHeartbeats 4000000 in
theorem m_X3_bring01 {E : jE} (l : Launch) (o : Nat) (st : Ms) (w0 : Wl) (ia : Int) (ib : Int) (h1 : 0 ≤ ia ∧ ia + 198 ≤ 198) (h2 : 0 ≤ ib ∧ ib + 198 ≤ 198) : Met l yX3_bring (ws_ yX3_bring cX3_bring 5 none) (rmL 1 0 0) (va_Pc [.ref (o + 1), .int (iI ia), .ref (o + 2), .int (iI ib)] (jP E (wM E o st w0))) (jQv E (fun u : Ms => wM E o u w0) (fun u => u = cpO (st) 0 ia 1 ib 198)) 0 0 (jA E) := by
  refine j_metV (by decide) (Nat.le_of_ble_eq_true rfl) ?_
  intro p e s m args below meth c Q hx hb hml hown hnm hts hV hH hret ls hl
  have hl : lv_has ls 5 [(0, .ref (o + 1)), (1, .int (iI ia)), (2, .ref (o + 2)), (3, .int (iI ib))] := hl
  refine j_iconst hx hb dX3_bring_0 ?_
  refine j_istore (lv' := fun x1 => [(4, .int (iI x1)), (0, .ref (o + 1)), (1, .int (iI ia)), (2, .ref (o + 2)), (3, .int (iI ib))]) hx hb dX3_bring_1 hl (by decide) (fun _ => rfl) (fun x1 ex1 ls hl => ?_)
  have L3 : ∀ (n_ : Nat), ∀ (it : Int) (hm_ : 198 - it < (n_ : Int)) (i1 : 0 ≤ it) (i2 : it ≤ 198) (H : Heap) (locs : List Loc), jH E s.heap (wM E o (cpO st 0 ia 1 ib it) w0) H locs → ∀ ls : Array Slot, lv_has ls 5 [(0, .ref (o + 1)), (1, .int (iI ia)), (2, .ref (o + 2)), (3, .int (iI ib)), (4, .int (iI it))] → W p l e (rmL 1 0 0) s m args below meth c H locs 0 0 Q (F0 m 3 ls []) := by
    intro n_
    induction n_ with
    | zero =>
      intro it hm_ i1 i2 H locs hH ls hl
      exact absurd hm_ (by omega)
    | succ n_ ih_3 =>
      intro it hm_ i1 i2 H locs hH ls hl
      refine lv_iload hx hb dX3_bring_3 (lv_at hl 4 rfl) ?_
      refine j_sipush hx hb dX3_bring_5 (by decide) ?_
      refine j_icmp_ge (tgt := 29) hx hb dX3_bring_8 (by decide) (by omega) (by omega) (fun c8 => ?_) (fun c8 => ?_)
      · exact hret (cpO st 0 ia 1 ib it) hH dX3_bring_29 (Nat.le_of_ble_eq_true rfl) (Nat.le_of_ble_eq_true rfl) ((by rw [show it = 198 by omega]))
      · refine lv_aload_n hx hb dX3_bring_11 rfl (lv_at hl 2 rfl) ?_
        refine lv_iload_n hx hb dX3_bring_12 rfl (lv_at hl 3 rfl) ?_
        refine lv_iload hx hb dX3_bring_13 (lv_at hl 4 rfl) ?_
        refine j_iadd hx hb dX3_bring_15 ?_
        refine lv_aload_n hx hb dX3_bring_16 rfl (lv_at hl 0 rfl) ?_
        refine lv_iload_n hx hb dX3_bring_17 rfl (lv_at hl 1 rfl) ?_
        refine lv_iload hx hb dX3_bring_18 (lv_at hl 4 rfl) ?_
        refine j_iadd hx hb dX3_bring_20 ?_
        refine j_iald (n := 198) hx hb hV hH wM_0 (by omega) (by omega) dX3_bring_21 ?_
        refine j_top (b := st 0 (ia + it)) (rfl) ?_
        refine j_iast (n := 198) hx hb hV hH wM_1 (by omega) (by omega) dX3_bring_22 (fun H locs hH => ?_)
        rw [wM_s1] at hH
        refine j_iinc (k := 4) (lv' := fun x2 => [(4, .int (iI x2)), (0, .ref (o + 1)), (1, .int (iI ia)), (2, .ref (o + 2)), (3, .int (iI ib))]) hx hb dX3_bring_23 hl rfl (by decide) (fun _ => rfl) (fun x2 ex2 ls hl => ?_)
        refine lv_goto (tgt := 3) hx hb dX3_bring_26 (by decide) ?_
        have hH : jH E s.heap (wM E o (cpO st 0 ia 1 ib x2) w0) H locs := by rw [ex2, ← cpO_s st (by decide) i1]; exact hH
        exact ih_3 x2 (by omega) (by first | assumption | omega) (by first | assumption | omega) _ _ hH ls (lv_sub hl [1, 2, 3, 4, 0] rfl)
  have hH : jH E s.heap (wM E o (cpO st 0 ia 1 ib x1) w0) s.heap [] := by rw [ex1, cpO_0]; exact hH
  exact L3 ((198 - x1).toNat + 1) x1 (by omega) (by first | assumption | omega) (by first | assumption | omega) _ _ hH ls (lv_sub hl [1, 2, 3, 4, 0] rfl)
set_option maxHeartbeats 4000000 in
theorem m_X3_bring10 {E : jE} (l : Launch) (o : Nat) (st : Ms) (w0 : Wl) (ia : Int) (ib : Int) (h1 : 0 ≤ ia ∧ ia + 198 ≤ 198) (h2 : 0 ≤ ib ∧ ib + 198 ≤ 198) : Met l yX3_bring (ws_ yX3_bring cX3_bring 5 none) (rmL 1 0 0) (va_Pc [.ref (o + 2), .int (iI ia), .ref (o + 1), .int (iI ib)] (jP E (wM E o st w0))) (jQv E (fun u : Ms => wM E o u w0) (fun u => u = cpO (st) 1 ia 0 ib 198)) 0 0 (jA E) := by
  refine j_metV (by decide) (Nat.le_of_ble_eq_true rfl) ?_
  intro p e s m args below meth c Q hx hb hml hown hnm hts hV hH hret ls hl
  have hl : lv_has ls 5 [(0, .ref (o + 2)), (1, .int (iI ia)), (2, .ref (o + 1)), (3, .int (iI ib))] := hl
  refine j_iconst hx hb dX3_bring_0 ?_
  refine j_istore (lv' := fun x1 => [(4, .int (iI x1)), (0, .ref (o + 2)), (1, .int (iI ia)), (2, .ref (o + 1)), (3, .int (iI ib))]) hx hb dX3_bring_1 hl (by decide) (fun _ => rfl) (fun x1 ex1 ls hl => ?_)
  have L3 : ∀ (n_ : Nat), ∀ (it : Int) (hm_ : 198 - it < (n_ : Int)) (i1 : 0 ≤ it) (i2 : it ≤ 198) (H : Heap) (locs : List Loc), jH E s.heap (wM E o (cpO st 1 ia 0 ib it) w0) H locs → ∀ ls : Array Slot, lv_has ls 5 [(0, .ref (o + 2)), (1, .int (iI ia)), (2, .ref (o + 1)), (3, .int (iI ib)), (4, .int (iI it))] → W p l e (rmL 1 0 0) s m args below meth c H locs 0 0 Q (F0 m 3 ls []) := by
    intro n_
    induction n_ with
    | zero =>
      intro it hm_ i1 i2 H locs hH ls hl
      exact absurd hm_ (by omega)
    | succ n_ ih_3 =>
      intro it hm_ i1 i2 H locs hH ls hl
      refine lv_iload hx hb dX3_bring_3 (lv_at hl 4 rfl) ?_
      refine j_sipush hx hb dX3_bring_5 (by decide) ?_
      refine j_icmp_ge (tgt := 29) hx hb dX3_bring_8 (by decide) (by omega) (by omega) (fun c8 => ?_) (fun c8 => ?_)
      · exact hret (cpO st 1 ia 0 ib it) hH dX3_bring_29 (Nat.le_of_ble_eq_true rfl) (Nat.le_of_ble_eq_true rfl) ((by rw [show it = 198 by omega]))
      · refine lv_aload_n hx hb dX3_bring_11 rfl (lv_at hl 2 rfl) ?_
        refine lv_iload_n hx hb dX3_bring_12 rfl (lv_at hl 3 rfl) ?_
        refine lv_iload hx hb dX3_bring_13 (lv_at hl 4 rfl) ?_
        refine j_iadd hx hb dX3_bring_15 ?_
        refine lv_aload_n hx hb dX3_bring_16 rfl (lv_at hl 0 rfl) ?_
        refine lv_iload_n hx hb dX3_bring_17 rfl (lv_at hl 1 rfl) ?_
        refine lv_iload hx hb dX3_bring_18 (lv_at hl 4 rfl) ?_
        refine j_iadd hx hb dX3_bring_20 ?_
        refine j_iald (n := 198) hx hb hV hH wM_1 (by omega) (by omega) dX3_bring_21 ?_
        refine j_top (b := st 1 (ia + it)) (rfl) ?_
        refine j_iast (n := 198) hx hb hV hH wM_0 (by omega) (by omega) dX3_bring_22 (fun H locs hH => ?_)
        rw [wM_s0] at hH
        refine j_iinc (k := 4) (lv' := fun x2 => [(4, .int (iI x2)), (0, .ref (o + 2)), (1, .int (iI ia)), (2, .ref (o + 1)), (3, .int (iI ib))]) hx hb dX3_bring_23 hl rfl (by decide) (fun _ => rfl) (fun x2 ex2 ls hl => ?_)
        refine lv_goto (tgt := 3) hx hb dX3_bring_26 (by decide) ?_
        have hH : jH E s.heap (wM E o (cpO st 1 ia 0 ib x2) w0) H locs := by rw [ex2, ← cpO_s st (by decide) i1]; exact hH
        exact ih_3 x2 (by omega) (by first | assumption | omega) (by first | assumption | omega) _ _ hH ls (lv_sub hl [1, 2, 3, 4, 0] rfl)
  have hH : jH E s.heap (wM E o (cpO st 1 ia 0 ib x1) w0) s.heap [] := by rw [ex1, cpO_0]; exact hH
  exact L3 ((198 - x1).toNat + 1) x1 (by omega) (by first | assumption | omega) (by first | assumption | omega) _ _ hH ls (lv_sub hl [1, 2, 3, 4, 0] rfl)
theorem cw_X3_keep {R : Room} {s : State} {args : Array Value} {own : String} {index lev mc ms : Nat} (hts : ∀ w ∈ lw_all, w.before args s = true) (hl : Cond.methodLink own index yX3_keep ∈ lw_all) (hR1 : (rmL lev mc ms).frames + 1 ≤ R.frames) (hR2 : 8 + (2 + 11) + (rmL lev mc ms).locals ≤ R.locals) : CallW R s args own RX3 index yX3_keep cX3_keep 2 none (ws_ yX3_keep cX3_keep 2 none) (rmL lev mc ms) mc ms 0 :=
  cwV 0 hts (lw_V hl q2318 qs47 q116 q2319) rfl rfl rfl (by decide +kernel) ⟨hR1, hR2⟩
set_option maxHeartbeats 4000000 in
theorem m_X3_keep {E : jE} (l : Launch) (o : Nat) (st : Ms) (w0 : Wl) (h1 : 0 ≤ st 3 0 ∧ st 3 0 ≤ 4) : Met l yX3_keep (ws_ yX3_keep cX3_keep 2 none) (rmL 2 0 0) (va_Pc [.ref o] (jP E (wM E o st w0))) (jQv E (fun u : Ms => wM E o u w0) (fun u => u = kep st)) 0 0 (jA E) := by
  refine j_metV (by decide) (Nat.le_of_ble_eq_true rfl) ?_
  intro p e s m args below meth c Q hx hb hml hown hnm hts hV hH hret ls hl
  have hl : lv_has ls 2 [(0, .ref o)] := hl
  refine lv_aload_n hx hb dX3_keep_0 rfl (lv_at hl 0 rfl) ?_
  refine j_get hx hb hts hown hV hH wM_o rfl in_X3 3 (Nat.le_of_ble_eq_true rfl) q2232 (fun _ h => h) rfl dX3_keep_1 ?_
  refine j_iconst hx hb dX3_keep_4 ?_
  refine j_icmp_ne (tgt := 49) hx hb dX3_keep_5 (by decide) (by omega) (by omega) (fun c5 => ?_) (fun c5 => ?_)
  · refine lv_aload_n hx hb dX3_keep_49 rfl (lv_at hl 0 rfl) ?_
    refine j_get hx hb hts hown hV hH wM_o rfl in_X3 0 (Nat.le_of_ble_eq_true rfl) q2229 (fun _ h => h) rfl dX3_keep_50 ?_
    refine j_iconst hx hb dX3_keep_53 ?_
    refine lv_aload_n hx hb dX3_keep_54 rfl (lv_at hl 0 rfl) ?_
    refine j_get hx hb hts hown hV hH wM_o rfl in_X3 2 (Nat.le_of_ble_eq_true rfl) q2231 (fun _ h => h) rfl dX3_keep_55 ?_
    refine j_sipush hx hb dX3_keep_58 (by decide) ?_
    refine lv_aload_n hx hb dX3_keep_61 rfl (lv_at hl 0 rfl) ?_
    refine j_get hx hb hts hown hV hH wM_o rfl in_X3 3 (Nat.le_of_ble_eq_true rfl) q2232 (fun _ h => h) rfl dX3_keep_62 ?_
    refine j_imul hx hb dX3_keep_65 ?_
    refine j_callvf (va_runS (As := [.ref (o + 1), .int (iI 0), .ref (o + 3), .int (iI (198 * (st 3 0)))]) (rest := []) ⟨hx, hb, hml, hown, hts⟩ (m_X3_bring02 l o st w0 0 (198 * (st 3 0)) (by omega) (by omega)) (cw_X3_bring hts q2320 (Nat.le_of_ble_eq_true rfl) (Nat.le_of_ble_eq_true rfl)) (j_preS hV hH) rfl rfl hl.1 rfl (lv_room (Nat.le_of_ble_eq_true rfl)) dX3_keep_66 ⟨Nat.le_of_ble_eq_true rfl, Nat.le_of_ble_eq_true rfl⟩) hH (fun H locs hH => ?_)
    refine lv_aload_n hx hb dX3_keep_69 rfl (lv_at hl 0 rfl) ?_
    refine lv_dup hx hb dX3_keep_70 rfl ?_
    refine j_get hx hb hts hown hV hH wM_o rfl in_X3 3 (Nat.le_of_ble_eq_true rfl) q2232 (fun _ h => h) rfl dX3_keep_71 ?_
    refine j_top (b := st 3 0) rfl ?_
    refine j_iconst hx hb dX3_keep_74 ?_
    refine j_iadd hx hb dX3_keep_75 ?_
    refine j_put hx hb hts hown hV hH wM_o rfl in_X3 tyX3 tyX3_ok nmX3 3 (Nat.le_of_ble_eq_true rfl) q2232 (fun _ h => h) rfl rfl rfl (Nat.le_of_ble_eq_true rfl) dX3_keep_76 (fun H locs hH => ?_)
    rw [wM_f3] at hH
    exact hret (su (cpO (st) 0 0 2 (198 * (st 3 0)) 198) 3 0 ((st 3 0) + 1)) hH dX3_keep_79 (Nat.le_of_ble_eq_true rfl) (Nat.le_of_ble_eq_true rfl) ((by rw [← kep_eq]; unfold kpO; first | (rw [if_neg c5]; try rfl) | (rw [if_pos c5, ← c5, show (594 : Int) = it by omega]; try rfl)))
  · refine j_iconst hx hb dX3_keep_8 ?_
    refine j_istore_n (lv' := fun x1 => [(1, .int (iI x1)), (0, .ref o)]) hx hb dX3_keep_9 rfl hl (by decide) (fun _ => rfl) (fun x1 ex1 ls hl => ?_)
    have L10 : ∀ (n_ : Nat), ∀ (it : Int) (hm_ : 594 - it < (n_ : Int)) (i1 : 0 ≤ it) (i2 : it ≤ 594) (H : Heap) (locs : List Loc), jH E s.heap (wM E o (dwO st it) w0) H locs → ∀ ls : Array Slot, lv_has ls 2 [(0, .ref o), (1, .int (iI it))] → W p l e (rmL 2 0 0) s m args below meth c H locs 0 0 Q (F0 m 10 ls []) := by
      intro n_
      induction n_ with
      | zero =>
        intro it hm_ i1 i2 H locs hH ls hl
        exact absurd hm_ (by omega)
      | succ n_ ih_10 =>
        intro it hm_ i1 i2 H locs hH ls hl
        refine lv_iload_n hx hb dX3_keep_10 rfl (lv_at hl 1 rfl) ?_
        refine j_sipush hx hb dX3_keep_11 (by decide) ?_
        refine j_icmp_ge (tgt := 39) hx hb dX3_keep_14 (by decide) (by omega) (by omega) (fun c14 => ?_) (fun c14 => ?_)
        · refine lv_aload_n hx hb dX3_keep_39 rfl (lv_at hl 0 rfl) ?_
          refine lv_dup hx hb dX3_keep_40 rfl ?_
          refine j_get hx hb hts hown hV hH wM_o rfl in_X3 3 (Nat.le_of_ble_eq_true rfl) q2232 (fun _ h => h) rfl dX3_keep_41 ?_
          refine j_top (b := st 3 0) rfl ?_
          refine j_iconst hx hb dX3_keep_44 ?_
          refine j_isub hx hb dX3_keep_45 ?_
          refine j_put hx hb hts hown hV hH wM_o rfl in_X3 tyX3 tyX3_ok nmX3 3 (Nat.le_of_ble_eq_true rfl) q2232 (fun _ h => h) rfl rfl rfl (Nat.le_of_ble_eq_true rfl) dX3_keep_46 (fun H locs hH => ?_)
          rw [wM_f3] at hH
          refine lv_aload_n hx hb dX3_keep_49 rfl (lv_at hl 0 rfl) ?_
          refine j_get hx hb hts hown hV hH wM_o rfl in_X3 0 (Nat.le_of_ble_eq_true rfl) q2229 (fun _ h => h) rfl dX3_keep_50 ?_
          refine j_iconst hx hb dX3_keep_53 ?_
          refine lv_aload_n hx hb dX3_keep_54 rfl (lv_at hl 0 rfl) ?_
          refine j_get hx hb hts hown hV hH wM_o rfl in_X3 2 (Nat.le_of_ble_eq_true rfl) q2231 (fun _ h => h) rfl dX3_keep_55 ?_
          refine j_sipush hx hb dX3_keep_58 (by decide) ?_
          refine lv_aload_n hx hb dX3_keep_61 rfl (lv_at hl 0 rfl) ?_
          refine j_get hx hb hts hown hV hH wM_o rfl in_X3 3 (Nat.le_of_ble_eq_true rfl) q2232 (fun _ h => h) rfl dX3_keep_62 ?_
          refine j_top (b := (st 3 0) - 1) rfl ?_
          refine j_imul hx hb dX3_keep_65 ?_
          refine j_callvf (va_runS (As := [.ref (o + 1), .int (iI 0), .ref (o + 3), .int (iI (198 * ((st 3 0) - 1)))]) (rest := []) ⟨hx, hb, hml, hown, hts⟩ (m_X3_bring02 l o (su (dwO st it) 3 0 ((st 3 0) - 1)) w0 0 (198 * ((st 3 0) - 1)) (by omega) (by omega)) (cw_X3_bring hts q2320 (Nat.le_of_ble_eq_true rfl) (Nat.le_of_ble_eq_true rfl)) (j_preS hV hH) rfl rfl hl.1 rfl (lv_room (Nat.le_of_ble_eq_true rfl)) dX3_keep_66 ⟨Nat.le_of_ble_eq_true rfl, Nat.le_of_ble_eq_true rfl⟩) hH (fun H locs hH => ?_)
          refine lv_aload_n hx hb dX3_keep_69 rfl (lv_at hl 0 rfl) ?_
          refine lv_dup hx hb dX3_keep_70 rfl ?_
          refine j_get hx hb hts hown hV hH wM_o rfl in_X3 3 (Nat.le_of_ble_eq_true rfl) q2232 (fun _ h => h) rfl dX3_keep_71 ?_
          refine j_top (b := (st 3 0) - 1) rfl ?_
          refine j_iconst hx hb dX3_keep_74 ?_
          refine j_iadd hx hb dX3_keep_75 ?_
          refine j_put hx hb hts hown hV hH wM_o rfl in_X3 tyX3 tyX3_ok nmX3 3 (Nat.le_of_ble_eq_true rfl) q2232 (fun _ h => h) rfl rfl rfl (Nat.le_of_ble_eq_true rfl) dX3_keep_76 (fun H locs hH => ?_)
          rw [wM_f3] at hH
          exact hret (su (cpO ((su (dwO st it) 3 0 ((st 3 0) - 1))) 0 0 2 (198 * ((st 3 0) - 1)) 198) 3 0 (((st 3 0) - 1) + 1)) hH dX3_keep_79 (Nat.le_of_ble_eq_true rfl) (Nat.le_of_ble_eq_true rfl) ((by rw [← kep_eq]; unfold kpO; first | (rw [if_neg c5]; try rfl) | (rw [if_pos c5, ← c5, show (594 : Int) = it by omega]; try rfl)))
        · refine lv_aload_n hx hb dX3_keep_17 rfl (lv_at hl 0 rfl) ?_
          refine j_get hx hb hts hown hV hH wM_o rfl in_X3 2 (Nat.le_of_ble_eq_true rfl) q2231 (fun _ h => h) rfl dX3_keep_18 ?_
          refine lv_iload_n hx hb dX3_keep_21 rfl (lv_at hl 1 rfl) ?_
          refine lv_aload_n hx hb dX3_keep_22 rfl (lv_at hl 0 rfl) ?_
          refine j_get hx hb hts hown hV hH wM_o rfl in_X3 2 (Nat.le_of_ble_eq_true rfl) q2231 (fun _ h => h) rfl dX3_keep_23 ?_
          refine lv_iload_n hx hb dX3_keep_26 rfl (lv_at hl 1 rfl) ?_
          refine j_sipush hx hb dX3_keep_27 (by decide) ?_
          refine j_iadd hx hb dX3_keep_30 ?_
          refine j_iald (n := 792) hx hb hV hH wM_2 (by omega) (by omega) dX3_keep_31 ?_
          refine j_iast (n := 792) hx hb hV hH wM_2 (by omega) (by omega) dX3_keep_32 (fun H locs hH => ?_)
          rw [wM_s2] at hH
          refine j_iinc (k := 1) (lv' := fun x2 => [(1, .int (iI x2)), (0, .ref o)]) hx hb dX3_keep_33 hl rfl (by decide) (fun _ => rfl) (fun x2 ex2 ls hl => ?_)
          refine lv_goto (tgt := 10) hx hb dX3_keep_36 (by decide) ?_
          have hH : jH E s.heap (wM E o (dwO st x2) w0) H locs := by rw [ex2, ← dwO_s st i1]; exact hH
          exact ih_10 x2 (by omega) (by first | assumption | omega) (by first | assumption | omega) _ _ hH ls (lv_sub hl [1, 0] rfl)
    have hH : jH E s.heap (wM E o (dwO st x1) w0) s.heap [] := by rw [ex1, dwO_0]; exact hH
    exact L10 ((594 - x1).toNat + 1) x1 (by omega) (by first | assumption | omega) (by first | assumption | omega) _ _ hH ls (lv_sub hl [1, 0] rfl)
theorem cw_X3_anew {R : Room} {s : State} {args : Array Value} {own : String} {index lev mc ms : Nat} (hts : ∀ w ∈ lw_all, w.before args s = true) (hl : Cond.methodLink own index yX3_anew ∈ lw_all) (hR1 : (rmL lev mc ms).frames + 1 ≤ R.frames) (hR2 : 8 + (3 + 11) + (rmL lev mc ms).locals ≤ R.locals) : CallW R s args own RX3 index yX3_anew cX3_anew 3 none (ws_ yX3_anew cX3_anew 3 none) (rmL lev mc ms) mc ms 2 :=
  cwV 2 hts (lw_V hl q2227 qs46 q116 q2228) rfl rfl rfl (by decide +kernel) ⟨hR1, hR2⟩
set_option maxHeartbeats 4000000 in
theorem m_X3_anew {E : jE} (l : Launch) (o : Nat) (st : Ms) (w0 : Wl) (w1 : Int) (h1_ : Int) : Met l yX3_anew (ws_ yX3_anew cX3_anew 3 none) (rmL 1 0 0) (va_Pc [.ref o, .int (iI w1), .int (iI h1_)] (jP E (wM E o st w0))) (jQv E (fun u : Ms => wM E o u w0) (fun u => u = sp st (anwP (st 0) w1 h1_))) 0 0 (jA E) := by
  refine j_metV (by decide) (Nat.le_of_ble_eq_true rfl) ?_
  intro p e s m args below meth c Q hx hb hml hown hnm hts hV hH hret ls hl
  have hl : lv_has ls 3 [(0, .ref o), (1, .int (iI w1)), (2, .int (iI h1_))] := hl
  refine lv_aload_n hx hb dX3_anew_0 rfl (lv_at hl 0 rfl) ?_
  refine j_get hx hb hts hown hV hH wM_o rfl in_X3 0 (Nat.le_of_ble_eq_true rfl) q2229 (fun _ h => h) rfl dX3_anew_1 ?_
  refine j_iconst hx hb dX3_anew_4 ?_
  refine lv_iload_n hx hb dX3_anew_5 rfl (lv_at hl 1 rfl) ?_
  refine j_iast (n := 198) hx hb hV hH wM_0 (by omega) (by omega) dX3_anew_6 (fun H locs hH => ?_)
  rw [wM_s0] at hH
  refine lv_aload_n hx hb dX3_anew_7 rfl (lv_at hl 0 rfl) ?_
  refine j_get hx hb hts hown hV hH wM_o rfl in_X3 0 (Nat.le_of_ble_eq_true rfl) q2229 (fun _ h => h) rfl dX3_anew_8 ?_
  refine j_iconst hx hb dX3_anew_11 ?_
  refine lv_iload_n hx hb dX3_anew_12 rfl (lv_at hl 2 rfl) ?_
  refine j_iast (n := 198) hx hb hV hH wM_0 (by omega) (by omega) dX3_anew_13 (fun H locs hH => ?_)
  rw [wM_s0] at hH
  refine lv_aload_n hx hb dX3_anew_14 rfl (lv_at hl 0 rfl) ?_
  refine j_get hx hb hts hown hV hH wM_o rfl in_X3 0 (Nat.le_of_ble_eq_true rfl) q2229 (fun _ h => h) rfl dX3_anew_15 ?_
  refine j_iconst hx hb dX3_anew_18 ?_
  refine j_iconst hx hb dX3_anew_19 ?_
  refine j_iast (n := 198) hx hb hV hH wM_0 (by omega) (by omega) dX3_anew_20 (fun H locs hH => ?_)
  rw [wM_s0] at hH
  refine lv_aload_n hx hb dX3_anew_21 rfl (lv_at hl 0 rfl) ?_
  refine j_get hx hb hts hown hV hH wM_o rfl in_X3 0 (Nat.le_of_ble_eq_true rfl) q2229 (fun _ h => h) rfl dX3_anew_22 ?_
  refine j_iconst hx hb dX3_anew_25 ?_
  refine j_iconst hx hb dX3_anew_26 ?_
  refine j_iast (n := 198) hx hb hV hH wM_0 (by omega) (by omega) dX3_anew_27 (fun H locs hH => ?_)
  rw [wM_s0] at hH
  refine lv_aload_n hx hb dX3_anew_28 rfl (lv_at hl 0 rfl) ?_
  refine j_get hx hb hts hown hV hH wM_o rfl in_X3 0 (Nat.le_of_ble_eq_true rfl) q2229 (fun _ h => h) rfl dX3_anew_29 ?_
  refine j_iconst hx hb dX3_anew_32 ?_
  refine j_iconst hx hb dX3_anew_33 ?_
  refine j_iast (n := 198) hx hb hV hH wM_0 (by omega) (by omega) dX3_anew_34 (fun H locs hH => ?_)
  rw [wM_s0] at hH
  refine lv_aload_n hx hb dX3_anew_35 rfl (lv_at hl 0 rfl) ?_
  refine j_get hx hb hts hown hV hH wM_o rfl in_X3 0 (Nat.le_of_ble_eq_true rfl) q2229 (fun _ h => h) rfl dX3_anew_36 ?_
  refine j_iconst hx hb dX3_anew_39 ?_
  refine j_bipush hx hb dX3_anew_40 (by decide) ?_
  refine j_iast (n := 198) hx hb hV hH wM_0 (by omega) (by omega) dX3_anew_42 (fun H locs hH => ?_)
  rw [wM_s0] at hH
  refine lv_aload_n hx hb dX3_anew_43 rfl (lv_at hl 0 rfl) ?_
  refine j_get hx hb hts hown hV hH wM_o rfl in_X3 0 (Nat.le_of_ble_eq_true rfl) q2229 (fun _ h => h) rfl dX3_anew_44 ?_
  refine j_bipush hx hb dX3_anew_47 (by decide) ?_
  refine j_iconst hx hb dX3_anew_49 ?_
  refine j_iast (n := 198) hx hb hV hH wM_0 (by omega) (by omega) dX3_anew_50 (fun H locs hH => ?_)
  rw [wM_s0] at hH
  refine lv_aload_n hx hb dX3_anew_51 rfl (lv_at hl 0 rfl) ?_
  refine j_get hx hb hts hown hV hH wM_o rfl in_X3 0 (Nat.le_of_ble_eq_true rfl) q2229 (fun _ h => h) rfl dX3_anew_52 ?_
  refine j_bipush hx hb dX3_anew_55 (by decide) ?_
  refine j_iconst hx hb dX3_anew_57 ?_
  refine j_iast (n := 198) hx hb hV hH wM_0 (by omega) (by omega) dX3_anew_58 (fun H locs hH => ?_)
  rw [wM_s0] at hH
  exact hret (su (su (su (su (su (su (su (su st 0 0 w1) 0 1 h1_) 0 2 0) 0 3 0) 0 4 0) 0 5 (-5)) 0 6 5) 0 13 0) hH dX3_anew_59 (Nat.le_of_ble_eq_true rfl) (Nat.le_of_ble_eq_true rfl) ((by simp only [sp_su, sp_sp, sp_0]; try rfl))
theorem cw_X3_begins {R : Room} {s : State} {args : Array Value} {own : String} {index lev mc ms : Nat} (hts : ∀ w ∈ lw_all, w.before args s = true) (hl : Cond.methodLink own index yX3_begins ∈ lw_all) (hR1 : (rmL lev mc ms).frames + 1 ≤ R.frames) (hR2 : 8 + (4 + 11) + (rmL lev mc ms).locals ≤ R.locals) : CallW R s args own RX3 index yX3_begins cX3_begins 4 (some .int) (ws_ yX3_begins cX3_begins 4 (some .int)) (rmL lev mc ms) mc ms 2 :=
  cwV 2 hts (lw_V hl q2325 qs48 q116 q2326) rfl rfl rfl (by decide +kernel) ⟨hR1, hR2⟩
set_option maxHeartbeats 4000000 in
theorem m_X3_begins {E : jE} (l : Launch) (o : Nat) (st : Ms) (w0 : Wl) (w1 : Int) (h1_ : Int) : Met l yX3_begins (ws_ yX3_begins cX3_begins 4 (some .int)) (rmL 2 0 0) (va_Pc [.ref o, .int (iI w1), .int (iI h1_)] (jP E (wM E o st w0))) (jQi E (fun u : Ms => wM E o u w0) (fun z u => z = st 0 4 ∧ u = sp st (anwP (st 0) w1 h1_))) 0 0 (jA E) := by
  refine j_metI (by decide) (Nat.le_of_ble_eq_true rfl) ?_
  intro p e s m args below meth c Q hx hb hml hown hnm hts hV hH hret ls hl
  have hl : lv_has ls 4 [(0, .ref o), (1, .int (iI w1)), (2, .int (iI h1_))] := hl
  refine lv_aload_n hx hb dX3_begins_0 rfl (lv_at hl 0 rfl) ?_
  refine j_get hx hb hts hown hV hH wM_o rfl in_X3 0 (Nat.le_of_ble_eq_true rfl) q2229 (fun _ h => h) rfl dX3_begins_1 ?_
  refine j_iconst hx hb dX3_begins_4 ?_
  refine j_iald (n := 198) hx hb hV hH wM_0 (by omega) (by omega) dX3_begins_5 ?_
  refine j_istore_n (lv' := fun x1 => [(3, .int (iI x1)), (0, .ref o), (1, .int (iI w1)), (2, .int (iI h1_))]) hx hb dX3_begins_6 rfl hl (by decide) (fun _ => rfl) (fun x1 ex1 ls hl => ?_)
  refine lv_aload_n hx hb dX3_begins_7 rfl (lv_at hl 1 rfl) ?_
  refine lv_iload_n hx hb dX3_begins_8 rfl (lv_at hl 2 rfl) ?_
  refine lv_iload_n hx hb dX3_begins_9 rfl (lv_at hl 3 rfl) ?_
  refine j_callvf (va_runV (As := [.int (iI w1), .int (iI h1_)]) (rest := []) ⟨hx, hb, hml, hown, hts⟩ (m_X3_anew l o st w0 w1 h1_) (cw_X3_anew hts q2225 (Nat.le_of_ble_eq_true rfl) (Nat.le_of_ble_eq_true rfl)) (j_preV hV hH wM_o rfl) rfl rfl hl.1 rfl (lv_room (Nat.le_of_ble_eq_true rfl)) dX3_begins_10 ⟨Nat.le_of_ble_eq_true rfl, Nat.le_of_ble_eq_true rfl⟩) hH (fun H locs hH => ?_)
  refine lv_iload_n hx hb dX3_begins_13 rfl (lv_at hl 0 rfl) ?_
  exact hret (sp st (anwP (st 0) w1 h1_)) hH dX3_begins_14 (Nat.le_of_ble_eq_true rfl) (Nat.le_of_ble_eq_true rfl) ⟨by first | rfl | omega, rfl⟩
theorem cw_X3_adds {R : Room} {s : State} {args : Array Value} {own : String} {index lev mc ms : Nat} (hts : ∀ w ∈ lw_all, w.before args s = true) (hl : Cond.methodLink own index yX3_adds ∈ lw_all) (hR1 : (rmL lev mc ms).frames + 1 ≤ R.frames) (hR2 : 8 + (8 + 11) + (rmL lev mc ms).locals ≤ R.locals) : CallW R s args own RX3 index yX3_adds cX3_adds 8 (some .int) (ws_ yX3_adds cX3_adds 8 (some .int)) (rmL lev mc ms) mc ms 6 :=
  cwV 6 hts (lw_V hl q2356 qs54 q116 q2357) rfl rfl rfl (by decide +kernel) ⟨hR1, hR2⟩
set_option maxHeartbeats 4000000 in
theorem m_X3_adds {E : jE} (l : Launch) (o : Nat) (st : Ms) (w0 : Wl) (pa : Int) (dx : Int) (dy : Int) (dz : Int) (w1 : Int) (h1_ : Int) (h1 : 0 ≤ st 0 2 ∧ st 0 2 < 20) : Met l yX3_adds (ws_ yX3_adds cX3_adds 8 (some .int)) (rmL 1 0 0) (va_Pc [.ref o, .int (iI pa), .int (iI dx), .int (iI dy), .int (iI dz), .int (iI w1), .int (iI h1_)] (jP E (wM E o st w0))) (jQi E (fun u : Ms => wM E o u w0) (fun z u => z = st 0 2 ∧ u = sp st (addP (st 0) pa dx dy dz w1 h1_))) 0 0 (jA E) := by
  refine j_metI (by decide) (Nat.le_of_ble_eq_true rfl) ?_
  intro p e s m args below meth c Q hx hb hml hown hnm hts hV hH hret ls hl
  have hl : lv_has ls 8 [(0, .ref o), (1, .int (iI pa)), (2, .int (iI dx)), (3, .int (iI dy)), (4, .int (iI dz)), (5, .int (iI w1)), (6, .int (iI h1_))] := hl
  refine j_bipush hx hb dX3_adds_0 (by decide) ?_
  refine j_bipush hx hb dX3_adds_2 (by decide) ?_
  refine lv_aload_n hx hb dX3_adds_4 rfl (lv_at hl 0 rfl) ?_
  refine j_get hx hb hts hown hV hH wM_o rfl in_X3 0 (Nat.le_of_ble_eq_true rfl) q2229 (fun _ h => h) rfl dX3_adds_5 ?_
  refine j_iconst hx hb dX3_adds_8 ?_
  refine j_iald (n := 198) hx hb hV hH wM_0 (by omega) (by omega) dX3_adds_9 ?_
  refine j_imul hx hb dX3_adds_10 ?_
  refine j_iadd hx hb dX3_adds_11 ?_
  refine j_istore (lv' := fun x1 => [(7, .int (iI x1)), (0, .ref o), (1, .int (iI pa)), (2, .int (iI dx)), (3, .int (iI dy)), (4, .int (iI dz)), (5, .int (iI w1)), (6, .int (iI h1_))]) hx hb dX3_adds_12 hl (by decide) (fun _ => rfl) (fun x1 ex1 ls hl => ?_)
  refine lv_aload_n hx hb dX3_adds_14 rfl (lv_at hl 1 rfl) ?_
  refine j_get hx hb hts hown hV hH wM_o rfl in_X3 0 (Nat.le_of_ble_eq_true rfl) q2229 (fun _ h => h) rfl dX3_adds_15 ?_
  refine lv_iload hx hb dX3_adds_18 (lv_at hl 0 rfl) ?_
  refine lv_iload_n hx hb dX3_adds_20 rfl (lv_at hl 2 rfl) ?_
  refine j_iast (n := 198) hx hb hV hH wM_0 (by omega) (by omega) dX3_adds_21 (fun H locs hH => ?_)
  rw [wM_s0] at hH
  refine lv_aload_n hx hb dX3_adds_22 rfl (lv_at hl 1 rfl) ?_
  refine j_get hx hb hts hown hV hH wM_o rfl in_X3 0 (Nat.le_of_ble_eq_true rfl) q2229 (fun _ h => h) rfl dX3_adds_23 ?_
  refine lv_iload hx hb dX3_adds_26 (lv_at hl 0 rfl) ?_
  refine j_iconst hx hb dX3_adds_28 ?_
  refine j_iadd hx hb dX3_adds_29 ?_
  refine lv_iload_n hx hb dX3_adds_30 rfl (lv_at hl 3 rfl) ?_
  refine j_iast (n := 198) hx hb hV hH wM_0 (by omega) (by omega) dX3_adds_31 (fun H locs hH => ?_)
  rw [wM_s0] at hH
  refine lv_aload_n hx hb dX3_adds_32 rfl (lv_at hl 1 rfl) ?_
  refine j_get hx hb hts hown hV hH wM_o rfl in_X3 0 (Nat.le_of_ble_eq_true rfl) q2229 (fun _ h => h) rfl dX3_adds_33 ?_
  refine lv_iload hx hb dX3_adds_36 (lv_at hl 0 rfl) ?_
  refine j_iconst hx hb dX3_adds_38 ?_
  refine j_iadd hx hb dX3_adds_39 ?_
  refine lv_iload_n hx hb dX3_adds_40 rfl (lv_at hl 4 rfl) ?_
  refine j_iast (n := 198) hx hb hV hH wM_0 (by omega) (by omega) dX3_adds_41 (fun H locs hH => ?_)
  rw [wM_s0] at hH
  refine lv_aload_n hx hb dX3_adds_42 rfl (lv_at hl 1 rfl) ?_
  refine j_get hx hb hts hown hV hH wM_o rfl in_X3 0 (Nat.le_of_ble_eq_true rfl) q2229 (fun _ h => h) rfl dX3_adds_43 ?_
  refine lv_iload hx hb dX3_adds_46 (lv_at hl 0 rfl) ?_
  refine j_iconst hx hb dX3_adds_48 ?_
  refine j_iadd hx hb dX3_adds_49 ?_
  refine lv_iload hx hb dX3_adds_50 (lv_at hl 5 rfl) ?_
  refine j_iast (n := 198) hx hb hV hH wM_0 (by omega) (by omega) dX3_adds_52 (fun H locs hH => ?_)
  rw [wM_s0] at hH
  refine lv_aload_n hx hb dX3_adds_53 rfl (lv_at hl 1 rfl) ?_
  refine j_get hx hb hts hown hV hH wM_o rfl in_X3 0 (Nat.le_of_ble_eq_true rfl) q2229 (fun _ h => h) rfl dX3_adds_54 ?_
  refine lv_iload hx hb dX3_adds_57 (lv_at hl 0 rfl) ?_
  refine j_iconst hx hb dX3_adds_59 ?_
  refine j_iadd hx hb dX3_adds_60 ?_
  refine lv_iload hx hb dX3_adds_61 (lv_at hl 6 rfl) ?_
  refine j_iast (n := 198) hx hb hV hH wM_0 (by omega) (by omega) dX3_adds_63 (fun H locs hH => ?_)
  rw [wM_s0] at hH
  refine lv_aload_n hx hb dX3_adds_64 rfl (lv_at hl 1 rfl) ?_
  refine j_get hx hb hts hown hV hH wM_o rfl in_X3 0 (Nat.le_of_ble_eq_true rfl) q2229 (fun _ h => h) rfl dX3_adds_65 ?_
  refine lv_iload hx hb dX3_adds_68 (lv_at hl 0 rfl) ?_
  refine j_iconst hx hb dX3_adds_70 ?_
  refine j_iadd hx hb dX3_adds_71 ?_
  refine lv_iload hx hb dX3_adds_72 (lv_at hl 7 rfl) ?_
  refine j_iast (n := 198) hx hb hV hH wM_0 (by omega) (by omega) dX3_adds_74 (fun H locs hH => ?_)
  rw [wM_s0] at hH
  refine lv_aload_n hx hb dX3_adds_75 rfl (lv_at hl 1 rfl) ?_
  refine j_get hx hb hts hown hV hH wM_o rfl in_X3 0 (Nat.le_of_ble_eq_true rfl) q2229 (fun _ h => h) rfl dX3_adds_76 ?_
  refine lv_iload hx hb dX3_adds_79 (lv_at hl 0 rfl) ?_
  refine j_bipush hx hb dX3_adds_81 (by decide) ?_
  refine j_iadd hx hb dX3_adds_83 ?_
  refine j_bipush hx hb dX3_adds_84 (by decide) ?_
  refine j_iast (n := 198) hx hb hV hH wM_0 (by omega) (by omega) dX3_adds_86 (fun H locs hH => ?_)
  rw [wM_s0] at hH
  refine lv_aload_n hx hb dX3_adds_87 rfl (lv_at hl 1 rfl) ?_
  refine j_get hx hb hts hown hV hH wM_o rfl in_X3 0 (Nat.le_of_ble_eq_true rfl) q2229 (fun _ h => h) rfl dX3_adds_88 ?_
  refine j_iconst hx hb dX3_adds_91 ?_
  refine lv_dup2_11 hx hb dX3_adds_92 rfl rfl ?_
  refine j_iald (n := 198) hx hb hV hH wM_0 (by omega) (by omega) dX3_adds_93 ?_
  refine j_top (b := st 0 2) (by repeat rw [su_m (by omega)]) ?_
  refine j_iconst hx hb dX3_adds_94 ?_
  refine j_iadd hx hb dX3_adds_95 ?_
  refine j_iast (n := 198) hx hb hV hH wM_0 (by omega) (by omega) dX3_adds_96 (fun H locs hH => ?_)
  rw [wM_s0] at hH
  refine lv_aload_n hx hb dX3_adds_97 rfl (lv_at hl 1 rfl) ?_
  refine j_get hx hb hts hown hV hH wM_o rfl in_X3 0 (Nat.le_of_ble_eq_true rfl) q2229 (fun _ h => h) rfl dX3_adds_98 ?_
  refine j_iconst hx hb dX3_adds_101 ?_
  refine j_iald (n := 198) hx hb hV hH wM_0 (by omega) (by omega) dX3_adds_102 ?_
  refine j_top (b := (st 0 2) + 1) (rfl) ?_
  refine j_iconst hx hb dX3_adds_103 ?_
  refine j_isub hx hb dX3_adds_104 ?_
  exact hret (su (su (su (su (su (su (su (su st 0 x1 pa) 0 (x1 + 1) dx) 0 (x1 + 2) dy) 0 (x1 + 3) dz) 0 (x1 + 4) w1) 0 (x1 + 5) h1_) 0 (x1 + 6) 8) 0 2 ((st 0 2) + 1)) hH dX3_adds_105 (Nat.le_of_ble_eq_true rfl) (Nat.le_of_ble_eq_true rfl) (⟨by omega, by simp only [sp_su, sp_sp, sp_0]; rw [ex1]; try rfl⟩)
theorem cw_X3_moves {R : Room} {s : State} {args : Array Value} {own : String} {index lev mc ms : Nat} (hts : ∀ w ∈ lw_all, w.before args s = true) (hl : Cond.methodLink own index yX3_moves ∈ lw_all) (hR1 : (rmL lev mc ms).frames + 1 ≤ R.frames) (hR2 : 8 + (7 + 11) + (rmL lev mc ms).locals ≤ R.locals) : CallW R s args own RX3 index yX3_moves cX3_moves 7 (some .int) (ws_ yX3_moves cX3_moves 7 (some .int)) (rmL lev mc ms) mc ms 4 :=
  cwV 4 hts (lw_V hl q2376 qs57 q116 q2377) rfl rfl rfl (by decide +kernel) ⟨hR1, hR2⟩
set_option maxHeartbeats 4000000 in
theorem m_X3_moves {E : jE} (l : Launch) (o : Nat) (st : Ms) (w0 : Wl) (n : Int) (dx : Int) (dy : Int) (dz : Int) (h1 : 0 ≤ n ∧ n < 20) : Met l yX3_moves (ws_ yX3_moves cX3_moves 7 (some .int)) (rmL 1 0 0) (va_Pc [.ref o, .int (iI n), .int (iI dx), .int (iI dy), .int (iI dz)] (jP E (wM E o st w0))) (jQi E (fun u : Ms => wM E o u w0) (fun z u => z = nd (st 0) n 3 ∧ u = sp st (movP (st 0) n dx dy dz))) 0 0 (jA E) := by
  refine j_metI (by decide) (Nat.le_of_ble_eq_true rfl) ?_
  intro p e s m args below meth c Q hx hb hml hown hnm hts hV hH hret ls hl
  have hl : lv_has ls 7 [(0, .ref o), (1, .int (iI n)), (2, .int (iI dx)), (3, .int (iI dy)), (4, .int (iI dz))] := hl
  refine j_bipush hx hb dX3_moves_0 (by decide) ?_
  refine j_bipush hx hb dX3_moves_2 (by decide) ?_
  refine lv_iload_n hx hb dX3_moves_4 rfl (lv_at hl 1 rfl) ?_
  refine j_imul hx hb dX3_moves_5 ?_
  refine j_iadd hx hb dX3_moves_6 ?_
  refine j_istore (lv' := fun x1 => [(5, .int (iI x1)), (0, .ref o), (1, .int (iI n)), (2, .int (iI dx)), (3, .int (iI dy)), (4, .int (iI dz))]) hx hb dX3_moves_7 hl (by decide) (fun _ => rfl) (fun x1 ex1 ls hl => ?_)
  refine lv_aload_n hx hb dX3_moves_9 rfl (lv_at hl 1 rfl) ?_
  refine j_get hx hb hts hown hV hH wM_o rfl in_X3 0 (Nat.le_of_ble_eq_true rfl) q2229 (fun _ h => h) rfl dX3_moves_10 ?_
  refine lv_iload hx hb dX3_moves_13 (lv_at hl 0 rfl) ?_
  refine j_iconst hx hb dX3_moves_15 ?_
  refine j_iadd hx hb dX3_moves_16 ?_
  refine j_iald (n := 198) hx hb hV hH wM_0 (by omega) (by omega) dX3_moves_17 ?_
  refine j_istore (lv' := fun x2 => [(6, .int (iI x2)), (5, .int (iI x1)), (0, .ref o), (1, .int (iI n)), (2, .int (iI dx)), (3, .int (iI dy)), (4, .int (iI dz))]) hx hb dX3_moves_18 hl (by decide) (fun _ => rfl) (fun x2 ex2 ls hl => ?_)
  refine lv_aload_n hx hb dX3_moves_20 rfl (lv_at hl 2 rfl) ?_
  refine j_get hx hb hts hown hV hH wM_o rfl in_X3 0 (Nat.le_of_ble_eq_true rfl) q2229 (fun _ h => h) rfl dX3_moves_21 ?_
  refine lv_iload hx hb dX3_moves_24 (lv_at hl 1 rfl) ?_
  refine j_iconst hx hb dX3_moves_26 ?_
  refine j_iadd hx hb dX3_moves_27 ?_
  refine lv_iload_n hx hb dX3_moves_28 rfl (lv_at hl 4 rfl) ?_
  refine j_iast (n := 198) hx hb hV hH wM_0 (by omega) (by omega) dX3_moves_29 (fun H locs hH => ?_)
  rw [wM_s0] at hH
  refine lv_aload_n hx hb dX3_moves_30 rfl (lv_at hl 2 rfl) ?_
  refine j_get hx hb hts hown hV hH wM_o rfl in_X3 0 (Nat.le_of_ble_eq_true rfl) q2229 (fun _ h => h) rfl dX3_moves_31 ?_
  refine lv_iload hx hb dX3_moves_34 (lv_at hl 1 rfl) ?_
  refine j_iconst hx hb dX3_moves_36 ?_
  refine j_iadd hx hb dX3_moves_37 ?_
  refine lv_iload_n hx hb dX3_moves_38 rfl (lv_at hl 5 rfl) ?_
  refine j_iast (n := 198) hx hb hV hH wM_0 (by omega) (by omega) dX3_moves_39 (fun H locs hH => ?_)
  rw [wM_s0] at hH
  refine lv_aload_n hx hb dX3_moves_40 rfl (lv_at hl 2 rfl) ?_
  refine j_get hx hb hts hown hV hH wM_o rfl in_X3 0 (Nat.le_of_ble_eq_true rfl) q2229 (fun _ h => h) rfl dX3_moves_41 ?_
  refine lv_iload hx hb dX3_moves_44 (lv_at hl 1 rfl) ?_
  refine j_iconst hx hb dX3_moves_46 ?_
  refine j_iadd hx hb dX3_moves_47 ?_
  refine lv_iload hx hb dX3_moves_48 (lv_at hl 6 rfl) ?_
  refine j_iast (n := 198) hx hb hV hH wM_0 (by omega) (by omega) dX3_moves_50 (fun H locs hH => ?_)
  rw [wM_s0] at hH
  refine lv_iload hx hb dX3_moves_51 (lv_at hl 0 rfl) ?_
  exact hret (su (su (su st 0 (x1 + 1) dx) 0 (x1 + 2) dy) 0 (x1 + 3) dz) hH dX3_moves_53 (Nat.le_of_ble_eq_true rfl) (Nat.le_of_ble_eq_true rfl) (⟨by rw [ex2, ex1]; rfl, by simp only [sp_su, sp_sp, sp_0]; rw [ex1]; try rfl⟩)
theorem cw_X3_addsScene {R : Room} {s : State} {args : Array Value} {own : String} {index lev mc ms : Nat} (hts : ∀ w ∈ lw_all, w.before args s = true) (hl : Cond.methodLink own index yX3_addsScene ∈ lw_all) (hR1 : (rmL lev mc ms).frames + 1 ≤ R.frames) (hR2 : 8 + (5 + 11) + (rmL lev mc ms).locals ≤ R.locals) : CallW R s args own RX3 index yX3_addsScene cX3_addsScene 5 (some .int) (ws_ yX3_addsScene cX3_addsScene 5 (some .int)) (rmL lev mc ms) mc ms 3 :=
  cwV 3 hts (lw_V hl q2408 qs62 q116 q2409) rfl rfl rfl (by decide +kernel) ⟨hR1, hR2⟩
set_option maxHeartbeats 4000000 in
theorem m_X3_addsScene {E : jE} (l : Launch) (o : Nat) (st : Ms) (w0 : Wl) (a : Int) (b : Int) (t : Int) (h1 : 0 ≤ st 0 3 ∧ st 0 3 < 8) : Met l yX3_addsScene (ws_ yX3_addsScene cX3_addsScene 5 (some .int)) (rmL 1 0 0) (va_Pc [.ref o, .int (iI a), .int (iI b), .int (iI t)] (jP E (wM E o st w0))) (jQi E (fun u : Ms => wM E o u w0) (fun z u => z = st 0 3 ∧ u = sp st (scnP (st 0) a b t))) 0 0 (jA E) := by
  refine j_metI (by decide) (Nat.le_of_ble_eq_true rfl) ?_
  intro p e s m args below meth c Q hx hb hml hown hnm hts hV hH hret ls hl
  have hl : lv_has ls 5 [(0, .ref o), (1, .int (iI a)), (2, .int (iI b)), (3, .int (iI t))] := hl
  refine j_sipush hx hb dX3_addsScene_0 (by decide) ?_
  refine j_iconst hx hb dX3_addsScene_3 ?_
  refine lv_aload_n hx hb dX3_addsScene_4 rfl (lv_at hl 0 rfl) ?_
  refine j_get hx hb hts hown hV hH wM_o rfl in_X3 0 (Nat.le_of_ble_eq_true rfl) q2229 (fun _ h => h) rfl dX3_addsScene_5 ?_
  refine j_iconst hx hb dX3_addsScene_8 ?_
  refine j_iald (n := 198) hx hb hV hH wM_0 (by omega) (by omega) dX3_addsScene_9 ?_
  refine j_imul hx hb dX3_addsScene_10 ?_
  refine j_iadd hx hb dX3_addsScene_11 ?_
  refine j_istore (lv' := fun x1 => [(4, .int (iI x1)), (0, .ref o), (1, .int (iI a)), (2, .int (iI b)), (3, .int (iI t))]) hx hb dX3_addsScene_12 hl (by decide) (fun _ => rfl) (fun x1 ex1 ls hl => ?_)
  refine lv_aload_n hx hb dX3_addsScene_14 rfl (lv_at hl 1 rfl) ?_
  refine j_get hx hb hts hown hV hH wM_o rfl in_X3 0 (Nat.le_of_ble_eq_true rfl) q2229 (fun _ h => h) rfl dX3_addsScene_15 ?_
  refine lv_iload hx hb dX3_addsScene_18 (lv_at hl 0 rfl) ?_
  refine lv_iload_n hx hb dX3_addsScene_20 rfl (lv_at hl 2 rfl) ?_
  refine j_iast (n := 198) hx hb hV hH wM_0 (by omega) (by omega) dX3_addsScene_21 (fun H locs hH => ?_)
  rw [wM_s0] at hH
  refine lv_aload_n hx hb dX3_addsScene_22 rfl (lv_at hl 1 rfl) ?_
  refine j_get hx hb hts hown hV hH wM_o rfl in_X3 0 (Nat.le_of_ble_eq_true rfl) q2229 (fun _ h => h) rfl dX3_addsScene_23 ?_
  refine lv_iload hx hb dX3_addsScene_26 (lv_at hl 0 rfl) ?_
  refine j_iconst hx hb dX3_addsScene_28 ?_
  refine j_iadd hx hb dX3_addsScene_29 ?_
  refine lv_iload_n hx hb dX3_addsScene_30 rfl (lv_at hl 3 rfl) ?_
  refine j_iast (n := 198) hx hb hV hH wM_0 (by omega) (by omega) dX3_addsScene_31 (fun H locs hH => ?_)
  rw [wM_s0] at hH
  refine lv_aload_n hx hb dX3_addsScene_32 rfl (lv_at hl 1 rfl) ?_
  refine j_get hx hb hts hown hV hH wM_o rfl in_X3 0 (Nat.le_of_ble_eq_true rfl) q2229 (fun _ h => h) rfl dX3_addsScene_33 ?_
  refine lv_iload hx hb dX3_addsScene_36 (lv_at hl 0 rfl) ?_
  refine j_iconst hx hb dX3_addsScene_38 ?_
  refine j_iadd hx hb dX3_addsScene_39 ?_
  refine lv_iload_n hx hb dX3_addsScene_40 rfl (lv_at hl 4 rfl) ?_
  refine j_iast (n := 198) hx hb hV hH wM_0 (by omega) (by omega) dX3_addsScene_41 (fun H locs hH => ?_)
  rw [wM_s0] at hH
  refine lv_aload_n hx hb dX3_addsScene_42 rfl (lv_at hl 1 rfl) ?_
  refine j_get hx hb hts hown hV hH wM_o rfl in_X3 0 (Nat.le_of_ble_eq_true rfl) q2229 (fun _ h => h) rfl dX3_addsScene_43 ?_
  refine j_iconst hx hb dX3_addsScene_46 ?_
  refine lv_dup2_11 hx hb dX3_addsScene_47 rfl rfl ?_
  refine j_iald (n := 198) hx hb hV hH wM_0 (by omega) (by omega) dX3_addsScene_48 ?_
  refine j_top (b := st 0 3) (by repeat rw [su_m (by omega)]) ?_
  refine j_iconst hx hb dX3_addsScene_49 ?_
  refine j_iadd hx hb dX3_addsScene_50 ?_
  refine j_iast (n := 198) hx hb hV hH wM_0 (by omega) (by omega) dX3_addsScene_51 (fun H locs hH => ?_)
  rw [wM_s0] at hH
  refine lv_aload_n hx hb dX3_addsScene_52 rfl (lv_at hl 1 rfl) ?_
  refine j_get hx hb hts hown hV hH wM_o rfl in_X3 0 (Nat.le_of_ble_eq_true rfl) q2229 (fun _ h => h) rfl dX3_addsScene_53 ?_
  refine j_iconst hx hb dX3_addsScene_56 ?_
  refine j_iald (n := 198) hx hb hV hH wM_0 (by omega) (by omega) dX3_addsScene_57 ?_
  refine j_top (b := (st 0 3) + 1) (rfl) ?_
  refine j_iconst hx hb dX3_addsScene_58 ?_
  refine j_isub hx hb dX3_addsScene_59 ?_
  exact hret (su (su (su (su st 0 x1 a) 0 (x1 + 1) b) 0 (x1 + 2) t) 0 3 ((st 0 3) + 1)) hH dX3_addsScene_60 (Nat.le_of_ble_eq_true rfl) (Nat.le_of_ble_eq_true rfl) (⟨by omega, by simp only [sp_su, sp_sp, sp_0]; rw [ex1]; try rfl⟩)
theorem cw_X3_sets {R : Room} {s : State} {args : Array Value} {own : String} {index lev mc ms : Nat} (hts : ∀ w ∈ lw_all, w.before args s = true) (hl : Cond.methodLink own index yX3_sets ∈ lw_all) (hR1 : (rmL lev mc ms).frames + 1 ≤ R.frames) (hR2 : 8 + (4 + 11) + (rmL lev mc ms).locals ≤ R.locals) : CallW R s args own RX3 index yX3_sets cX3_sets 4 (some .int) (ws_ yX3_sets cX3_sets 4 (some .int)) (rmL lev mc ms) mc ms 2 :=
  cwV 2 hts (lw_V hl q2419 qs63 q116 q2420) rfl rfl rfl (by decide +kernel) ⟨hR1, hR2⟩
set_option maxHeartbeats 4000000 in
theorem m_X3_sets {E : jE} (l : Launch) (o : Nat) (st : Ms) (w0 : Wl) (what : Int) (v : Int) (h1 : 0 ≤ what ∧ what < 4) : Met l yX3_sets (ws_ yX3_sets cX3_sets 4 (some .int)) (rmL 1 0 0) (va_Pc [.ref o, .int (iI what), .int (iI v)] (jP E (wM E o st w0))) (jQi E (fun u : Ms => wM E o u w0) (fun z u => z = st 0 (7 + what) ∧ u = sp st (setP (st 0) what v))) 0 0 (jA E) := by
  refine j_metI (by decide) (Nat.le_of_ble_eq_true rfl) ?_
  intro p e s m args below meth c Q hx hb hml hown hnm hts hV hH hret ls hl
  have hl : lv_has ls 4 [(0, .ref o), (1, .int (iI what)), (2, .int (iI v))] := hl
  refine lv_aload_n hx hb dX3_sets_0 rfl (lv_at hl 0 rfl) ?_
  refine j_get hx hb hts hown hV hH wM_o rfl in_X3 0 (Nat.le_of_ble_eq_true rfl) q2229 (fun _ h => h) rfl dX3_sets_1 ?_
  refine j_bipush hx hb dX3_sets_4 (by decide) ?_
  refine lv_iload_n hx hb dX3_sets_6 rfl (lv_at hl 1 rfl) ?_
  refine j_iadd hx hb dX3_sets_7 ?_
  refine j_iald (n := 198) hx hb hV hH wM_0 (by omega) (by omega) dX3_sets_8 ?_
  refine j_istore_n (lv' := fun x1 => [(3, .int (iI x1)), (0, .ref o), (1, .int (iI what)), (2, .int (iI v))]) hx hb dX3_sets_9 rfl hl (by decide) (fun _ => rfl) (fun x1 ex1 ls hl => ?_)
  refine lv_aload_n hx hb dX3_sets_10 rfl (lv_at hl 1 rfl) ?_
  refine j_get hx hb hts hown hV hH wM_o rfl in_X3 0 (Nat.le_of_ble_eq_true rfl) q2229 (fun _ h => h) rfl dX3_sets_11 ?_
  refine j_bipush hx hb dX3_sets_14 (by decide) ?_
  refine lv_iload_n hx hb dX3_sets_16 rfl (lv_at hl 2 rfl) ?_
  refine j_iadd hx hb dX3_sets_17 ?_
  refine lv_iload_n hx hb dX3_sets_18 rfl (lv_at hl 3 rfl) ?_
  refine j_iast (n := 198) hx hb hV hH wM_0 (by omega) (by omega) dX3_sets_19 (fun H locs hH => ?_)
  rw [wM_s0] at hH
  refine lv_iload_n hx hb dX3_sets_20 rfl (lv_at hl 0 rfl) ?_
  exact hret (su st 0 (7 + what) v) hH dX3_sets_21 (Nat.le_of_ble_eq_true rfl) (Nat.le_of_ble_eq_true rfl) (⟨ex1, by simp only [sp_su]; try rfl⟩)
theorem cw_X3_setsTitle {R : Room} {s : State} {args : Array Value} {own : String} {index lev mc ms : Nat} (hts : ∀ w ∈ lw_all, w.before args s = true) (hl : Cond.methodLink own index yX3_setsTitle ∈ lw_all) (hR1 : (rmL lev mc ms).frames + 1 ≤ R.frames) (hR2 : 8 + (5 + 11) + (rmL lev mc ms).locals ≤ R.locals) : CallW R s args own RX3 index yX3_setsTitle cX3_setsTitle 5 (some .int) (ws_ yX3_setsTitle cX3_setsTitle 5 (some .int)) (rmL lev mc ms) mc ms 3 :=
  cwV 3 hts (lw_V hl q2431 qs65 q116 q2432) rfl rfl rfl (by decide +kernel) ⟨hR1, hR2⟩
set_option maxHeartbeats 4000000 in
theorem m_X3_setsTitle {E : jE} (l : Launch) (o : Nat) (st : Ms) (w0 : Wl) (a : Int) (b : Int) (t : Int) : Met l yX3_setsTitle (ws_ yX3_setsTitle cX3_setsTitle 5 (some .int)) (rmL 1 0 0) (va_Pc [.ref o, .int (iI a), .int (iI b), .int (iI t)] (jP E (wM E o st w0))) (jQi E (fun u : Ms => wM E o u w0) (fun z u => z = st 0 13 ∧ u = sp st (ttlP (st 0) a b t))) 0 0 (jA E) := by
  refine j_metI (by decide) (Nat.le_of_ble_eq_true rfl) ?_
  intro p e s m args below meth c Q hx hb hml hown hnm hts hV hH hret ls hl
  have hl : lv_has ls 5 [(0, .ref o), (1, .int (iI a)), (2, .int (iI b)), (3, .int (iI t))] := hl
  refine lv_aload_n hx hb dX3_setsTitle_0 rfl (lv_at hl 0 rfl) ?_
  refine j_get hx hb hts hown hV hH wM_o rfl in_X3 0 (Nat.le_of_ble_eq_true rfl) q2229 (fun _ h => h) rfl dX3_setsTitle_1 ?_
  refine j_bipush hx hb dX3_setsTitle_4 (by decide) ?_
  refine j_iald (n := 198) hx hb hV hH wM_0 (by omega) (by omega) dX3_setsTitle_6 ?_
  refine j_istore (lv' := fun x1 => [(4, .int (iI x1)), (0, .ref o), (1, .int (iI a)), (2, .int (iI b)), (3, .int (iI t))]) hx hb dX3_setsTitle_7 hl (by decide) (fun _ => rfl) (fun x1 ex1 ls hl => ?_)
  refine lv_aload_n hx hb dX3_setsTitle_9 rfl (lv_at hl 1 rfl) ?_
  refine j_get hx hb hts hown hV hH wM_o rfl in_X3 0 (Nat.le_of_ble_eq_true rfl) q2229 (fun _ h => h) rfl dX3_setsTitle_10 ?_
  refine j_bipush hx hb dX3_setsTitle_13 (by decide) ?_
  refine lv_iload_n hx hb dX3_setsTitle_15 rfl (lv_at hl 2 rfl) ?_
  refine j_iast (n := 198) hx hb hV hH wM_0 (by omega) (by omega) dX3_setsTitle_16 (fun H locs hH => ?_)
  rw [wM_s0] at hH
  refine lv_aload_n hx hb dX3_setsTitle_17 rfl (lv_at hl 1 rfl) ?_
  refine j_get hx hb hts hown hV hH wM_o rfl in_X3 0 (Nat.le_of_ble_eq_true rfl) q2229 (fun _ h => h) rfl dX3_setsTitle_18 ?_
  refine j_bipush hx hb dX3_setsTitle_21 (by decide) ?_
  refine lv_iload_n hx hb dX3_setsTitle_23 rfl (lv_at hl 3 rfl) ?_
  refine j_iast (n := 198) hx hb hV hH wM_0 (by omega) (by omega) dX3_setsTitle_24 (fun H locs hH => ?_)
  rw [wM_s0] at hH
  refine lv_aload_n hx hb dX3_setsTitle_25 rfl (lv_at hl 1 rfl) ?_
  refine j_get hx hb hts hown hV hH wM_o rfl in_X3 0 (Nat.le_of_ble_eq_true rfl) q2229 (fun _ h => h) rfl dX3_setsTitle_26 ?_
  refine j_bipush hx hb dX3_setsTitle_29 (by decide) ?_
  refine lv_iload_n hx hb dX3_setsTitle_31 rfl (lv_at hl 4 rfl) ?_
  refine j_iast (n := 198) hx hb hV hH wM_0 (by omega) (by omega) dX3_setsTitle_32 (fun H locs hH => ?_)
  rw [wM_s0] at hH
  refine lv_iload hx hb dX3_setsTitle_33 (lv_at hl 0 rfl) ?_
  exact hret (su (su (su st 0 11 a) 0 12 b) 0 13 t) hH dX3_setsTitle_35 (Nat.le_of_ble_eq_true rfl) (Nat.le_of_ble_eq_true rfl) (⟨ex1, by simp only [sp_su, sp_sp, sp_0]; try rfl⟩)
