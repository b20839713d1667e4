/-! THE REFERENCE's METHODS: a text is run -/
set_option maxRecDepth 100000
theorem gdF_b {t : Int → Int} {L : Int} : ∀ (f : Nat) (p : Int), p ≤ L → p ≤ (gdF t L f p).2 ∧ (gdF t L f p).2 ≤ L := by
  intro f
  induction f with
  | zero => intro p hp; simp [gdF]; exact hp
  | succ f ih =>
    intro p hp
    have hb := rcO_b t L p hp
    have h4 := ruO_b isSp t L (rcO t L p).2
    unfold gdF
    split
    · split
      · have := ih (skO t L (rcO t L p).2) (by unfold skO; omega)
        unfold skO at this ⊢
        omega
      · omega
    · simp; exact hp
theorem gdO_b {t : Int → Int} {L : Int} (hL : 0 ≤ L) : 0 ≤ (gdO t L).2 ∧ (gdO t L).2 ≤ L := by
  have h4 := ruO_b isSp t L 0
  have := gdF_b (t := t) (L := L) 151 (skO t L 0) (by unfold skO; omega)
  unfold gdO
  unfold skO at this ⊢
  omega
theorem whyO_b (P : Int → Int) (c : Int) (nm : Int → Int) : 0 ≤ whyO P c nm ∧ whyO P c nm ≤ 3 := by
  have h1 : ∀ a b, 0 ≤ nBegin a b ∧ nBegin a b ≤ 3 := by intro a b; unfold nBegin; split <;> omega
  have h2 : ∀ a b c d, 0 ≤ nAdd P a b c d ∧ nAdd P a b c d ≤ 3 := by intro a b c d; have := nAdd_or P a b c d; omega
  have h3 : ∀ a b c d e f, 0 ≤ nBox P a b c d e f ∧ nBox P a b c d e f ≤ 3 := by intro a b c d e f; have := h2 a b c d; unfold nBox; split <;> omega
  have h4 : ∀ a b c d, 0 ≤ nMove P a b c d ∧ nMove P a b c d ≤ 3 := by intro a b c d; unfold nMove; split <;> (try split) <;> omega
  have h5 : ∀ a b c, 0 ≤ nScn P a b c ∧ nScn P a b c ≤ 3 := by intro a b c; unfold nScn; split <;> (try split) <;> omega
  have h6 : ∀ a b, 0 ≤ nSet a b ∧ nSet a b ≤ 3 := by intro a b; unfold nSet; split <;> omega
  have h7 : ∀ a b c, 0 ≤ nTtl P a b c ∧ nTtl P a b c ≤ 3 := by intro a b c; unfold nTtl; split <;> omega
  have h8 : ∀ a, 0 ≤ nRem P a ∧ nRem P a ≤ 3 := by intro a; unfold nRem; split <;> omega
  have h9 : ∀ a, 0 ≤ nTick a ∧ nTick a ≤ 3 := by intro a; unfold nTick; split <;> omega
  unfold whyO
  repeat' split
  all_goals first | exact h1 _ _ | exact h2 _ _ _ _ | exact h3 _ _ _ _ _ _ | exact h4 _ _ _ _ | exact h5 _ _ _ | exact h6 _ _ | exact h7 _ _ _ | exact h8 _ | exact h9 _
theorem rnF_fuel {t : Int → Int} {L : Int} : ∀ (f g : Nat) (P : Int → Int) (p n : Int), p ≤ L → L - p < (f : Int) → L - p < (g : Int) → rnF t L f P p n = rnF t L g P p n := by
  intro f
  induction f with
  | zero => intro g P p n h0 h1; omega
  | succ f ih =>
    intro g P p n h0 h1 h2
    cases g with
    | zero => omega
    | succ g =>
      unfold rnF
      by_cases hp : p < L ∧ (rcO t L p).1 = 1
      · rw [if_pos hp, if_pos hp]
        by_cases ho : whyO P (wdO t L p) (nmsO t L p) = 0
        · rw [if_pos ho, if_pos ho]
          have hb := rcO_b t L p h0
          have h3 := hb.2.2.2 hp.2
          have h4 := ruO_b isSp t L (rcO t L p).2
          exact ih g _ _ _ (by unfold skO; omega) (by unfold skO; omega) (by unfold skO; omega)
        · rw [if_neg ho, if_neg ho]
      · rw [if_neg hp, if_neg hp]
theorem rn_y {t : Int → Int} {L p n : Int} {P : Int → Int} (h0 : 0 ≤ p) (hL : L ≤ 150) (h : p < L) (hr : (rcO t L p).1 = 1) (hw : whyO P (wdO t L p) (nmsO t L p) = 0) : rnF t L 151 P p n = rnF t L 151 (exP P (wdO t L p) (nmsO t L p)) (skO t L (rcO t L p).2) (n + 1) := by
  have hb := rcO_b t L p (by omega)
  have h4 := ruO_b isSp t L (rcO t L p).2
  have h3 := hb.2.2.2 hr
  show (if p < L ∧ (rcO t L p).1 = 1 then (if whyO P (wdO t L p) (nmsO t L p) = 0 then rnF t L 150 (exP P (wdO t L p) (nmsO t L p)) (skO t L (rcO t L p).2) (n + 1) else (n, P)) else (n, P)) = _
  rw [if_pos ⟨h, hr⟩, if_pos hw]
  exact rnF_fuel 150 151 _ _ _ (by unfold skO; omega) (by unfold skO; omega) (by unfold skO; omega)
theorem rn_n1 {t : Int → Int} {L p n : Int} {P : Int → Int} (h : ¬ (p < L ∧ (rcO t L p).1 = 1)) : rnF t L 151 P p n = (n, P) := if_neg h
theorem rn_n2 {t : Int → Int} {L p n : Int} {P : Int → Int} (hw : ¬ whyO P (wdO t L p) (nmsO t L p) = 0) : rnF t L 151 P p n = (n, P) := by
  show (if p < L ∧ (rcO t L p).1 = 1 then (if whyO P (wdO t L p) (nmsO t L p) = 0 then rnF t L 150 (exP P (wdO t L p) (nmsO t L p)) (skO t L (rcO t L p).2) (n + 1) else (n, P)) else (n, P)) = _
  rw [if_neg hw]
  split <;> rfl
/-- the text's scratch cells replaced -/
def zO (st u : Ms) : Ms := fun k => if k = 7 ∨ k = 20 ∨ k = 21 ∨ k = 22 then u k else st k
theorem zO_mk {st u : Ms} (h : ∀ k : Nat, ¬ (k = 7 ∨ k = 20 ∨ k = 21 ∨ k = 22) → u k = st k) : zO st u = u := by
  funext k
  unfold zO
  by_cases hk : k = 7 ∨ k = 20 ∨ k = 21 ∨ k = 22
  · rw [if_pos hk]
  · rw [if_neg hk, h k hk]
theorem txO_k (st : Ms) (a b : Int) (c : Int → Int) {k : Nat} (h : ¬ (k = 20 ∨ k = 21 ∨ k = 22)) : txO st a b c k = st k := by
  unfold txO
  rw [if_neg (by omega), if_neg (by omega), if_neg (by omega)]
theorem nwO_k (st : Ms) (f : Int → Int) {k : Nat} (h : k ≠ 7) : nwO st f k = st k := if_neg h
theorem kep_tx (st : Ms) (a b : Int) (c : Int → Int) {k : Nat} (h : ¬ (k = 20 ∨ k = 21 ∨ k = 22)) : kep (txO st a b c) k = kep st k := by
  unfold kep
  by_cases h2 : k = 2 ∨ k = 3
  · rw [if_pos h2, if_pos h2]
    unfold kpO
    rw [show txO st a b c 3 0 = st 3 0 from rfl]
    by_cases h4 : st 3 0 = 4
    · rw [if_pos h4, if_pos h4]
      rcases h2 with e | e <;> subst e <;> rfl
    · rw [if_neg h4, if_neg h4]
      rcases h2 with e | e <;> subst e <;> rfl
  · rw [if_neg h2, if_neg h2, txO_k _ _ _ _ h]
theorem ex_tx (K : Ms) (f g P Q : Int → Int) (a b : Int) (c : Int → Int) : sp (nwO (txO (sp (nwO K f) P) a b c) g) Q = txO (sp (nwO K g) Q) a b c := by
  funext k
  by_cases h0 : k = 0
  · subst h0; rfl
  · rw [sp_k _ _ h0]
    by_cases h7 : k = 7
    · subst h7; rfl
    · rw [nwO_k _ _ h7]
      by_cases h20 : k = 20
      · subst h20; rfl
      · by_cases h21 : k = 21
        · subst h21; rfl
        · by_cases h22 : k = 22
          · subst h22; rfl
          · rw [txO_k _ _ _ _ (by omega), txO_k _ _ _ _ (by omega), sp_k _ _ h0, sp_k _ _ h0, nwO_k _ _ h7, nwO_k _ _ h7]
noncomputable def rnS (st : Ms) : Ms := if (gdO (st 4) (st 5 0)).1 = 1 then sp (kep (su st 6 0 0)) (rnO (st 4) (st 5 0) (st 0)).2 else su st 6 0 0
theorem rn_end {st : Ms} {a b pl cm : Int} {c f P nm : Int → Int} (hg : (gdO (st 4) (st 5 0)).1 = 1) (hP : (rnO (st 4) (st 5 0) (st 0)).2 = P) : zO (rnS st) (txO (sp (nwO (kep (txO (su st 6 0 0) a b c)) f) P) pl cm nm) = txO (sp (nwO (kep (txO (su st 6 0 0) a b c)) f) P) pl cm nm := by
  refine zO_mk fun k hk => ?_
  have e : rnS st = sp (kep (su st 6 0 0)) P := by unfold rnS; rw [if_pos hg, hP]
  rw [e, txO_k _ _ _ _ (by omega)]
  by_cases h0 : k = 0
  · subst h0; rfl
  · rw [sp_k _ _ h0, sp_k _ _ h0, nwO_k _ _ (by omega), kep_tx _ _ _ _ (by omega)]
theorem rn_no {st : Ms} {a b : Int} {c : Int → Int} (hg : ¬ (gdO (st 4) (st 5 0)).1 = 1) : zO (rnS st) (txO (su st 6 0 0) a b c) = txO (su st 6 0 0) a b c := by
  refine zO_mk fun k hk => ?_
  have e : rnS st = su st 6 0 0 := by unfold rnS; rw [if_neg hg]
  rw [e, txO_k _ _ _ _ (by omega)]
theorem rn_in {K : Ms} : txO (sp (nwO K (K 7)) (K 0)) (K 20 0) (K 21 0) (K 22) = K := by
  rw [nwO_self, sp_self, txO_self]
theorem cw_X3_runCommands {R : Room} {s : State} {args : Array Value} {own : String} {index lev mc ms : Nat} (hts : ∀ w ∈ lw_all, w.before args s = true) (hl : Cond.methodLink own index yX3_runCommands ∈ lw_all) (hR1 : (rmL lev mc ms).frames + 1 ≤ R.frames) (hR2 : 8 + (5 + 11) + (rmL lev mc ms).locals ≤ R.locals) : CallW R s args own RX3 index yX3_runCommands cX3_runCommands 5 (some .int) (ws_ yX3_runCommands cX3_runCommands 5 (some .int)) (rmL lev mc ms) mc ms 0 :=
  cwV 0 hts (lw_V hl q2644 q2645 q116 q2646) rfl rfl rfl (by decide +kernel) ⟨hR1, hR2⟩
set_option maxHeartbeats 4000000 in
theorem m_X3_runCommands {E : jE} (l : Launch) (o : Nat) (st : Ms) (w0 : Wl) (T : Int) (h1 : PWF T (st 0)) (h2 : TXW st) (h3 : NMW (st 22)) (h4 : 0 ≤ st 3 0 ∧ st 3 0 ≤ 4) (h5 : 0 ≤ T ∧ T ≤ 800000000) : Met l yX3_runCommands (ws_ yX3_runCommands cX3_runCommands 5 (some .int)) (rmL 6 0 0) (va_Pc [.ref o] (jP E (wM E o st w0))) (jQi E (fun u : Ms => wM E o (zO (rnS st) u) w0) (fun z u => z = (if (gdO (st 4) (st 5 0)).1 = 1 then (rnO (st 4) (st 5 0) (st 0)).1 else -10 - (gdO (st 4) (st 5 0)).2) ∧ NMW (u 22))) 0 0 (jA E) := by
  refine j_metI (by decide) (Nat.le_of_ble_eq_true rfl) ?_
  intro p e s m args below meth c Q hx hb hml hown hnm hts hV hH hret ls hl
  have hl : lv_has ls 5 [(0, .ref o)] := hl
  have hA := h1.A
  have hT := h2.1
  have hs0 := ruO_b isSp (st 4) (st 5 0) 0
  have hs1 : 0 ≤ skO (st 4) (st 5 0) 0 ∧ skO (st 4) (st 5 0) 0 ≤ st 5 0 := by unfold skO; omega
  refine lv_aload_n hx hb dX3_runCommands_0 rfl (lv_at hl 0 rfl) ?_
  refine j_iconst hx hb dX3_runCommands_1 ?_
  refine j_put hx hb hts hown hV hH wM_o rfl in_X3 tyX3 tyX3_ok nmX3 6 (Nat.le_of_ble_eq_true rfl) q2235 (fun _ h => h) rfl rfl rfl (Nat.le_of_ble_eq_true rfl) dX3_runCommands_2 (fun H locs hH => ?_)
  rw [wM_f6] at hH
  refine lv_aload_n hx hb dX3_runCommands_5 rfl (lv_at hl 0 rfl) ?_
  refine j_calli (va_runV (As := []) (rest := []) ⟨hx, hb, hml, hown, hts⟩ (m_X3_isGood l o (su st 6 0 0) w0 (h2) (h3)) (cw_X3_isGood hts q2647 (Nat.le_of_ble_eq_true rfl) (Nat.le_of_ble_eq_true rfl)) (j_preV hV hH wM_o rfl) rfl rfl hl.1 rfl (lv_room (Nat.le_of_ble_eq_true rfl)) dX3_runCommands_6 ⟨Nat.le_of_ble_eq_true rfl, Nat.le_of_ble_eq_true rfl⟩) hH (fun z u H locs hp hH => ?_)
  obtain ⟨z1, hzz1⟩ : ∃ q, q = z := ⟨_, rfl⟩
  subst hzz1
  obtain ⟨u2, huu2⟩ : ∃ q, q = u := ⟨_, rfl⟩
  subst huu2
  have hH : jH E s.heap (wM E o (txO ((su st 6 0 0)) u2.1 u2.2.1 u2.2.2) w0) H locs := hH
  have hp6 : (fun z u => z = bI ((gdO (st 4) (st 5 0)).1 = 1) ∧ u.1 = (gdO (st 4) (st 5 0)).2 ∧ NMW u.2.2) z1 u2 := hp
  have hgz : z1 = bI ((gdO (st 4) (st 5 0)).1 = 1) := hp6.1
  have hgu : u2.1 = (gdO (st 4) (st 5 0)).2 := hp6.2.1
  have hgn : NMW u2.2.2 := hp6.2.2
  have h01 := bI_01 ((gdO (st 4) (st 5 0)).1 = 1)
  have hgb : 0 ≤ (gdO (st 4) (st 5 0)).2 ∧ (gdO (st 4) (st 5 0)).2 ≤ st 5 0 := gdO_b (by omega)
  refine j_if_ne (tgt := 20) hx hb dX3_runCommands_9 (by decide) (by omega) (fun c9 => ?_) (fun c9 => ?_)
  · have hg : (gdO (st 4) (st 5 0)).1 = 1 := bI_1.mp (by omega)
    refine lv_aload_n hx hb dX3_runCommands_20 rfl (lv_at hl 0 rfl) ?_
    refine j_callvf (va_runV (As := []) (rest := []) ⟨hx, hb, hml, hown, hts⟩ (m_X3_keep l o (txO ((su st 6 0 0)) u2.1 u2.2.1 u2.2.2) w0 (show 0 ≤ st 3 0 ∧ st 3 0 ≤ 4 by omega)) (cw_X3_keep hts q2316 (Nat.le_of_ble_eq_true rfl) (Nat.le_of_ble_eq_true rfl)) (j_preV hV hH wM_o rfl) rfl rfl hl.1 rfl (lv_room (Nat.le_of_ble_eq_true rfl)) dX3_runCommands_21 ⟨Nat.le_of_ble_eq_true rfl, Nat.le_of_ble_eq_true rfl⟩) hH (fun H locs hH => ?_)
    have hH : jH E s.heap (wM E o (txO (sp (nwO (kep (txO (su st 6 0 0) u2.1 u2.2.1 u2.2.2)) (st 7)) (st 0)) u2.1 u2.2.1 u2.2.2) w0) H locs := by rw [show txO (sp (nwO (kep (txO (su st 6 0 0) u2.1 u2.2.1 u2.2.2)) (st 7)) (st 0)) u2.1 u2.2.1 u2.2.2 = (kep (txO (su st 6 0 0) u2.1 u2.2.1 u2.2.2)) from rn_in (K := (kep (txO (su st 6 0 0) u2.1 u2.2.1 u2.2.2)))]; exact hH
    refine lv_aload_n hx hb dX3_runCommands_24 rfl (lv_at hl 0 rfl) ?_
    refine j_iconst hx hb dX3_runCommands_25 ?_
    refine j_put hx hb hts hown hV hH wM_o rfl in_X3 tyX3 tyX3_ok nmX3 20 (Nat.le_of_ble_eq_true rfl) q2249 (fun _ h => h) rfl rfl rfl (Nat.le_of_ble_eq_true rfl) dX3_runCommands_26 (fun H locs hH => ?_)
    rw [wM_f20] at hH
    have hH : jH E s.heap (wM E o (txO (sp (nwO (kep (txO (su st 6 0 0) u2.1 u2.2.1 u2.2.2)) (st 7)) (st 0)) 0 u2.2.1 u2.2.2) w0) H locs := by rw [txO_p] at hH; exact hH
    refine j_iconst hx hb dX3_runCommands_29 ?_
    refine j_istore_n (lv' := fun x3 => [(1, .int (iI x3)), (0, .ref o)]) hx hb dX3_runCommands_30 rfl hl (by decide) (fun _ => rfl) (fun x3 ex3 ls hl => ?_)
    refine j_iconst hx hb dX3_runCommands_31 ?_
    refine j_istore_n (lv' := fun x4 => [(2, .int (iI x4)), (1, .int (iI x3)), (0, .ref o)]) hx hb dX3_runCommands_32 rfl hl (by decide) (fun _ => rfl) (fun x4 ex4 ls hl => ?_)
    refine lv_aload_n hx hb dX3_runCommands_33 rfl (lv_at hl 2 rfl) ?_
    refine j_callif (va_runV (As := []) (rest := []) ⟨hx, hb, hml, hown, hts⟩ (m_X3_skips l o (txO (sp (nwO (kep (txO (su st 6 0 0) u2.1 u2.2.1 u2.2.2)) (st 7)) (st 0)) 0 u2.2.1 u2.2.2) w0 (h2) (show 0 ≤ 0 ∧ 0 ≤ st 5 0 by omega)) (cw_X3_skips hts q2651 (Nat.le_of_ble_eq_true rfl) (Nat.le_of_ble_eq_true rfl)) (j_preV hV hH wM_o rfl) rfl rfl hl.1 rfl (lv_room (Nat.le_of_ble_eq_true rfl)) dX3_runCommands_34 ⟨Nat.le_of_ble_eq_true rfl, Nat.le_of_ble_eq_true rfl⟩) hH (fun H locs hH => ?_)
    have hH : jH E s.heap (wM E o (txO ((txO (sp (nwO (kep (txO (su st 6 0 0) u2.1 u2.2.1 u2.2.2)) (st 7)) (st 0)) 0 u2.2.1 u2.2.2)) (skO (st 4) (st 5 0) (0)) (u2.2.1) (u2.2.2)) w0) H locs := hH
    refine j_top (b := bI (0 < skO (st 4) (st 5 0) (0))) rfl ?_
    have hH : jH E s.heap (wM E o (txO (sp (nwO (kep (txO (su st 6 0 0) u2.1 u2.2.1 u2.2.2)) (st 7)) (st 0)) (skO (st 4) (st 5 0) 0) u2.2.1 u2.2.2) w0) H locs := by rw [txO_tx] at hH; exact hH
    refine lv_istore_n (lv' := [(3, .int (iI (bI (0 < skO (st 4) (st 5 0) (0))))), (2, .int (iI x4)), (1, .int (iI x3)), (0, .ref o)]) hx hb dX3_runCommands_37 rfl hl (by decide) rfl (fun ls hl => ?_)
    have L38 : ∀ (n_ : Nat), ∀ (n : Int) (go : Int) (P : Int → Int) (pl : Int) (cm : Int) (nm : Int → Int) (f7 : Int → Int) (hm_ : 2 * (st 5 0 - pl) + go < (n_ : Int)) (l1 : go = 0 ∨ go = 1) (l2 : 0 ≤ pl ∧ pl ≤ st 5 0) (l3 : go = 1 → rnO (st 4) (st 5 0) (st 0) = rnF (st 4) (st 5 0) 151 P pl n) (l3b : go = 0 → rnO (st 4) (st 5 0) (st 0) = (n, P)) (l4 : PWF (T + 200 * n) P) (l5 : 0 ≤ n ∧ n ≤ pl) (l6 : NMW nm) (H : Heap) (locs : List Loc), jH E s.heap (wM E o (txO (sp (nwO (kep (txO (su st 6 0 0) u2.1 u2.2.1 u2.2.2)) f7) P) pl cm nm) w0) H locs → ∀ ls : Array Slot, lv_has ls 5 [(0, .ref o), (1, .int (iI n)), (2, .int (iI go))] → W p l e (rmL 6 0 0) s m args below meth c H locs 0 0 Q (F0 m 38 ls []) := by
      intro n_
      induction n_ with
      | zero =>
        intro n go P pl cm nm f7 hm_ l1 l2 l3 l3b l4 l5 l6 H locs hH ls hl
        exact absurd hm_ (by omega)
      | succ n_ ih_38 =>
        intro n go P pl cm nm f7 hm_ l1 l2 l3 l3b l4 l5 l6 H locs hH ls hl
        have hrb := rcO_b (st 4) (st 5 0) pl (by omega)
        refine lv_iload_n hx hb dX3_runCommands_38 rfl (lv_at hl 2 rfl) ?_
        refine j_if_eq (tgt := 94) hx hb dX3_runCommands_39 (by decide) (by omega) (fun c39 => ?_) (fun c39 => ?_)
        · have hfe : rnO (st 4) (st 5 0) (st 0) = (n, P) := by first | exact l3b (by omega) | (rw [l3 (by omega)]; exact rn_n1 (fun q => absurd q.1 (by omega))) | (rw [l3 (by omega)]; exact rn_n1 (fun q => by have := bI_1.mpr q.2; omega))
          have hfn : NMW nm := by first | exact hrn | exact l6
          have hH : jH E s.heap (wM E o (zO (rnS st) ((txO (sp (nwO (kep (txO (su st 6 0 0) u2.1 u2.2.1 u2.2.2)) f7) P) pl cm nm))) w0) H locs := by rw [rn_end hg (by rw [hfe])]; exact hH
          refine lv_iload_n hx hb dX3_runCommands_94 rfl (lv_at hl 1 rfl) ?_
          exact hret (txO (sp (nwO (kep (txO (su st 6 0 0) u2.1 u2.2.1 u2.2.2)) f7) P) pl cm nm) hH dX3_runCommands_95 (Nat.le_of_ble_eq_true rfl) (Nat.le_of_ble_eq_true rfl) (⟨by rw [if_pos hg, hfe], hfn⟩)
        · refine lv_aload_n hx hb dX3_runCommands_42 rfl (lv_at hl 0 rfl) ?_
          refine j_get hx hb hts hown hV hH wM_o rfl in_X3 20 (Nat.le_of_ble_eq_true rfl) q2249 (fun _ h => h) rfl dX3_runCommands_43 ?_
          refine j_top (b := pl) rfl ?_
          refine lv_aload_n hx hb dX3_runCommands_46 rfl (lv_at hl 0 rfl) ?_
          refine j_get hx hb hts hown hV hH wM_o rfl in_X3 5 (Nat.le_of_ble_eq_true rfl) q2234 (fun _ h => h) rfl dX3_runCommands_47 ?_
          refine j_top (b := st 5 0) rfl ?_
          refine j_icmp_ge (tgt := 94) hx hb dX3_runCommands_50 (by decide) (by omega) (by omega) (fun c50 => ?_) (fun c50 => ?_)
          · have hfe : rnO (st 4) (st 5 0) (st 0) = (n, P) := by first | exact l3b (by omega) | (rw [l3 (by omega)]; exact rn_n1 (fun q => absurd q.1 (by omega))) | (rw [l3 (by omega)]; exact rn_n1 (fun q => by have := bI_1.mpr q.2; omega))
            have hfn : NMW nm := by first | exact hrn | exact l6
            have hH : jH E s.heap (wM E o (zO (rnS st) ((txO (sp (nwO (kep (txO (su st 6 0 0) u2.1 u2.2.1 u2.2.2)) f7) P) pl cm nm))) w0) H locs := by rw [rn_end hg (by rw [hfe])]; exact hH
            refine lv_iload_n hx hb dX3_runCommands_94 rfl (lv_at hl 1 rfl) ?_
            exact hret (txO (sp (nwO (kep (txO (su st 6 0 0) u2.1 u2.2.1 u2.2.2)) f7) P) pl cm nm) hH dX3_runCommands_95 (Nat.le_of_ble_eq_true rfl) (Nat.le_of_ble_eq_true rfl) (⟨by rw [if_pos hg, hfe], hfn⟩)
          · refine lv_aload_n hx hb dX3_runCommands_53 rfl (lv_at hl 0 rfl) ?_
            refine j_calli (va_runV (As := []) (rest := []) ⟨hx, hb, hml, hown, hts⟩ (m_X3_readCommand l o (txO (sp (nwO (kep (txO (su st 6 0 0) u2.1 u2.2.1 u2.2.2)) f7) P) pl cm nm) w0 (h2) (show 0 ≤ pl ∧ pl ≤ st 5 0 by omega) (l6)) (cw_X3_readCommand hts q2659 (Nat.le_of_ble_eq_true rfl) (Nat.le_of_ble_eq_true rfl)) (j_preV hV hH wM_o rfl) rfl rfl hl.1 rfl (lv_room (Nat.le_of_ble_eq_true rfl)) dX3_runCommands_54 ⟨Nat.le_of_ble_eq_true rfl, Nat.le_of_ble_eq_true rfl⟩) hH (fun z u H locs hp hH => ?_)
            obtain ⟨z5, hzz5⟩ : ∃ q, q = z := ⟨_, rfl⟩
            subst hzz5
            obtain ⟨u6, huu6⟩ : ∃ q, q = u := ⟨_, rfl⟩
            subst huu6
            have hH : jH E s.heap (wM E o (txO ((txO (sp (nwO (kep (txO (su st 6 0 0) u2.1 u2.2.1 u2.2.2)) f7) P) pl cm nm)) u6.1 u6.2.1 u6.2.2) w0) H locs := hH
            have hp54 : (fun z u => z = bI ((rcO (st 4) (st 5 0) (pl)).1 = 1) ∧ u.1 = (rcO (st 4) (st 5 0) (pl)).2 ∧ NMW u.2.2 ∧ ((rcO (st 4) (st 5 0) (pl)).1 = 1 → u.2.1 = wdO (st 4) (st 5 0) (pl) ∧ ∀ j : Int, 0 ≤ j → j < manO (wdO (st 4) (st 5 0) (pl)) → u.2.2 j = nvO (st 4) (st 5 0) (leO (st 4) (st 5 0) (pl)) j.toNat)) z5 u6 := hp
            have hH : jH E s.heap (wM E o (txO (sp (nwO (kep (txO (su st 6 0 0) u2.1 u2.2.1 u2.2.2)) f7) P) u6.1 u6.2.1 u6.2.2) w0) H locs := by rw [txO_tx] at hH; exact hH
            have hrp : z5 = bI ((rcO (st 4) (st 5 0) pl).1 = 1) := hp54.1
            have hru : u6.1 = (rcO (st 4) (st 5 0) pl).2 := hp54.2.1
            have hrn : NMW u6.2.2 := hp54.2.2.1
            have hrk : (rcO (st 4) (st 5 0) pl).1 = 1 → u6.2.1 = (wdO (st 4) (st 5 0) pl) ∧ ∀ j : Int, 0 ≤ j → j < manO (wdO (st 4) (st 5 0) pl) → u6.2.2 j = nvO (st 4) (st 5 0) (leO (st 4) (st 5 0) pl) j.toNat := hp54.2.2.2
            have h01r := bI_01 ((rcO (st 4) (st 5 0) pl).1 = 1)
            have hu0 : 0 ≤ u6.1 ∧ u6.1 ≤ st 5 0 := by omega
            have hs2 : u6.1 ≤ skO (st 4) (st 5 0) u6.1 ∧ (skO (st 4) (st 5 0) u6.1 ≤ st 5 0 ∨ skO (st 4) (st 5 0) u6.1 = u6.1) := ruO_b isSp (st 4) (st 5 0) u6.1
            refine j_if_eq (tgt := 94) hx hb dX3_runCommands_57 (by decide) (by omega) (fun c57 => ?_) (fun c57 => ?_)
            · have hfe : rnO (st 4) (st 5 0) (st 0) = (n, P) := by first | exact l3b (by omega) | (rw [l3 (by omega)]; exact rn_n1 (fun q => absurd q.1 (by omega))) | (rw [l3 (by omega)]; exact rn_n1 (fun q => by have := bI_1.mpr q.2; omega))
              have hfn : NMW u6.2.2 := by first | exact hrn | exact l6
              have hH : jH E s.heap (wM E o (zO (rnS st) ((txO (sp (nwO (kep (txO (su st 6 0 0) u2.1 u2.2.1 u2.2.2)) f7) P) u6.1 u6.2.1 u6.2.2))) w0) H locs := by rw [rn_end hg (by rw [hfe])]; exact hH
              refine lv_iload_n hx hb dX3_runCommands_94 rfl (lv_at hl 1 rfl) ?_
              exact hret (txO (sp (nwO (kep (txO (su st 6 0 0) u2.1 u2.2.1 u2.2.2)) f7) P) u6.1 u6.2.1 u6.2.2) hH dX3_runCommands_95 (Nat.le_of_ble_eq_true rfl) (Nat.le_of_ble_eq_true rfl) (⟨by rw [if_pos hg, hfe], hfn⟩)
            · have hr1 : (rcO (st 4) (st 5 0) pl).1 = 1 := bI_1.mp (by omega)
              have hwd := rcO_wd hr1
              have hk2 := hrk hr1
              have hlt := hrb.2.2.2 hr1
              have hwe : whyO P u6.2.1 u6.2.2 = whyO P (wdO (st 4) (st 5 0) pl) (nmsO (st 4) (st 5 0) pl) := by rw [hk2.1]; exact whyO_c hk2.2 hwd
              have hxe : exP P u6.2.1 u6.2.2 = exP P (wdO (st 4) (st 5 0) pl) (nmsO (st 4) (st 5 0) pl) := by rw [hk2.1]; exact exP_c hk2.2 hwd
              have hyb := whyO_b P (wdO (st 4) (st 5 0) pl) (nmsO (st 4) (st 5 0) pl)
              refine lv_aload_n hx hb dX3_runCommands_60 rfl (lv_at hl 0 rfl) ?_
              refine j_callif (va_runV (As := []) (rest := []) ⟨hx, hb, hml, hown, hts⟩ (m_X3_whyNot l o (txO (sp (nwO (kep (txO (su st 6 0 0) u2.1 u2.2.1 u2.2.2)) f7) P) u6.1 u6.2.1 u6.2.2) w0 _ (l4) (by omega) (by rw [hk2.1]; exact hwd) (hrn)) (cw_X3_whyNot hts q2690 (Nat.le_of_ble_eq_true rfl) (Nat.le_of_ble_eq_true rfl)) (j_preV hV hH wM_o rfl) rfl rfl hl.1 rfl (lv_room (Nat.le_of_ble_eq_true rfl)) dX3_runCommands_61 ⟨Nat.le_of_ble_eq_true rfl, Nat.le_of_ble_eq_true rfl⟩) hH (fun H locs hH => ?_)
              refine j_top (b := whyO (P) (u6.2.1) (u6.2.2)) rfl ?_
              refine j_top (b := whyO P (wdO (st 4) (st 5 0) pl) (nmsO (st 4) (st 5 0) pl)) (hwe) ?_
              refine j_if_ne (tgt := 71) hx hb dX3_runCommands_64 (by decide) (by omega) (fun c64 => ?_) (fun c64 => ?_)
              · refine j_iconst hx hb dX3_runCommands_71 ?_
                refine j_istore_n (lv' := fun x7 => [(2, .int (iI x7)), (0, .ref o), (1, .int (iI n))]) hx hb dX3_runCommands_72 rfl hl (by decide) (fun _ => rfl) (fun x7 ex7 ls hl => ?_)
                refine lv_iload_n hx hb dX3_runCommands_73 rfl (lv_at hl 0 rfl) ?_
                refine j_if_eq (tgt := 86) hx hb dX3_runCommands_74 (by decide) (by omega) (fun c74 => ?_) (fun c74 => ?_)
                · refine lv_aload_n hx hb dX3_runCommands_86 rfl (lv_at hl 1 rfl) ?_
                  refine j_callif (va_runV (As := []) (rest := []) ⟨hx, hb, hml, hown, hts⟩ (m_X3_skips l o (txO (sp (nwO (kep (txO (su st 6 0 0) u2.1 u2.2.1 u2.2.2)) f7) P) u6.1 u6.2.1 u6.2.2) w0 (h2) (show 0 ≤ u6.1 ∧ u6.1 ≤ st 5 0 by omega)) (cw_X3_skips hts q2651 (Nat.le_of_ble_eq_true rfl) (Nat.le_of_ble_eq_true rfl)) (j_preV hV hH wM_o rfl) rfl rfl hl.1 rfl (lv_room (Nat.le_of_ble_eq_true rfl)) dX3_runCommands_87 ⟨Nat.le_of_ble_eq_true rfl, Nat.le_of_ble_eq_true rfl⟩) hH (fun H locs hH => ?_)
                  have hH : jH E s.heap (wM E o (txO ((txO (sp (nwO (kep (txO (su st 6 0 0) u2.1 u2.2.1 u2.2.2)) f7) P) u6.1 u6.2.1 u6.2.2)) (skO (st 4) (st 5 0) (u6.1)) (u6.2.1) (u6.2.2)) w0) H locs := hH
                  refine j_top (b := bI (u6.1 < skO (st 4) (st 5 0) (u6.1))) rfl ?_
                  refine lv_istore_n (lv' := [(3, .int (iI (bI (u6.1 < skO (st 4) (st 5 0) (u6.1))))), (2, .int (iI x7)), (0, .ref o), (1, .int (iI n))]) hx hb dX3_runCommands_90 rfl hl (by decide) rfl (fun ls hl => ?_)
                  refine lv_goto (tgt := 38) hx hb dX3_runCommands_91 (by decide) ?_
                  rw [txO_tx] at hH
                  exact ih_38 n x7 P (skO (st 4) (st 5 0) (u6.1)) u6.2.1 u6.2.2 f7 (by omega) (by omega) (by omega) (by intro q; first | exact absurd q (by omega) | (rw [l3 (by omega), rn_y l2.1 hT.2 c50 hr1 (by omega), en, hru])) (by intro q; first | exact absurd q (by omega) | (rw [l3 (by omega)]; exact rn_n2 c64)) (by first | exact l4 | exact (l4.ex (by omega) (by omega)).mono (by omega)) (by omega) (hrn) _ _ hH ls (lv_sub hl [2, 3, 1] rfl)
                · refine lv_aload_n hx hb dX3_runCommands_77 rfl (lv_at hl 1 rfl) ?_
                  refine j_calli (va_runV (As := []) (rest := []) ⟨hx, hb, hml, hown, hts⟩ (m_X3_carryOut l o (txO (sp (nwO (kep (txO (su st 6 0 0) u2.1 u2.2.1 u2.2.2)) f7) P) u6.1 u6.2.1 u6.2.2) w0 _ (l4) (by omega) (by rw [hk2.1]; exact hwd) (hrn) (hwe.trans (by omega))) (cw_X3_carryOut hts q2694 (Nat.le_of_ble_eq_true rfl) (Nat.le_of_ble_eq_true rfl)) (j_preV hV hH wM_o rfl) rfl rfl hl.1 rfl (lv_room (Nat.le_of_ble_eq_true rfl)) dX3_runCommands_78 ⟨Nat.le_of_ble_eq_true rfl, Nat.le_of_ble_eq_true rfl⟩) hH (fun z u H locs hp hH => ?_)
                  obtain ⟨z8, hzz8⟩ : ∃ q, q = z := ⟨_, rfl⟩
                  subst hzz8
                  obtain ⟨u9, huu9⟩ : ∃ q, q = u := ⟨_, rfl⟩
                  subst huu9
                  have hH : jH E s.heap (wM E o (sp (nwO ((txO (sp (nwO (kep (txO (su st 6 0 0) u2.1 u2.2.1 u2.2.2)) f7) P) u6.1 u6.2.1 u6.2.2)) u9) (exP ((txO (sp (nwO (kep (txO (su st 6 0 0) u2.1 u2.2.1 u2.2.2)) f7) P) u6.1 u6.2.1 u6.2.2) 0) ((txO (sp (nwO (kep (txO (su st 6 0 0) u2.1 u2.2.1 u2.2.2)) f7) P) u6.1 u6.2.1 u6.2.2) 21 0) ((txO (sp (nwO (kep (txO (su st 6 0 0) u2.1 u2.2.1 u2.2.2)) f7) P) u6.1 u6.2.1 u6.2.2) 22))) w0) H locs := hH
                  have hp78 : (fun _ u => True) z8 u9 := hp
                  have hH : jH E s.heap (wM E o (txO (sp (nwO (kep (txO (su st 6 0 0) u2.1 u2.2.1 u2.2.2)) u9) (exP P (wdO (st 4) (st 5 0) pl) (nmsO (st 4) (st 5 0) pl))) u6.1 u6.2.1 u6.2.2) w0) H locs := by rw [ex_tx] at hH; rw [← hxe]; exact hH
                  refine j_istore (lv' := fun x10 => [(4, .int (iI x10)), (2, .int (iI x7)), (0, .ref o), (1, .int (iI n))]) hx hb dX3_runCommands_81 hl (by decide) (fun _ => rfl) (fun x10 ex10 ls hl => ?_)
                  refine j_iinc (k := 3) (lv' := fun x11 => [(1, .int (iI x11)), (4, .int (iI x10)), (2, .int (iI x7)), (0, .ref o)]) hx hb dX3_runCommands_83 hl rfl (by decide) (fun _ => rfl) (fun x11 ex11 ls hl => ?_)
                  refine lv_aload_n hx hb dX3_runCommands_86 rfl (lv_at hl 3 rfl) ?_
                  refine j_callif (va_runV (As := []) (rest := []) ⟨hx, hb, hml, hown, hts⟩ (m_X3_skips l o (txO (sp (nwO (kep (txO (su st 6 0 0) u2.1 u2.2.1 u2.2.2)) u9) (exP P (wdO (st 4) (st 5 0) pl) (nmsO (st 4) (st 5 0) pl))) u6.1 u6.2.1 u6.2.2) w0 (h2) (show 0 ≤ u6.1 ∧ u6.1 ≤ st 5 0 by omega)) (cw_X3_skips hts q2651 (Nat.le_of_ble_eq_true rfl) (Nat.le_of_ble_eq_true rfl)) (j_preV hV hH wM_o rfl) rfl rfl hl.1 rfl (lv_room (Nat.le_of_ble_eq_true rfl)) dX3_runCommands_87 ⟨Nat.le_of_ble_eq_true rfl, Nat.le_of_ble_eq_true rfl⟩) hH (fun H locs hH => ?_)
                  have hH : jH E s.heap (wM E o (txO ((txO (sp (nwO (kep (txO (su st 6 0 0) u2.1 u2.2.1 u2.2.2)) u9) (exP P (wdO (st 4) (st 5 0) pl) (nmsO (st 4) (st 5 0) pl))) u6.1 u6.2.1 u6.2.2)) (skO (st 4) (st 5 0) (u6.1)) (u6.2.1) (u6.2.2)) w0) H locs := hH
                  refine j_top (b := bI (u6.1 < skO (st 4) (st 5 0) (u6.1))) rfl ?_
                  refine lv_istore_n (lv' := [(3, .int (iI (bI (u6.1 < skO (st 4) (st 5 0) (u6.1))))), (1, .int (iI x11)), (4, .int (iI x10)), (2, .int (iI x7)), (0, .ref o)]) hx hb dX3_runCommands_90 rfl hl (by decide) rfl (fun ls hl => ?_)
                  refine lv_goto (tgt := 38) hx hb dX3_runCommands_91 (by decide) ?_
                  rw [txO_tx] at hH
                  exact ih_38 x11 x7 (exP P (wdO (st 4) (st 5 0) pl) (nmsO (st 4) (st 5 0) pl)) (skO (st 4) (st 5 0) (u6.1)) u6.2.1 u6.2.2 u9 (by omega) (by omega) (by omega) (by intro q; first | exact absurd q (by omega) | (rw [l3 (by omega), rn_y l2.1 hT.2 c50 hr1 (by omega), ex11, hru])) (by intro q; first | exact absurd q (by omega) | (rw [l3 (by omega)]; exact rn_n2 c64)) (by first | exact l4 | exact (l4.ex (by omega) (by omega)).mono (by omega)) (by omega) (hrn) _ _ hH ls (lv_sub hl [4, 1, 3] rfl)
              · refine j_iconst hx hb dX3_runCommands_67 ?_
                refine lv_goto (tgt := 72) hx hb dX3_runCommands_68 (by decide) ?_
                refine j_istore_n (lv' := fun x12 => [(2, .int (iI x12)), (0, .ref o), (1, .int (iI n))]) hx hb dX3_runCommands_72 rfl hl (by decide) (fun _ => rfl) (fun x12 ex12 ls hl => ?_)
                refine lv_iload_n hx hb dX3_runCommands_73 rfl (lv_at hl 0 rfl) ?_
                refine j_if_eq (tgt := 86) hx hb dX3_runCommands_74 (by decide) (by omega) (fun c74 => ?_) (fun c74 => ?_)
                · refine lv_aload_n hx hb dX3_runCommands_86 rfl (lv_at hl 1 rfl) ?_
                  refine j_callif (va_runV (As := []) (rest := []) ⟨hx, hb, hml, hown, hts⟩ (m_X3_skips l o (txO (sp (nwO (kep (txO (su st 6 0 0) u2.1 u2.2.1 u2.2.2)) f7) P) u6.1 u6.2.1 u6.2.2) w0 (h2) (show 0 ≤ u6.1 ∧ u6.1 ≤ st 5 0 by omega)) (cw_X3_skips hts q2651 (Nat.le_of_ble_eq_true rfl) (Nat.le_of_ble_eq_true rfl)) (j_preV hV hH wM_o rfl) rfl rfl hl.1 rfl (lv_room (Nat.le_of_ble_eq_true rfl)) dX3_runCommands_87 ⟨Nat.le_of_ble_eq_true rfl, Nat.le_of_ble_eq_true rfl⟩) hH (fun H locs hH => ?_)
                  have hH : jH E s.heap (wM E o (txO ((txO (sp (nwO (kep (txO (su st 6 0 0) u2.1 u2.2.1 u2.2.2)) f7) P) u6.1 u6.2.1 u6.2.2)) (skO (st 4) (st 5 0) (u6.1)) (u6.2.1) (u6.2.2)) w0) H locs := hH
                  refine j_top (b := bI (u6.1 < skO (st 4) (st 5 0) (u6.1))) rfl ?_
                  refine lv_istore_n (lv' := [(3, .int (iI (bI (u6.1 < skO (st 4) (st 5 0) (u6.1))))), (2, .int (iI x12)), (0, .ref o), (1, .int (iI n))]) hx hb dX3_runCommands_90 rfl hl (by decide) rfl (fun ls hl => ?_)
                  refine lv_goto (tgt := 38) hx hb dX3_runCommands_91 (by decide) ?_
                  rw [txO_tx] at hH
                  exact ih_38 n x12 P (skO (st 4) (st 5 0) (u6.1)) u6.2.1 u6.2.2 f7 (by omega) (by omega) (by omega) (by intro q; first | exact absurd q (by omega) | (rw [l3 (by omega), rn_y l2.1 hT.2 c50 hr1 (by omega), en, hru])) (by intro q; first | exact absurd q (by omega) | (rw [l3 (by omega)]; exact rn_n2 c64)) (by first | exact l4 | exact (l4.ex (by omega) (by omega)).mono (by omega)) (by omega) (hrn) _ _ hH ls (lv_sub hl [2, 3, 1] rfl)
                · refine lv_aload_n hx hb dX3_runCommands_77 rfl (lv_at hl 1 rfl) ?_
                  refine j_calli (va_runV (As := []) (rest := []) ⟨hx, hb, hml, hown, hts⟩ (m_X3_carryOut l o (txO (sp (nwO (kep (txO (su st 6 0 0) u2.1 u2.2.1 u2.2.2)) f7) P) u6.1 u6.2.1 u6.2.2) w0 _ (l4) (by omega) (by rw [hk2.1]; exact hwd) (hrn) (hwe.trans (by omega))) (cw_X3_carryOut hts q2694 (Nat.le_of_ble_eq_true rfl) (Nat.le_of_ble_eq_true rfl)) (j_preV hV hH wM_o rfl) rfl rfl hl.1 rfl (lv_room (Nat.le_of_ble_eq_true rfl)) dX3_runCommands_78 ⟨Nat.le_of_ble_eq_true rfl, Nat.le_of_ble_eq_true rfl⟩) hH (fun z u H locs hp hH => ?_)
                  obtain ⟨z13, hzz13⟩ : ∃ q, q = z := ⟨_, rfl⟩
                  subst hzz13
                  obtain ⟨u14, huu14⟩ : ∃ q, q = u := ⟨_, rfl⟩
                  subst huu14
                  have hH : jH E s.heap (wM E o (sp (nwO ((txO (sp (nwO (kep (txO (su st 6 0 0) u2.1 u2.2.1 u2.2.2)) f7) P) u6.1 u6.2.1 u6.2.2)) u14) (exP ((txO (sp (nwO (kep (txO (su st 6 0 0) u2.1 u2.2.1 u2.2.2)) f7) P) u6.1 u6.2.1 u6.2.2) 0) ((txO (sp (nwO (kep (txO (su st 6 0 0) u2.1 u2.2.1 u2.2.2)) f7) P) u6.1 u6.2.1 u6.2.2) 21 0) ((txO (sp (nwO (kep (txO (su st 6 0 0) u2.1 u2.2.1 u2.2.2)) f7) P) u6.1 u6.2.1 u6.2.2) 22))) w0) H locs := hH
                  have hp78 : (fun _ u => True) z13 u14 := hp
                  have hH : jH E s.heap (wM E o (txO (sp (nwO (kep (txO (su st 6 0 0) u2.1 u2.2.1 u2.2.2)) u14) (exP P (wdO (st 4) (st 5 0) pl) (nmsO (st 4) (st 5 0) pl))) u6.1 u6.2.1 u6.2.2) w0) H locs := by rw [ex_tx] at hH; rw [← hxe]; exact hH
                  refine j_istore (lv' := fun x15 => [(4, .int (iI x15)), (2, .int (iI x12)), (0, .ref o), (1, .int (iI n))]) hx hb dX3_runCommands_81 hl (by decide) (fun _ => rfl) (fun x15 ex15 ls hl => ?_)
                  refine j_iinc (k := 3) (lv' := fun x16 => [(1, .int (iI x16)), (4, .int (iI x15)), (2, .int (iI x12)), (0, .ref o)]) hx hb dX3_runCommands_83 hl rfl (by decide) (fun _ => rfl) (fun x16 ex16 ls hl => ?_)
                  refine lv_aload_n hx hb dX3_runCommands_86 rfl (lv_at hl 3 rfl) ?_
                  refine j_callif (va_runV (As := []) (rest := []) ⟨hx, hb, hml, hown, hts⟩ (m_X3_skips l o (txO (sp (nwO (kep (txO (su st 6 0 0) u2.1 u2.2.1 u2.2.2)) u14) (exP P (wdO (st 4) (st 5 0) pl) (nmsO (st 4) (st 5 0) pl))) u6.1 u6.2.1 u6.2.2) w0 (h2) (show 0 ≤ u6.1 ∧ u6.1 ≤ st 5 0 by omega)) (cw_X3_skips hts q2651 (Nat.le_of_ble_eq_true rfl) (Nat.le_of_ble_eq_true rfl)) (j_preV hV hH wM_o rfl) rfl rfl hl.1 rfl (lv_room (Nat.le_of_ble_eq_true rfl)) dX3_runCommands_87 ⟨Nat.le_of_ble_eq_true rfl, Nat.le_of_ble_eq_true rfl⟩) hH (fun H locs hH => ?_)
                  have hH : jH E s.heap (wM E o (txO ((txO (sp (nwO (kep (txO (su st 6 0 0) u2.1 u2.2.1 u2.2.2)) u14) (exP P (wdO (st 4) (st 5 0) pl) (nmsO (st 4) (st 5 0) pl))) u6.1 u6.2.1 u6.2.2)) (skO (st 4) (st 5 0) (u6.1)) (u6.2.1) (u6.2.2)) w0) H locs := hH
                  refine j_top (b := bI (u6.1 < skO (st 4) (st 5 0) (u6.1))) rfl ?_
                  refine lv_istore_n (lv' := [(3, .int (iI (bI (u6.1 < skO (st 4) (st 5 0) (u6.1))))), (1, .int (iI x16)), (4, .int (iI x15)), (2, .int (iI x12)), (0, .ref o)]) hx hb dX3_runCommands_90 rfl hl (by decide) rfl (fun ls hl => ?_)
                  refine lv_goto (tgt := 38) hx hb dX3_runCommands_91 (by decide) ?_
                  rw [txO_tx] at hH
                  exact ih_38 x16 x12 (exP P (wdO (st 4) (st 5 0) pl) (nmsO (st 4) (st 5 0) pl)) (skO (st 4) (st 5 0) (u6.1)) u6.2.1 u6.2.2 u14 (by omega) (by omega) (by omega) (by intro q; first | exact absurd q (by omega) | (rw [l3 (by omega), rn_y l2.1 hT.2 c50 hr1 (by omega), ex16, hru])) (by intro q; first | exact absurd q (by omega) | (rw [l3 (by omega)]; exact rn_n2 c64)) (by first | exact l4 | exact (l4.ex (by omega) (by omega)).mono (by omega)) (by omega) (hrn) _ _ hH ls (lv_sub hl [4, 1, 3] rfl)
    exact L38 ((2 * (st 5 0 - (skO (st 4) (st 5 0) 0)) + x4).toNat + 1) x3 x4 (st 0) (skO (st 4) (st 5 0) 0) u2.2.1 u2.2.2 (st 7) (by omega) (by first | assumption | omega) (by first | assumption | omega) (by intro _; rw [ex3]; rfl) (by omega) (by rw [ex3]; exact h1.mono (by omega)) (by first | assumption | omega) (hgn) _ _ hH ls (lv_sub hl [3, 2, 1] rfl)
  · have hg : ¬ (gdO (st 4) (st 5 0)).1 = 1 := bI_0.mp (by omega)
    refine j_bipush hx hb dX3_runCommands_12 (by decide) ?_
    refine lv_aload_n hx hb dX3_runCommands_14 rfl (lv_at hl 0 rfl) ?_
    refine j_get hx hb hts hown hV hH wM_o rfl in_X3 20 (Nat.le_of_ble_eq_true rfl) q2249 (fun _ h => h) rfl dX3_runCommands_15 ?_
    refine j_top (b := u2.1) rfl ?_
    refine j_isub hx hb dX3_runCommands_18 ?_
    have hH : jH E s.heap (wM E o (zO (rnS st) (txO (su st 6 0 0) u2.1 u2.2.1 u2.2.2)) w0) H locs := by rw [rn_no hg]; exact hH
    exact hret (txO ((su st 6 0 0)) u2.1 u2.2.1 u2.2.2) hH dX3_runCommands_19 (Nat.le_of_ble_eq_true rfl) (Nat.le_of_ble_eq_true rfl) (⟨by rw [if_neg hg]; omega, hgn⟩)
