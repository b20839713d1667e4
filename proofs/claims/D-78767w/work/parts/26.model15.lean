/-! THE REFERENCE's METHODS: commands carried out -/
set_option maxRecDepth 100000
/-- the new numbers' array replaced -/
def nwO (st : Ms) (f : Int → Int) : Ms := fun k => if k = 7 then f else st k
theorem nwO_self (st : Ms) : nwO st (st 7) = st := by
  funext k
  unfold nwO
  by_cases h : k = 7
  · subst h; rw [if_pos rfl]
  · rw [if_neg h]
theorem nwO_sp (st : Ms) (f : Int → Int) (P : Int → Int) : nwO (sp st P) f = sp (nwO st f) P := by
  funext k
  unfold nwO sp
  by_cases h : k = 7
  · subst h; rfl
  · by_cases h2 : k = 0
    · subst h2; rfl
    · simp [h, h2]
theorem nnS_nw (st : Ms) (x n : Int) : nwO st (nnS st x n 7) = nnS st x n := by
  funext k
  unfold nwO
  by_cases h : k = 7
  · subst h; rw [if_pos rfl]
  · rw [if_neg h, nnS_k _ _ _ h]
theorem nnS_sp (st : Ms) (x n : Int) (P : Int → Int) : sp (nwO st (nnS st x n 7)) P = sp (nnS st x n) P := by rw [nnS_nw]
theorem cw_X3_whyNot {R : Room} {s : State} {args : Array Value} {own : String} {index lev mc ms : Nat} (hts : ∀ w ∈ lw_all, w.before args s = true) (hl : Cond.methodLink own index yX3_whyNot ∈ lw_all) (hR1 : (rmL lev mc ms).frames + 1 ≤ R.frames) (hR2 : 8 + (1 + 11) + (rmL lev mc ms).locals ≤ R.locals) : CallW R s args own RX3 index yX3_whyNot cX3_whyNot 1 (some .int) (ws_ yX3_whyNot cX3_whyNot 1 (some .int)) (rmL lev mc ms) mc ms 0 :=
  cwV 0 hts (lw_V hl q2692 qs103 q116 q2693) rfl rfl rfl (by decide +kernel) ⟨hR1, hR2⟩
set_option maxHeartbeats 4000000 in
theorem m_X3_whyNot {E : jE} (l : Launch) (o : Nat) (st : Ms) (w0 : Wl) (T : Int) (h1 : PWF T (st 0)) (h2 : T ≤ 900000000) (h3 : 0 ≤ st 21 0 ∧ st 21 0 ≤ 8) (h4 : NMW (st 22)) : Met l yX3_whyNot (ws_ yX3_whyNot cX3_whyNot 1 (some .int)) (rmL 5 0 0) (va_Pc [.ref o] (jP E (wM E o st w0))) (jQi E (fun u : Ms => wM E o u w0) (fun z u => z = whyO (st 0) (st 21 0) (st 22) ∧ u = st)) 0 0 (jA E) := by
  refine j_metI (by decide) (Nat.le_of_ble_eq_true rfl) ?_
  intro p e s m args below meth c Q hx hb hml hown hnm hts hV hH hret ls hl
  have hl : lv_has ls 1 [(0, .ref o)] := hl
  have n0 := h4 0 (by decide) (by decide)
  have n1 := h4 1 (by decide) (by decide)
  have n2 := h4 2 (by decide) (by decide)
  have n3 := h4 3 (by decide) (by decide)
  have n4 := h4 4 (by decide) (by decide)
  have n5 := h4 5 (by decide) (by decide)
  refine lv_aload_n hx hb dX3_whyNot_0 rfl (lv_at hl 0 rfl) ?_
  refine j_get hx hb hts hown hV hH wM_o rfl in_X3 21 (Nat.le_of_ble_eq_true rfl) q2250 (fun _ h => h) rfl dX3_whyNot_1 ?_
  have hsw : ((st 21 0) < 0 ∨ 7 < (st 21 0)) ∨ (st 21 0) = 0 ∨ (st 21 0) = 1 ∨ (st 21 0) = 2 ∨ (st 21 0) = 3 ∨ (st 21 0) = 4 ∨ (st 21 0) = 5 ∨ (st 21 0) = 6 ∨ (st 21 0) = 7 := by omega
  rcases hsw with c4 | c4 | c4 | c4 | c4 | c4 | c4 | c4 | c4
  · refine j_tableOut (tgt := 239) hx hb dX3_whyNot_4 (by omega) c4 (by decide) ?_
    refine lv_aload_n hx hb dX3_whyNot_239 rfl (lv_at hl 0 rfl) ?_
    refine j_get hx hb hts hown hV hH wM_o rfl in_X3 22 (Nat.le_of_ble_eq_true rfl) q2251 (fun _ h => h) rfl dX3_whyNot_240 ?_
    refine j_iconst hx hb dX3_whyNot_243 ?_
    refine j_iald (n := 6) hx hb hV hH wM_22 (by omega) (by omega) dX3_whyNot_244 ?_
    refine j_callip (va_runS (As := [.int (iI (st 22 0))]) (rest := []) ⟨hx, hb, hml, hown, hts⟩ (m_X3_notTick l _ (st 22 0) (by omega)) (cw_X3_notTick hts q2441 (Nat.le_of_ble_eq_true rfl) (Nat.le_of_ble_eq_true rfl)) (j_preS hV hH) rfl rfl hl.1 rfl (lv_room (Nat.le_of_ble_eq_true rfl)) dX3_whyNot_245 ⟨Nat.le_of_ble_eq_true rfl, Nat.le_of_ble_eq_true rfl⟩) hH (fun H locs hH => ?_)
    exact hret st hH dX3_whyNot_248 (Nat.le_of_ble_eq_true rfl) (Nat.le_of_ble_eq_true rfl) (⟨by rw [show st 21 0 = 8 by omega]; rfl, rfl⟩)
  · refine j_tableIn (tgt := 52) hx hb 0 dX3_whyNot_4 c4 (by decide) (by decide) rfl (by decide) ?_
    refine lv_aload_n hx hb dX3_whyNot_52 rfl (lv_at hl 0 rfl) ?_
    refine j_get hx hb hts hown hV hH wM_o rfl in_X3 22 (Nat.le_of_ble_eq_true rfl) q2251 (fun _ h => h) rfl dX3_whyNot_53 ?_
    refine j_iconst hx hb dX3_whyNot_56 ?_
    refine j_iald (n := 6) hx hb hV hH wM_22 (by omega) (by omega) dX3_whyNot_57 ?_
    refine lv_aload_n hx hb dX3_whyNot_58 rfl (lv_at hl 0 rfl) ?_
    refine j_get hx hb hts hown hV hH wM_o rfl in_X3 22 (Nat.le_of_ble_eq_true rfl) q2251 (fun _ h => h) rfl dX3_whyNot_59 ?_
    refine j_iconst hx hb dX3_whyNot_62 ?_
    refine j_iald (n := 6) hx hb hV hH wM_22 (by omega) (by omega) dX3_whyNot_63 ?_
    refine j_callip (va_runS (As := [.int (iI (st 22 0)), .int (iI (st 22 1))]) (rest := []) ⟨hx, hb, hml, hown, hts⟩ (m_X3_notBegin l _ (st 22 0) (st 22 1) (by omega) (by omega)) (cw_X3_notBegin hts q2310 (Nat.le_of_ble_eq_true rfl) (Nat.le_of_ble_eq_true rfl)) (j_preS hV hH) rfl rfl hl.1 rfl (lv_room (Nat.le_of_ble_eq_true rfl)) dX3_whyNot_64 ⟨Nat.le_of_ble_eq_true rfl, Nat.le_of_ble_eq_true rfl⟩) hH (fun H locs hH => ?_)
    exact hret st hH dX3_whyNot_67 (Nat.le_of_ble_eq_true rfl) (Nat.le_of_ble_eq_true rfl) (⟨by rw [c4]; rfl, rfl⟩)
  · refine j_tableIn (tgt := 68) hx hb 1 dX3_whyNot_4 c4 (by decide) (by decide) rfl (by decide) ?_
    refine lv_aload_n hx hb dX3_whyNot_68 rfl (lv_at hl 0 rfl) ?_
    refine j_sipush hx hb dX3_whyNot_69 (by decide) ?_
    refine lv_aload_n hx hb dX3_whyNot_72 rfl (lv_at hl 0 rfl) ?_
    refine j_get hx hb hts hown hV hH wM_o rfl in_X3 22 (Nat.le_of_ble_eq_true rfl) q2251 (fun _ h => h) rfl dX3_whyNot_73 ?_
    refine j_iconst hx hb dX3_whyNot_76 ?_
    refine j_iald (n := 6) hx hb hV hH wM_22 (by omega) (by omega) dX3_whyNot_77 ?_
    refine lv_aload_n hx hb dX3_whyNot_78 rfl (lv_at hl 0 rfl) ?_
    refine j_get hx hb hts hown hV hH wM_o rfl in_X3 22 (Nat.le_of_ble_eq_true rfl) q2251 (fun _ h => h) rfl dX3_whyNot_79 ?_
    refine j_iconst hx hb dX3_whyNot_82 ?_
    refine j_iald (n := 6) hx hb hV hH wM_22 (by omega) (by omega) dX3_whyNot_83 ?_
    refine lv_aload_n hx hb dX3_whyNot_84 rfl (lv_at hl 0 rfl) ?_
    refine j_get hx hb hts hown hV hH wM_o rfl in_X3 22 (Nat.le_of_ble_eq_true rfl) q2251 (fun _ h => h) rfl dX3_whyNot_85 ?_
    refine j_iconst hx hb dX3_whyNot_88 ?_
    refine j_iald (n := 6) hx hb hV hH wM_22 (by omega) (by omega) dX3_whyNot_89 ?_
    refine j_callif (va_runV (As := [.int (iI (-1000)), .int (iI (st 22 0)), .int (iI (st 22 1)), .int (iI (st 22 2))]) (rest := []) ⟨hx, hb, hml, hown, hts⟩ (m_X3_notAdd l o st w0 _ (-1000) (st 22 0) (st 22 1) (st 22 2) (h1) (by omega) (by omega) (by omega) (by omega)) (cw_X3_notAdd hts q2331 (Nat.le_of_ble_eq_true rfl) (Nat.le_of_ble_eq_true rfl)) (j_preV hV hH wM_o rfl) rfl rfl hl.1 rfl (lv_room (Nat.le_of_ble_eq_true rfl)) dX3_whyNot_90 ⟨Nat.le_of_ble_eq_true rfl, Nat.le_of_ble_eq_true rfl⟩) hH (fun H locs hH => ?_)
    exact hret st hH dX3_whyNot_93 (Nat.le_of_ble_eq_true rfl) (Nat.le_of_ble_eq_true rfl) (⟨by rw [c4]; rfl, rfl⟩)
  · refine j_tableIn (tgt := 94) hx hb 2 dX3_whyNot_4 c4 (by decide) (by decide) rfl (by decide) ?_
    refine lv_aload_n hx hb dX3_whyNot_94 rfl (lv_at hl 0 rfl) ?_
    refine lv_aload_n hx hb dX3_whyNot_95 rfl (lv_at hl 0 rfl) ?_
    refine j_get hx hb hts hown hV hH wM_o rfl in_X3 22 (Nat.le_of_ble_eq_true rfl) q2251 (fun _ h => h) rfl dX3_whyNot_96 ?_
    refine j_iconst hx hb dX3_whyNot_99 ?_
    refine j_iald (n := 6) hx hb hV hH wM_22 (by omega) (by omega) dX3_whyNot_100 ?_
    refine lv_aload_n hx hb dX3_whyNot_101 rfl (lv_at hl 0 rfl) ?_
    refine j_get hx hb hts hown hV hH wM_o rfl in_X3 22 (Nat.le_of_ble_eq_true rfl) q2251 (fun _ h => h) rfl dX3_whyNot_102 ?_
    refine j_iconst hx hb dX3_whyNot_105 ?_
    refine j_iald (n := 6) hx hb hV hH wM_22 (by omega) (by omega) dX3_whyNot_106 ?_
    refine lv_aload_n hx hb dX3_whyNot_107 rfl (lv_at hl 0 rfl) ?_
    refine j_get hx hb hts hown hV hH wM_o rfl in_X3 22 (Nat.le_of_ble_eq_true rfl) q2251 (fun _ h => h) rfl dX3_whyNot_108 ?_
    refine j_iconst hx hb dX3_whyNot_111 ?_
    refine j_iald (n := 6) hx hb hV hH wM_22 (by omega) (by omega) dX3_whyNot_112 ?_
    refine lv_aload_n hx hb dX3_whyNot_113 rfl (lv_at hl 0 rfl) ?_
    refine j_get hx hb hts hown hV hH wM_o rfl in_X3 22 (Nat.le_of_ble_eq_true rfl) q2251 (fun _ h => h) rfl dX3_whyNot_114 ?_
    refine j_iconst hx hb dX3_whyNot_117 ?_
    refine j_iald (n := 6) hx hb hV hH wM_22 (by omega) (by omega) dX3_whyNot_118 ?_
    refine lv_aload_n hx hb dX3_whyNot_119 rfl (lv_at hl 0 rfl) ?_
    refine j_get hx hb hts hown hV hH wM_o rfl in_X3 22 (Nat.le_of_ble_eq_true rfl) q2251 (fun _ h => h) rfl dX3_whyNot_120 ?_
    refine j_iconst hx hb dX3_whyNot_123 ?_
    refine j_iald (n := 6) hx hb hV hH wM_22 (by omega) (by omega) dX3_whyNot_124 ?_
    refine lv_aload_n hx hb dX3_whyNot_125 rfl (lv_at hl 0 rfl) ?_
    refine j_get hx hb hts hown hV hH wM_o rfl in_X3 22 (Nat.le_of_ble_eq_true rfl) q2251 (fun _ h => h) rfl dX3_whyNot_126 ?_
    refine j_iconst hx hb dX3_whyNot_129 ?_
    refine j_iald (n := 6) hx hb hV hH wM_22 (by omega) (by omega) dX3_whyNot_130 ?_
    refine j_callif (va_runV (As := [.int (iI (st 22 0)), .int (iI (st 22 1)), .int (iI (st 22 2)), .int (iI (st 22 3)), .int (iI (st 22 4)), .int (iI (st 22 5))]) (rest := []) ⟨hx, hb, hml, hown, hts⟩ (m_X3_notBox l o st w0 _ (st 22 0) (st 22 1) (st 22 2) (st 22 3) (st 22 4) (st 22 5) (h1) (by omega) (by omega) (by omega) (by omega) (by omega) (by omega)) (cw_X3_notBox hts q2362 (Nat.le_of_ble_eq_true rfl) (Nat.le_of_ble_eq_true rfl)) (j_preV hV hH wM_o rfl) rfl rfl hl.1 rfl (lv_room (Nat.le_of_ble_eq_true rfl)) dX3_whyNot_131 ⟨Nat.le_of_ble_eq_true rfl, Nat.le_of_ble_eq_true rfl⟩) hH (fun H locs hH => ?_)
    exact hret st hH dX3_whyNot_134 (Nat.le_of_ble_eq_true rfl) (Nat.le_of_ble_eq_true rfl) (⟨by rw [c4]; rfl, rfl⟩)
  · refine j_tableIn (tgt := 135) hx hb 3 dX3_whyNot_4 c4 (by decide) (by decide) rfl (by decide) ?_
    refine lv_aload_n hx hb dX3_whyNot_135 rfl (lv_at hl 0 rfl) ?_
    refine lv_aload_n hx hb dX3_whyNot_136 rfl (lv_at hl 0 rfl) ?_
    refine j_get hx hb hts hown hV hH wM_o rfl in_X3 22 (Nat.le_of_ble_eq_true rfl) q2251 (fun _ h => h) rfl dX3_whyNot_137 ?_
    refine j_iconst hx hb dX3_whyNot_140 ?_
    refine j_iald (n := 6) hx hb hV hH wM_22 (by omega) (by omega) dX3_whyNot_141 ?_
    refine lv_aload_n hx hb dX3_whyNot_142 rfl (lv_at hl 0 rfl) ?_
    refine j_get hx hb hts hown hV hH wM_o rfl in_X3 22 (Nat.le_of_ble_eq_true rfl) q2251 (fun _ h => h) rfl dX3_whyNot_143 ?_
    refine j_iconst hx hb dX3_whyNot_146 ?_
    refine j_iald (n := 6) hx hb hV hH wM_22 (by omega) (by omega) dX3_whyNot_147 ?_
    refine lv_aload_n hx hb dX3_whyNot_148 rfl (lv_at hl 0 rfl) ?_
    refine j_get hx hb hts hown hV hH wM_o rfl in_X3 22 (Nat.le_of_ble_eq_true rfl) q2251 (fun _ h => h) rfl dX3_whyNot_149 ?_
    refine j_iconst hx hb dX3_whyNot_152 ?_
    refine j_iald (n := 6) hx hb hV hH wM_22 (by omega) (by omega) dX3_whyNot_153 ?_
    refine lv_aload_n hx hb dX3_whyNot_154 rfl (lv_at hl 0 rfl) ?_
    refine j_get hx hb hts hown hV hH wM_o rfl in_X3 22 (Nat.le_of_ble_eq_true rfl) q2251 (fun _ h => h) rfl dX3_whyNot_155 ?_
    refine j_iconst hx hb dX3_whyNot_158 ?_
    refine j_iald (n := 6) hx hb hV hH wM_22 (by omega) (by omega) dX3_whyNot_159 ?_
    refine j_ineg hx hb dX3_whyNot_160 ?_
    refine j_callif (va_runV (As := [.int (iI (st 22 0)), .int (iI (st 22 1)), .int (iI (st 22 2)), .int (iI (-(st 22 3)))]) (rest := []) ⟨hx, hb, hml, hown, hts⟩ (m_X3_notMove l o st w0 _ (st 22 0) (st 22 1) (st 22 2) (-(st 22 3)) (h1) (by omega) (by omega) (by omega) (by omega)) (cw_X3_notMove hts q2370 (Nat.le_of_ble_eq_true rfl) (Nat.le_of_ble_eq_true rfl)) (j_preV hV hH wM_o rfl) rfl rfl hl.1 rfl (lv_room (Nat.le_of_ble_eq_true rfl)) dX3_whyNot_161 ⟨Nat.le_of_ble_eq_true rfl, Nat.le_of_ble_eq_true rfl⟩) hH (fun H locs hH => ?_)
    exact hret st hH dX3_whyNot_164 (Nat.le_of_ble_eq_true rfl) (Nat.le_of_ble_eq_true rfl) (⟨by rw [c4]; rfl, rfl⟩)
  · refine j_tableIn (tgt := 165) hx hb 4 dX3_whyNot_4 c4 (by decide) (by decide) rfl (by decide) ?_
    refine lv_aload_n hx hb dX3_whyNot_165 rfl (lv_at hl 0 rfl) ?_
    refine lv_aload_n hx hb dX3_whyNot_166 rfl (lv_at hl 0 rfl) ?_
    refine j_get hx hb hts hown hV hH wM_o rfl in_X3 22 (Nat.le_of_ble_eq_true rfl) q2251 (fun _ h => h) rfl dX3_whyNot_167 ?_
    refine j_iconst hx hb dX3_whyNot_170 ?_
    refine j_iald (n := 6) hx hb hV hH wM_22 (by omega) (by omega) dX3_whyNot_171 ?_
    refine j_ineg hx hb dX3_whyNot_172 ?_
    refine lv_aload_n hx hb dX3_whyNot_173 rfl (lv_at hl 0 rfl) ?_
    refine j_get hx hb hts hown hV hH wM_o rfl in_X3 22 (Nat.le_of_ble_eq_true rfl) q2251 (fun _ h => h) rfl dX3_whyNot_174 ?_
    refine j_iconst hx hb dX3_whyNot_177 ?_
    refine j_iald (n := 6) hx hb hV hH wM_22 (by omega) (by omega) dX3_whyNot_178 ?_
    refine lv_aload_n hx hb dX3_whyNot_179 rfl (lv_at hl 0 rfl) ?_
    refine j_get hx hb hts hown hV hH wM_o rfl in_X3 22 (Nat.le_of_ble_eq_true rfl) q2251 (fun _ h => h) rfl dX3_whyNot_180 ?_
    refine j_iconst hx hb dX3_whyNot_183 ?_
    refine j_iald (n := 6) hx hb hV hH wM_22 (by omega) (by omega) dX3_whyNot_184 ?_
    refine j_callif (va_runV (As := [.int (iI (-(st 22 0))), .int (iI (st 22 1)), .int (iI (st 22 2))]) (rest := []) ⟨hx, hb, hml, hown, hts⟩ (m_X3_notScene l o st w0 _ (-(st 22 0)) (st 22 1) (st 22 2) (h1) (by omega) (by omega) (by omega)) (cw_X3_notScene hts q2402 (Nat.le_of_ble_eq_true rfl) (Nat.le_of_ble_eq_true rfl)) (j_preV hV hH wM_o rfl) rfl rfl hl.1 rfl (lv_room (Nat.le_of_ble_eq_true rfl)) dX3_whyNot_185 ⟨Nat.le_of_ble_eq_true rfl, Nat.le_of_ble_eq_true rfl⟩) hH (fun H locs hH => ?_)
    exact hret st hH dX3_whyNot_188 (Nat.le_of_ble_eq_true rfl) (Nat.le_of_ble_eq_true rfl) (⟨by rw [c4]; rfl, rfl⟩)
  · refine j_tableIn (tgt := 189) hx hb 5 dX3_whyNot_4 c4 (by decide) (by decide) rfl (by decide) ?_
    refine lv_aload_n hx hb dX3_whyNot_189 rfl (lv_at hl 0 rfl) ?_
    refine j_get hx hb hts hown hV hH wM_o rfl in_X3 22 (Nat.le_of_ble_eq_true rfl) q2251 (fun _ h => h) rfl dX3_whyNot_190 ?_
    refine j_iconst hx hb dX3_whyNot_193 ?_
    refine j_iald (n := 6) hx hb hV hH wM_22 (by omega) (by omega) dX3_whyNot_194 ?_
    refine lv_aload_n hx hb dX3_whyNot_195 rfl (lv_at hl 0 rfl) ?_
    refine j_get hx hb hts hown hV hH wM_o rfl in_X3 22 (Nat.le_of_ble_eq_true rfl) q2251 (fun _ h => h) rfl dX3_whyNot_196 ?_
    refine j_iconst hx hb dX3_whyNot_199 ?_
    refine j_iald (n := 6) hx hb hV hH wM_22 (by omega) (by omega) dX3_whyNot_200 ?_
    refine j_callip (va_runS (As := [.int (iI (st 22 0)), .int (iI (st 22 1))]) (rest := []) ⟨hx, hb, hml, hown, hts⟩ (m_X3_notSet l _ (st 22 0) (st 22 1) (by omega) (by omega)) (cw_X3_notSet hts q2414 (Nat.le_of_ble_eq_true rfl) (Nat.le_of_ble_eq_true rfl)) (j_preS hV hH) rfl rfl hl.1 rfl (lv_room (Nat.le_of_ble_eq_true rfl)) dX3_whyNot_201 ⟨Nat.le_of_ble_eq_true rfl, Nat.le_of_ble_eq_true rfl⟩) hH (fun H locs hH => ?_)
    exact hret st hH dX3_whyNot_204 (Nat.le_of_ble_eq_true rfl) (Nat.le_of_ble_eq_true rfl) (⟨by rw [c4]; rfl, rfl⟩)
  · refine j_tableIn (tgt := 205) hx hb 6 dX3_whyNot_4 c4 (by decide) (by decide) rfl (by decide) ?_
    refine lv_aload_n hx hb dX3_whyNot_205 rfl (lv_at hl 0 rfl) ?_
    refine lv_aload_n hx hb dX3_whyNot_206 rfl (lv_at hl 0 rfl) ?_
    refine j_get hx hb hts hown hV hH wM_o rfl in_X3 22 (Nat.le_of_ble_eq_true rfl) q2251 (fun _ h => h) rfl dX3_whyNot_207 ?_
    refine j_iconst hx hb dX3_whyNot_210 ?_
    refine j_iald (n := 6) hx hb hV hH wM_22 (by omega) (by omega) dX3_whyNot_211 ?_
    refine lv_aload_n hx hb dX3_whyNot_212 rfl (lv_at hl 0 rfl) ?_
    refine j_get hx hb hts hown hV hH wM_o rfl in_X3 22 (Nat.le_of_ble_eq_true rfl) q2251 (fun _ h => h) rfl dX3_whyNot_213 ?_
    refine j_iconst hx hb dX3_whyNot_216 ?_
    refine j_iald (n := 6) hx hb hV hH wM_22 (by omega) (by omega) dX3_whyNot_217 ?_
    refine lv_aload_n hx hb dX3_whyNot_218 rfl (lv_at hl 0 rfl) ?_
    refine j_get hx hb hts hown hV hH wM_o rfl in_X3 22 (Nat.le_of_ble_eq_true rfl) q2251 (fun _ h => h) rfl dX3_whyNot_219 ?_
    refine j_iconst hx hb dX3_whyNot_222 ?_
    refine j_iald (n := 6) hx hb hV hH wM_22 (by omega) (by omega) dX3_whyNot_223 ?_
    refine j_callif (va_runV (As := [.int (iI (st 22 0)), .int (iI (st 22 1)), .int (iI (st 22 2))]) (rest := []) ⟨hx, hb, hml, hown, hts⟩ (m_X3_notTitle l o st w0 _ (st 22 0) (st 22 1) (st 22 2) (h1) (by omega) (by omega) (by omega)) (cw_X3_notTitle hts q2425 (Nat.le_of_ble_eq_true rfl) (Nat.le_of_ble_eq_true rfl)) (j_preV hV hH wM_o rfl) rfl rfl hl.1 rfl (lv_room (Nat.le_of_ble_eq_true rfl)) dX3_whyNot_224 ⟨Nat.le_of_ble_eq_true rfl, Nat.le_of_ble_eq_true rfl⟩) hH (fun H locs hH => ?_)
    exact hret st hH dX3_whyNot_227 (Nat.le_of_ble_eq_true rfl) (Nat.le_of_ble_eq_true rfl) (⟨by rw [c4]; rfl, rfl⟩)
  · refine j_tableIn (tgt := 228) hx hb 7 dX3_whyNot_4 c4 (by decide) (by decide) rfl (by decide) ?_
    refine lv_aload_n hx hb dX3_whyNot_228 rfl (lv_at hl 0 rfl) ?_
    refine lv_aload_n hx hb dX3_whyNot_229 rfl (lv_at hl 0 rfl) ?_
    refine j_get hx hb hts hown hV hH wM_o rfl in_X3 22 (Nat.le_of_ble_eq_true rfl) q2251 (fun _ h => h) rfl dX3_whyNot_230 ?_
    refine j_iconst hx hb dX3_whyNot_233 ?_
    refine j_iald (n := 6) hx hb hV hH wM_22 (by omega) (by omega) dX3_whyNot_234 ?_
    refine j_callif (va_runV (As := [.int (iI (st 22 0))]) (rest := []) ⟨hx, hb, hml, hown, hts⟩ (m_X3_notRemove l o st w0 _ (st 22 0) (h1) (by omega)) (cw_X3_notRemove hts q2386 (Nat.le_of_ble_eq_true rfl) (Nat.le_of_ble_eq_true rfl)) (j_preV hV hH wM_o rfl) rfl rfl hl.1 rfl (lv_room (Nat.le_of_ble_eq_true rfl)) dX3_whyNot_235 ⟨Nat.le_of_ble_eq_true rfl, Nat.le_of_ble_eq_true rfl⟩) hH (fun H locs hH => ?_)
    exact hret st hH dX3_whyNot_238 (Nat.le_of_ble_eq_true rfl) (Nat.le_of_ble_eq_true rfl) (⟨by rw [c4]; rfl, rfl⟩)
theorem cw_X3_carryOut {R : Room} {s : State} {args : Array Value} {own : String} {index lev mc ms : Nat} (hts : ∀ w ∈ lw_all, w.before args s = true) (hl : Cond.methodLink own index yX3_carryOut ∈ lw_all) (hR1 : (rmL lev mc ms).frames + 1 ≤ R.frames) (hR2 : 8 + (1 + 11) + (rmL lev mc ms).locals ≤ R.locals) : CallW R s args own RX3 index yX3_carryOut cX3_carryOut 1 (some .int) (ws_ yX3_carryOut cX3_carryOut 1 (some .int)) (rmL lev mc ms) mc ms 0 :=
  cwV 0 hts (lw_V hl q2696 qs104 q116 q2697) rfl rfl rfl (by decide +kernel) ⟨hR1, hR2⟩
set_option maxHeartbeats 4000000 in
theorem m_X3_carryOut {E : jE} (l : Launch) (o : Nat) (st : Ms) (w0 : Wl) (T : Int) (h1 : PWF T (st 0)) (h2 : T ≤ 900000000) (h3 : 0 ≤ st 21 0 ∧ st 21 0 ≤ 8) (h4 : NMW (st 22)) (h5 : whyO (st 0) (st 21 0) (st 22) = 0) : Met l yX3_carryOut (ws_ yX3_carryOut cX3_carryOut 1 (some .int)) (rmL 4 0 0) (va_Pc [.ref o] (jP E (wM E o st w0))) (jQi E (fun u : Int → Int => wM E o (sp (nwO (st) u) (exP (st 0) (st 21 0) (st 22))) w0) (fun _ u => True)) 0 0 (jA E) := by
  refine j_metI (by decide) (Nat.le_of_ble_eq_true rfl) ?_
  intro p e s m args below meth c Q hx hb hml hown hnm hts hV hH hret ls hl
  have hl : lv_has ls 1 [(0, .ref o)] := hl
  have n0 := h4 0 (by decide) (by decide)
  have n1 := h4 1 (by decide) (by decide)
  have n2 := h4 2 (by decide) (by decide)
  have n3 := h4 3 (by decide) (by decide)
  have n4 := h4 4 (by decide) (by decide)
  have n5 := h4 5 (by decide) (by decide)
  have hA := h1.A
  refine lv_aload_n hx hb dX3_carryOut_0 rfl (lv_at hl 0 rfl) ?_
  refine j_get hx hb hts hown hV hH wM_o rfl in_X3 21 (Nat.le_of_ble_eq_true rfl) q2250 (fun _ h => h) rfl dX3_carryOut_1 ?_
  have hsw : ((st 21 0) < 0 ∨ 7 < (st 21 0)) ∨ (st 21 0) = 0 ∨ (st 21 0) = 1 ∨ (st 21 0) = 2 ∨ (st 21 0) = 3 ∨ (st 21 0) = 4 ∨ (st 21 0) = 5 ∨ (st 21 0) = 6 ∨ (st 21 0) = 7 := by omega
  rcases hsw with c4 | c4 | c4 | c4 | c4 | c4 | c4 | c4 | c4
  · refine j_tableOut (tgt := 243) hx hb dX3_carryOut_4 (by omega) c4 (by decide) ?_
    refine lv_aload_n hx hb dX3_carryOut_243 rfl (lv_at hl 0 rfl) ?_
    refine lv_aload_n hx hb dX3_carryOut_244 rfl (lv_at hl 0 rfl) ?_
    refine j_get hx hb hts hown hV hH wM_o rfl in_X3 22 (Nat.le_of_ble_eq_true rfl) q2251 (fun _ h => h) rfl dX3_carryOut_245 ?_
    refine j_iconst hx hb dX3_carryOut_248 ?_
    refine j_iald (n := 6) hx hb hV hH wM_22 (by omega) (by omega) dX3_carryOut_249 ?_
    have hy : whyO (st 0) 8 (st 22) = 0 := by rw [show (8 : Int) = st 21 0 by omega]; exact h5
    have hti : 1 ≤ st 22 0 ∧ st 22 0 ≤ 200 := by have q : nTick (st 22 0) = 0 := hy; unfold nTick at q; split at q <;> omega
    refine j_callif (va_runV (As := [.int (iI (st 22 0))]) (rest := []) ⟨hx, hb, hml, hown, hts⟩ (m_X3_ticksOn l o st w0 _ (st 22 0) (h1) (by omega) (by omega)) (cw_X3_ticksOn hts q2444 (Nat.le_of_ble_eq_true rfl) (Nat.le_of_ble_eq_true rfl)) (j_preV hV hH wM_o rfl) rfl rfl hl.1 rfl (lv_room (Nat.le_of_ble_eq_true rfl)) dX3_carryOut_250 ⟨Nat.le_of_ble_eq_true rfl, Nat.le_of_ble_eq_true rfl⟩) hH (fun H locs hH => ?_)
    have hH : jH E s.heap (wM E o (sp (nwO st (st 7)) (exP (st 0) (st 21 0) (st 22))) w0) H locs := by rw [nwO_self, show st 21 0 = 8 by omega]; exact hH
    exact hret (st 7) hH dX3_carryOut_253 (Nat.le_of_ble_eq_true rfl) (Nat.le_of_ble_eq_true rfl) (trivial)
  · refine j_tableIn (tgt := 52) hx hb 0 dX3_carryOut_4 c4 (by decide) (by decide) rfl (by decide) ?_
    refine lv_aload_n hx hb dX3_carryOut_52 rfl (lv_at hl 0 rfl) ?_
    refine lv_aload_n hx hb dX3_carryOut_53 rfl (lv_at hl 0 rfl) ?_
    refine j_get hx hb hts hown hV hH wM_o rfl in_X3 22 (Nat.le_of_ble_eq_true rfl) q2251 (fun _ h => h) rfl dX3_carryOut_54 ?_
    refine j_iconst hx hb dX3_carryOut_57 ?_
    refine j_iald (n := 6) hx hb hV hH wM_22 (by omega) (by omega) dX3_carryOut_58 ?_
    refine lv_aload_n hx hb dX3_carryOut_59 rfl (lv_at hl 0 rfl) ?_
    refine j_get hx hb hts hown hV hH wM_o rfl in_X3 22 (Nat.le_of_ble_eq_true rfl) q2251 (fun _ h => h) rfl dX3_carryOut_60 ?_
    refine j_iconst hx hb dX3_carryOut_63 ?_
    refine j_iald (n := 6) hx hb hV hH wM_22 (by omega) (by omega) dX3_carryOut_64 ?_
    have hy : whyO (st 0) 0 (st 22) = 0 := by have h5b := h5; rw [c4] at h5b; exact h5b
    refine j_callif (va_runV (As := [.int (iI (st 22 0)), .int (iI (st 22 1))]) (rest := []) ⟨hx, hb, hml, hown, hts⟩ (m_X3_begins l o st w0 (st 22 0) (st 22 1)) (cw_X3_begins hts q2323 (Nat.le_of_ble_eq_true rfl) (Nat.le_of_ble_eq_true rfl)) (j_preV hV hH wM_o rfl) rfl rfl hl.1 rfl (lv_room (Nat.le_of_ble_eq_true rfl)) dX3_carryOut_65 ⟨Nat.le_of_ble_eq_true rfl, Nat.le_of_ble_eq_true rfl⟩) hH (fun H locs hH => ?_)
    have hH : jH E s.heap (wM E o (sp (nwO st (st 7)) (exP (st 0) (st 21 0) (st 22))) w0) H locs := by rw [nwO_self, c4]; exact hH
    exact hret (st 7) hH dX3_carryOut_68 (Nat.le_of_ble_eq_true rfl) (Nat.le_of_ble_eq_true rfl) (trivial)
  · refine j_tableIn (tgt := 69) hx hb 1 dX3_carryOut_4 c4 (by decide) (by decide) rfl (by decide) ?_
    refine lv_aload_n hx hb dX3_carryOut_69 rfl (lv_at hl 0 rfl) ?_
    refine j_sipush hx hb dX3_carryOut_70 (by decide) ?_
    refine lv_aload_n hx hb dX3_carryOut_73 rfl (lv_at hl 0 rfl) ?_
    refine j_get hx hb hts hown hV hH wM_o rfl in_X3 22 (Nat.le_of_ble_eq_true rfl) q2251 (fun _ h => h) rfl dX3_carryOut_74 ?_
    refine j_iconst hx hb dX3_carryOut_77 ?_
    refine j_iald (n := 6) hx hb hV hH wM_22 (by omega) (by omega) dX3_carryOut_78 ?_
    refine lv_aload_n hx hb dX3_carryOut_79 rfl (lv_at hl 0 rfl) ?_
    refine j_get hx hb hts hown hV hH wM_o rfl in_X3 22 (Nat.le_of_ble_eq_true rfl) q2251 (fun _ h => h) rfl dX3_carryOut_80 ?_
    refine j_iconst hx hb dX3_carryOut_83 ?_
    refine j_iald (n := 6) hx hb hV hH wM_22 (by omega) (by omega) dX3_carryOut_84 ?_
    refine lv_aload_n hx hb dX3_carryOut_85 rfl (lv_at hl 0 rfl) ?_
    refine j_get hx hb hts hown hV hH wM_o rfl in_X3 22 (Nat.le_of_ble_eq_true rfl) q2251 (fun _ h => h) rfl dX3_carryOut_86 ?_
    refine j_iconst hx hb dX3_carryOut_89 ?_
    refine j_iald (n := 6) hx hb hV hH wM_22 (by omega) (by omega) dX3_carryOut_90 ?_
    refine j_iconst hx hb dX3_carryOut_91 ?_
    refine j_iconst hx hb dX3_carryOut_92 ?_
    have hy : whyO (st 0) 1 (st 22) = 0 := by have h5b := h5; rw [c4] at h5b; exact h5b
    have hor := nAdd_or (st 0) (-1000) (st 22 0) (st 22 1) (st 22 2)
    have hy2 : nAdd (st 0) (-1000) (st 22 0) (st 22 1) (st 22 2) = 0 := hy
    refine j_callif (va_runV (As := [.int (iI (-1000)), .int (iI (st 22 0)), .int (iI (st 22 1)), .int (iI (st 22 2)), .int (iI 0), .int (iI 0)]) (rest := []) ⟨hx, hb, hml, hown, hts⟩ (m_X3_adds l o st w0 (-1000) (st 22 0) (st 22 1) (st 22 2) 0 0 (by omega)) (cw_X3_adds hts q2354 (Nat.le_of_ble_eq_true rfl) (Nat.le_of_ble_eq_true rfl)) (j_preV hV hH wM_o rfl) rfl rfl hl.1 rfl (lv_room (Nat.le_of_ble_eq_true rfl)) dX3_carryOut_93 ⟨Nat.le_of_ble_eq_true rfl, Nat.le_of_ble_eq_true rfl⟩) hH (fun H locs hH => ?_)
    have hH : jH E s.heap (wM E o (sp (nwO st (st 7)) (exP (st 0) (st 21 0) (st 22))) w0) H locs := by rw [nwO_self, c4]; exact hH
    exact hret (st 7) hH dX3_carryOut_96 (Nat.le_of_ble_eq_true rfl) (Nat.le_of_ble_eq_true rfl) (trivial)
  · refine j_tableIn (tgt := 97) hx hb 2 dX3_carryOut_4 c4 (by decide) (by decide) rfl (by decide) ?_
    refine lv_aload_n hx hb dX3_carryOut_97 rfl (lv_at hl 0 rfl) ?_
    refine lv_aload_n hx hb dX3_carryOut_98 rfl (lv_at hl 0 rfl) ?_
    refine j_get hx hb hts hown hV hH wM_o rfl in_X3 22 (Nat.le_of_ble_eq_true rfl) q2251 (fun _ h => h) rfl dX3_carryOut_99 ?_
    refine j_iconst hx hb dX3_carryOut_102 ?_
    refine j_iald (n := 6) hx hb hV hH wM_22 (by omega) (by omega) dX3_carryOut_103 ?_
    refine lv_aload_n hx hb dX3_carryOut_104 rfl (lv_at hl 0 rfl) ?_
    refine j_get hx hb hts hown hV hH wM_o rfl in_X3 22 (Nat.le_of_ble_eq_true rfl) q2251 (fun _ h => h) rfl dX3_carryOut_105 ?_
    refine j_iconst hx hb dX3_carryOut_108 ?_
    refine j_iald (n := 6) hx hb hV hH wM_22 (by omega) (by omega) dX3_carryOut_109 ?_
    refine lv_aload_n hx hb dX3_carryOut_110 rfl (lv_at hl 0 rfl) ?_
    refine j_get hx hb hts hown hV hH wM_o rfl in_X3 22 (Nat.le_of_ble_eq_true rfl) q2251 (fun _ h => h) rfl dX3_carryOut_111 ?_
    refine j_iconst hx hb dX3_carryOut_114 ?_
    refine j_iald (n := 6) hx hb hV hH wM_22 (by omega) (by omega) dX3_carryOut_115 ?_
    refine lv_aload_n hx hb dX3_carryOut_116 rfl (lv_at hl 0 rfl) ?_
    refine j_get hx hb hts hown hV hH wM_o rfl in_X3 22 (Nat.le_of_ble_eq_true rfl) q2251 (fun _ h => h) rfl dX3_carryOut_117 ?_
    refine j_iconst hx hb dX3_carryOut_120 ?_
    refine j_iald (n := 6) hx hb hV hH wM_22 (by omega) (by omega) dX3_carryOut_121 ?_
    refine lv_aload_n hx hb dX3_carryOut_122 rfl (lv_at hl 0 rfl) ?_
    refine j_get hx hb hts hown hV hH wM_o rfl in_X3 22 (Nat.le_of_ble_eq_true rfl) q2251 (fun _ h => h) rfl dX3_carryOut_123 ?_
    refine j_iconst hx hb dX3_carryOut_126 ?_
    refine j_iald (n := 6) hx hb hV hH wM_22 (by omega) (by omega) dX3_carryOut_127 ?_
    refine lv_aload_n hx hb dX3_carryOut_128 rfl (lv_at hl 0 rfl) ?_
    refine j_get hx hb hts hown hV hH wM_o rfl in_X3 22 (Nat.le_of_ble_eq_true rfl) q2251 (fun _ h => h) rfl dX3_carryOut_129 ?_
    refine j_iconst hx hb dX3_carryOut_132 ?_
    refine j_iald (n := 6) hx hb hV hH wM_22 (by omega) (by omega) dX3_carryOut_133 ?_
    have hy : whyO (st 0) 2 (st 22) = 0 := by have h5b := h5; rw [c4] at h5b; exact h5b
    have hor := nAdd_or (st 0) (st 22 0) (st 22 1) (st 22 2) (st 22 3)
    have hy2 := (nBox_0 (show nBox (st 0) (st 22 0) (st 22 1) (st 22 2) (st 22 3) (st 22 4) (st 22 5) = 0 from hy)).1
    refine j_callif (va_runV (As := [.int (iI (st 22 0)), .int (iI (st 22 1)), .int (iI (st 22 2)), .int (iI (st 22 3)), .int (iI (st 22 4)), .int (iI (st 22 5))]) (rest := []) ⟨hx, hb, hml, hown, hts⟩ (m_X3_adds l o st w0 (st 22 0) (st 22 1) (st 22 2) (st 22 3) (st 22 4) (st 22 5) (by omega)) (cw_X3_adds hts q2354 (Nat.le_of_ble_eq_true rfl) (Nat.le_of_ble_eq_true rfl)) (j_preV hV hH wM_o rfl) rfl rfl hl.1 rfl (lv_room (Nat.le_of_ble_eq_true rfl)) dX3_carryOut_134 ⟨Nat.le_of_ble_eq_true rfl, Nat.le_of_ble_eq_true rfl⟩) hH (fun H locs hH => ?_)
    have hH : jH E s.heap (wM E o (sp (nwO st (st 7)) (exP (st 0) (st 21 0) (st 22))) w0) H locs := by rw [nwO_self, c4]; exact hH
    exact hret (st 7) hH dX3_carryOut_137 (Nat.le_of_ble_eq_true rfl) (Nat.le_of_ble_eq_true rfl) (trivial)
  · refine j_tableIn (tgt := 138) hx hb 3 dX3_carryOut_4 c4 (by decide) (by decide) rfl (by decide) ?_
    refine lv_aload_n hx hb dX3_carryOut_138 rfl (lv_at hl 0 rfl) ?_
    refine lv_aload_n hx hb dX3_carryOut_139 rfl (lv_at hl 0 rfl) ?_
    refine j_get hx hb hts hown hV hH wM_o rfl in_X3 22 (Nat.le_of_ble_eq_true rfl) q2251 (fun _ h => h) rfl dX3_carryOut_140 ?_
    refine j_iconst hx hb dX3_carryOut_143 ?_
    refine j_iald (n := 6) hx hb hV hH wM_22 (by omega) (by omega) dX3_carryOut_144 ?_
    refine lv_aload_n hx hb dX3_carryOut_145 rfl (lv_at hl 0 rfl) ?_
    refine j_get hx hb hts hown hV hH wM_o rfl in_X3 22 (Nat.le_of_ble_eq_true rfl) q2251 (fun _ h => h) rfl dX3_carryOut_146 ?_
    refine j_iconst hx hb dX3_carryOut_149 ?_
    refine j_iald (n := 6) hx hb hV hH wM_22 (by omega) (by omega) dX3_carryOut_150 ?_
    refine lv_aload_n hx hb dX3_carryOut_151 rfl (lv_at hl 0 rfl) ?_
    refine j_get hx hb hts hown hV hH wM_o rfl in_X3 22 (Nat.le_of_ble_eq_true rfl) q2251 (fun _ h => h) rfl dX3_carryOut_152 ?_
    refine j_iconst hx hb dX3_carryOut_155 ?_
    refine j_iald (n := 6) hx hb hV hH wM_22 (by omega) (by omega) dX3_carryOut_156 ?_
    refine lv_aload_n hx hb dX3_carryOut_157 rfl (lv_at hl 0 rfl) ?_
    refine j_get hx hb hts hown hV hH wM_o rfl in_X3 22 (Nat.le_of_ble_eq_true rfl) q2251 (fun _ h => h) rfl dX3_carryOut_158 ?_
    refine j_iconst hx hb dX3_carryOut_161 ?_
    refine j_iald (n := 6) hx hb hV hH wM_22 (by omega) (by omega) dX3_carryOut_162 ?_
    refine j_ineg hx hb dX3_carryOut_163 ?_
    have hy : whyO (st 0) 3 (st 22) = 0 := by have h5b := h5; rw [c4] at h5b; exact h5b
    have hmv : 0 ≤ st 22 0 ∧ st 22 0 < st 0 2 := Classical.byContradiction fun q => absurd (show nMove (st 0) (st 22 0) (st 22 1) (st 22 2) (-(st 22 3)) = 0 from hy) (by unfold nMove; rw [if_neg q]; decide)
    refine j_callif (va_runV (As := [.int (iI (st 22 0)), .int (iI (st 22 1)), .int (iI (st 22 2)), .int (iI (-(st 22 3)))]) (rest := []) ⟨hx, hb, hml, hown, hts⟩ (m_X3_moves l o st w0 (st 22 0) (st 22 1) (st 22 2) (-(st 22 3)) (by omega)) (cw_X3_moves hts q2374 (Nat.le_of_ble_eq_true rfl) (Nat.le_of_ble_eq_true rfl)) (j_preV hV hH wM_o rfl) rfl rfl hl.1 rfl (lv_room (Nat.le_of_ble_eq_true rfl)) dX3_carryOut_164 ⟨Nat.le_of_ble_eq_true rfl, Nat.le_of_ble_eq_true rfl⟩) hH (fun H locs hH => ?_)
    have hH : jH E s.heap (wM E o (sp (nwO st (st 7)) (exP (st 0) (st 21 0) (st 22))) w0) H locs := by rw [nwO_self, c4]; exact hH
    exact hret (st 7) hH dX3_carryOut_167 (Nat.le_of_ble_eq_true rfl) (Nat.le_of_ble_eq_true rfl) (trivial)
  · refine j_tableIn (tgt := 168) hx hb 4 dX3_carryOut_4 c4 (by decide) (by decide) rfl (by decide) ?_
    refine lv_aload_n hx hb dX3_carryOut_168 rfl (lv_at hl 0 rfl) ?_
    refine lv_aload_n hx hb dX3_carryOut_169 rfl (lv_at hl 0 rfl) ?_
    refine j_get hx hb hts hown hV hH wM_o rfl in_X3 22 (Nat.le_of_ble_eq_true rfl) q2251 (fun _ h => h) rfl dX3_carryOut_170 ?_
    refine j_iconst hx hb dX3_carryOut_173 ?_
    refine j_iald (n := 6) hx hb hV hH wM_22 (by omega) (by omega) dX3_carryOut_174 ?_
    refine j_ineg hx hb dX3_carryOut_175 ?_
    refine lv_aload_n hx hb dX3_carryOut_176 rfl (lv_at hl 0 rfl) ?_
    refine j_get hx hb hts hown hV hH wM_o rfl in_X3 22 (Nat.le_of_ble_eq_true rfl) q2251 (fun _ h => h) rfl dX3_carryOut_177 ?_
    refine j_iconst hx hb dX3_carryOut_180 ?_
    refine j_iald (n := 6) hx hb hV hH wM_22 (by omega) (by omega) dX3_carryOut_181 ?_
    refine lv_aload_n hx hb dX3_carryOut_182 rfl (lv_at hl 0 rfl) ?_
    refine j_get hx hb hts hown hV hH wM_o rfl in_X3 22 (Nat.le_of_ble_eq_true rfl) q2251 (fun _ h => h) rfl dX3_carryOut_183 ?_
    refine j_iconst hx hb dX3_carryOut_186 ?_
    refine j_iald (n := 6) hx hb hV hH wM_22 (by omega) (by omega) dX3_carryOut_187 ?_
    have hy : whyO (st 0) 4 (st 22) = 0 := by have h5b := h5; rw [c4] at h5b; exact h5b
    have hsc : st 0 3 ≠ 8 := by have q : nScn (st 0) (-(st 22 0)) (st 22 1) (st 22 2) = 0 := hy; unfold nScn at q; split at q <;> (try split at q) <;> omega
    refine j_callif (va_runV (As := [.int (iI (-(st 22 0))), .int (iI (st 22 1)), .int (iI (st 22 2))]) (rest := []) ⟨hx, hb, hml, hown, hts⟩ (m_X3_addsScene l o st w0 (-(st 22 0)) (st 22 1) (st 22 2) (by omega)) (cw_X3_addsScene hts q2406 (Nat.le_of_ble_eq_true rfl) (Nat.le_of_ble_eq_true rfl)) (j_preV hV hH wM_o rfl) rfl rfl hl.1 rfl (lv_room (Nat.le_of_ble_eq_true rfl)) dX3_carryOut_188 ⟨Nat.le_of_ble_eq_true rfl, Nat.le_of_ble_eq_true rfl⟩) hH (fun H locs hH => ?_)
    have hH : jH E s.heap (wM E o (sp (nwO st (st 7)) (exP (st 0) (st 21 0) (st 22))) w0) H locs := by rw [nwO_self, c4]; exact hH
    exact hret (st 7) hH dX3_carryOut_191 (Nat.le_of_ble_eq_true rfl) (Nat.le_of_ble_eq_true rfl) (trivial)
  · refine j_tableIn (tgt := 192) hx hb 5 dX3_carryOut_4 c4 (by decide) (by decide) rfl (by decide) ?_
    refine lv_aload_n hx hb dX3_carryOut_192 rfl (lv_at hl 0 rfl) ?_
    refine lv_aload_n hx hb dX3_carryOut_193 rfl (lv_at hl 0 rfl) ?_
    refine j_get hx hb hts hown hV hH wM_o rfl in_X3 22 (Nat.le_of_ble_eq_true rfl) q2251 (fun _ h => h) rfl dX3_carryOut_194 ?_
    refine j_iconst hx hb dX3_carryOut_197 ?_
    refine j_iald (n := 6) hx hb hV hH wM_22 (by omega) (by omega) dX3_carryOut_198 ?_
    refine lv_aload_n hx hb dX3_carryOut_199 rfl (lv_at hl 0 rfl) ?_
    refine j_get hx hb hts hown hV hH wM_o rfl in_X3 22 (Nat.le_of_ble_eq_true rfl) q2251 (fun _ h => h) rfl dX3_carryOut_200 ?_
    refine j_iconst hx hb dX3_carryOut_203 ?_
    refine j_iald (n := 6) hx hb hV hH wM_22 (by omega) (by omega) dX3_carryOut_204 ?_
    have hy : whyO (st 0) 5 (st 22) = 0 := by have h5b := h5; rw [c4] at h5b; exact h5b
    have hse : 0 ≤ st 22 0 ∧ st 22 0 < 4 := by have q : nSet (st 22 0) (st 22 1) = 0 := hy; unfold nSet at q; split at q <;> omega
    refine j_callif (va_runV (As := [.int (iI (st 22 0)), .int (iI (st 22 1))]) (rest := []) ⟨hx, hb, hml, hown, hts⟩ (m_X3_sets l o st w0 (st 22 0) (st 22 1) (by omega)) (cw_X3_sets hts q2417 (Nat.le_of_ble_eq_true rfl) (Nat.le_of_ble_eq_true rfl)) (j_preV hV hH wM_o rfl) rfl rfl hl.1 rfl (lv_room (Nat.le_of_ble_eq_true rfl)) dX3_carryOut_205 ⟨Nat.le_of_ble_eq_true rfl, Nat.le_of_ble_eq_true rfl⟩) hH (fun H locs hH => ?_)
    have hH : jH E s.heap (wM E o (sp (nwO st (st 7)) (exP (st 0) (st 21 0) (st 22))) w0) H locs := by rw [nwO_self, c4]; exact hH
    exact hret (st 7) hH dX3_carryOut_208 (Nat.le_of_ble_eq_true rfl) (Nat.le_of_ble_eq_true rfl) (trivial)
  · refine j_tableIn (tgt := 209) hx hb 6 dX3_carryOut_4 c4 (by decide) (by decide) rfl (by decide) ?_
    refine lv_aload_n hx hb dX3_carryOut_209 rfl (lv_at hl 0 rfl) ?_
    refine lv_aload_n hx hb dX3_carryOut_210 rfl (lv_at hl 0 rfl) ?_
    refine j_get hx hb hts hown hV hH wM_o rfl in_X3 22 (Nat.le_of_ble_eq_true rfl) q2251 (fun _ h => h) rfl dX3_carryOut_211 ?_
    refine j_iconst hx hb dX3_carryOut_214 ?_
    refine j_iald (n := 6) hx hb hV hH wM_22 (by omega) (by omega) dX3_carryOut_215 ?_
    refine lv_aload_n hx hb dX3_carryOut_216 rfl (lv_at hl 0 rfl) ?_
    refine j_get hx hb hts hown hV hH wM_o rfl in_X3 22 (Nat.le_of_ble_eq_true rfl) q2251 (fun _ h => h) rfl dX3_carryOut_217 ?_
    refine j_iconst hx hb dX3_carryOut_220 ?_
    refine j_iald (n := 6) hx hb hV hH wM_22 (by omega) (by omega) dX3_carryOut_221 ?_
    refine lv_aload_n hx hb dX3_carryOut_222 rfl (lv_at hl 0 rfl) ?_
    refine j_get hx hb hts hown hV hH wM_o rfl in_X3 22 (Nat.le_of_ble_eq_true rfl) q2251 (fun _ h => h) rfl dX3_carryOut_223 ?_
    refine j_iconst hx hb dX3_carryOut_226 ?_
    refine j_iald (n := 6) hx hb hV hH wM_22 (by omega) (by omega) dX3_carryOut_227 ?_
    have hy : whyO (st 0) 6 (st 22) = 0 := by have h5b := h5; rw [c4] at h5b; exact h5b
    refine j_callif (va_runV (As := [.int (iI (st 22 0)), .int (iI (st 22 1)), .int (iI (st 22 2))]) (rest := []) ⟨hx, hb, hml, hown, hts⟩ (m_X3_setsTitle l o st w0 (st 22 0) (st 22 1) (st 22 2)) (cw_X3_setsTitle hts q2429 (Nat.le_of_ble_eq_true rfl) (Nat.le_of_ble_eq_true rfl)) (j_preV hV hH wM_o rfl) rfl rfl hl.1 rfl (lv_room (Nat.le_of_ble_eq_true rfl)) dX3_carryOut_228 ⟨Nat.le_of_ble_eq_true rfl, Nat.le_of_ble_eq_true rfl⟩) hH (fun H locs hH => ?_)
    have hH : jH E s.heap (wM E o (sp (nwO st (st 7)) (exP (st 0) (st 21 0) (st 22))) w0) H locs := by rw [nwO_self, c4]; exact hH
    exact hret (st 7) hH dX3_carryOut_231 (Nat.le_of_ble_eq_true rfl) (Nat.le_of_ble_eq_true rfl) (trivial)
  · refine j_tableIn (tgt := 232) hx hb 7 dX3_carryOut_4 c4 (by decide) (by decide) rfl (by decide) ?_
    refine lv_aload_n hx hb dX3_carryOut_232 rfl (lv_at hl 0 rfl) ?_
    refine lv_aload_n hx hb dX3_carryOut_233 rfl (lv_at hl 0 rfl) ?_
    refine j_get hx hb hts hown hV hH wM_o rfl in_X3 22 (Nat.le_of_ble_eq_true rfl) q2251 (fun _ h => h) rfl dX3_carryOut_234 ?_
    refine j_iconst hx hb dX3_carryOut_237 ?_
    refine j_iald (n := 6) hx hb hV hH wM_22 (by omega) (by omega) dX3_carryOut_238 ?_
    have hy : whyO (st 0) 7 (st 22) = 0 := by have h5b := h5; rw [c4] at h5b; exact h5b
    have hre : 0 ≤ st 22 0 ∧ st 22 0 < st 0 2 := by have q : nRem (st 0) (st 22 0) = 0 := hy; unfold nRem at q; split at q <;> omega
    refine j_callif (va_runV (As := [.int (iI (st 22 0))]) (rest := []) ⟨hx, hb, hml, hown, hts⟩ (m_X3_removes l o st w0 _ (st 22 0) (h1) (by omega)) (cw_X3_removes hts q2390 (Nat.le_of_ble_eq_true rfl) (Nat.le_of_ble_eq_true rfl)) (j_preV hV hH wM_o rfl) rfl rfl hl.1 rfl (lv_room (Nat.le_of_ble_eq_true rfl)) dX3_carryOut_239 ⟨Nat.le_of_ble_eq_true rfl, Nat.le_of_ble_eq_true rfl⟩) hH (fun H locs hH => ?_)
    have hH : jH E s.heap (wM E o (sp (nwO st (nnS st (st 22 0) (st 0 2) 7)) (exP (st 0) (st 21 0) (st 22))) w0) H locs := by rw [nnS_sp, c4]; exact hH
    exact hret (nnS st (st 22 0) (st 0 2) 7) hH dX3_carryOut_242 (Nat.le_of_ble_eq_true rfl) (Nat.le_of_ble_eq_true rfl) (trivial)
