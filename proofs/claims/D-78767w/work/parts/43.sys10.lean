/-! THE SYSTEM's METHODS: java.util.ArrayList, made and written -/
set_option maxRecDepth 100000
theorem up_id {w : Wl} {a : Nat} {c : Nat × va_E} (h : w a = some c) : up w a c = w := by
  funext q
  by_cases hq : q = a
  · rw [hq, up_s, h]
  · rw [up_n hq]
/-- every entry of an array is an object that lists hold -/
def AO (w : Wl) (g : Int → Option Nat) : Prop := ∀ (j : Int) (y : Nat), g j = some y → OB w y
theorem AO.kp {C : Nat → Nat → Prop} {w u : Wl} {g : Int → Option Nat} (h : AO w g) (k : FR C w u) : AO u g := fun j y hy => (h j y hy).kp k
theorem AO.emp {w : Wl} : AO w (fun _ => none) := fun _ _ h => by cases h
theorem AO.put {w : Wl} {g : Int → Option Nat} {k : Int} {x : Option Nat} (h : AO w g) (hx : ∀ y : Nat, x = some y → OB w y) : AO w (upz g k x) := fun j y hy => by
  by_cases hj : j = k
  · rw [hj, upz_s] at hy
    exact hx y hy
  · rw [upz_n hj] at hy
    exact h j y hy
theorem AO.cpy {w : Wl} {f g : Int → Option Nat} {sp dp n : Int} (hf : AO w f) (hg : AO w g) : AO w (cpz f g sp dp n) := fun j y hy => by
  by_cases hj : dp ≤ j ∧ j < dp + n
  · rw [cpz_in hj] at hy
    exact hf _ y hy
  · rw [cpz_out hj] at hy
    exact hg j y hy
/-- a list's array: ArrayList's empty one, or one of its own -/
def AD (E : jE) (w : Wl) (t ar : Nat) (n : Int) (G : Int → Nat) : Prop := 0 ≤ n ∧ n ≤ 40 ∧ ∃ (cap : Nat) (g : Int → Option Nat), ((ar = E.2.2.2 0 ∧ n = 0) ∨ (w ar = some (t, arQ E cap g) ∧ n ≤ (cap : Int) ∧ 0 < cap ∧ cap ≤ 60)) ∧ AO w g ∧ ∀ j : Int, 0 ≤ j → j < n → g j = some (G j)
theorem AD.kp {E : jE} {C : Nat → Nat → Prop} {w u : Wl} {t ar : Nat} {n : Int} {G : Int → Nat} (h : AD E w t ar n G) (k : FR C w u) (hC : ∀ T k : Nat, C T k → ¬ (T = t ∧ k = 4)) : AD E u t ar n G := by
  obtain ⟨h1, h2, cap, g, hd, ha, hg⟩ := h
  refine ⟨h1, h2, cap, g, ?_, ha.kp k, hg⟩
  rcases hd with hd | ⟨hd, h3⟩
  · exact Or.inl hd
  · exact Or.inr ⟨k.at hd (k := 4) rfl (fun q => hC _ _ q ⟨rfl, rfl⟩), h3⟩
theorem AD.real {E : jE} {w : Wl} {t ar : Nat} {n : Int} {G : Int → Nat} (h : AD E w t ar n G) (hn : 0 < n) : ∃ (cap : Nat) (g : Int → Option Nat), w ar = some (t, arQ E cap g) ∧ n ≤ (cap : Int) ∧ 0 < cap ∧ cap ≤ 60 ∧ AO w g ∧ ∀ j : Int, 0 ≤ j → j < n → g j = some (G j) := by
  obtain ⟨h1, h2, cap, g, hd, ha, hg⟩ := h
  rcases hd with ⟨-, hd⟩ | ⟨hd, h3, h4, h5⟩
  · omega
  · exact ⟨cap, g, hd, h3, h4, h5, ha, hg⟩
theorem AD.ex {E : jE} {w : Wl} {t ar : Nat} {n : Int} {G G' : Int → Nat} (h : AD E w t ar n G) (hG : ∀ j : Int, 0 ≤ j → j < n → G j = G' j) : AD E w t ar n G' := by
  obtain ⟨h1, h2, cap, g, hd, ha, hg⟩ := h
  exact ⟨h1, h2, cap, g, hd, ha, fun j p q => by rw [hg j p q, hG j p q]⟩
theorem cw_J0_init {R : Room} {s : State} {args : Array Value} {own : String} {index lev mc ms : Nat} (hts : ∀ w ∈ lw_all, w.before args s = true) (hl : Cond.methodLink own index yJ0_init ∈ lw_all) (hR1 : (rmL lev mc ms).frames + 1 ≤ R.frames) (hR2 : 8 + (1 + 11) + (rmL lev mc ms).locals ≤ R.locals) : CallB R s args own index yJ0_init cJ0_init 1 none (ws_ yJ0_init cJ0_init 1 none) (rmL lev mc ms) mc ms 0 ∧ yJ0_init.name = "<init>" ∧ (Cond.instanceMethod yJ0_init).before args s = true :=
  cwI 0 hts (lw_meth q176) rfl rfl rfl (hts _ q110) (hts _ hl) (hts _ q175) rfl (by decide +kernel) ⟨hR1, hR2⟩
set_option maxHeartbeats 4000000 in
theorem m_J0_init_J2 {E : jE} (l : Launch) (w : Wl) (a : Nat) (t : Nat) (v0 : Value) (v1 : Value) (v2 : Value) (h1 : w a = some (t, .inr (10, [v0, v1, v2]))) : Met l yJ0_init (ws_ yJ0_init cJ0_init 1 none) (rmL 1 0 0) (va_Pc [.ref a] (jP E w)) (jQv E (fun _ : Unit => up w a (t, .inr (10, [v0, v1, v2]))) (fun _ => True)) 0 0 (jA E) := by
  refine j_metV (by decide) (Nat.le_of_ble_eq_true rfl) ?_
  intro p e s m args below meth c Q hx hb hml hown hnm hts hV hH hret ls hl
  have hl : lv_has ls 1 [(0, .ref a)] := hl
  refine lv_aload_n hx hb dJ0_init_0 rfl (lv_at hl 0 rfl) ?_
  refine j_oinit hx hb hts hown hml q177 q158 q159 hl.1 dJ0_init_1 (Nat.le_of_ble_eq_true rfl) (Nat.le_of_ble_eq_true rfl) ?_
  rw [← up_id h1] at hH
  exact hret () hH dJ0_init_4 (Nat.le_of_ble_eq_true rfl) (Nat.le_of_ble_eq_true rfl) trivial
set_option maxHeartbeats 4000000 in
theorem m_J0_init_J4 {E : jE} (l : Launch) (w : Wl) (a : Nat) (t : Nat) (v0 : Value) (v1 : Value) (v2 : Value) (v3 : Value) (h1 : w a = some (t, .inr (12, [v0, v1, v2, v3]))) : Met l yJ0_init (ws_ yJ0_init cJ0_init 1 none) (rmL 1 0 0) (va_Pc [.ref a] (jP E w)) (jQv E (fun _ : Unit => up w a (t, .inr (12, [v0, v1, v2, v3]))) (fun _ => True)) 0 0 (jA E) := by
  refine j_metV (by decide) (Nat.le_of_ble_eq_true rfl) ?_
  intro p e s m args below meth c Q hx hb hml hown hnm hts hV hH hret ls hl
  have hl : lv_has ls 1 [(0, .ref a)] := hl
  refine lv_aload_n hx hb dJ0_init_0 rfl (lv_at hl 0 rfl) ?_
  refine j_oinit hx hb hts hown hml q177 q158 q159 hl.1 dJ0_init_1 (Nat.le_of_ble_eq_true rfl) (Nat.le_of_ble_eq_true rfl) ?_
  rw [← up_id h1] at hH
  exact hret () hH dJ0_init_4 (Nat.le_of_ble_eq_true rfl) (Nat.le_of_ble_eq_true rfl) trivial
theorem cw_J1_init {R : Room} {s : State} {args : Array Value} {own : String} {index lev mc ms : Nat} (hts : ∀ w ∈ lw_all, w.before args s = true) (hl : Cond.methodLink own index yJ1_init ∈ lw_all) (hR1 : (rmL lev mc ms).frames + 1 ≤ R.frames) (hR2 : 8 + (1 + 11) + (rmL lev mc ms).locals ≤ R.locals) : CallB R s args own index yJ1_init cJ1_init 1 none (ws_ yJ1_init cJ1_init 1 none) (rmL lev mc ms) mc ms 0 ∧ yJ1_init.name = "<init>" ∧ (Cond.instanceMethod yJ1_init).before args s = true :=
  cwI 0 hts (lw_meth q173) rfl rfl rfl (hts _ q111) (hts _ hl) (hts _ q172) rfl (by decide +kernel) ⟨hR1, hR2⟩
set_option maxHeartbeats 4000000 in
theorem m_J1_init_J2 {E : jE} (l : Launch) (w : Wl) (a : Nat) (t : Nat) (v0 : Value) (v1 : Value) (v2 : Value) (h1 : w a = some (t, .inr (10, [v0, v1, v2]))) : Met l yJ1_init (ws_ yJ1_init cJ1_init 1 none) (rmL 2 0 0) (va_Pc [.ref a] (jP E w)) (jQv E (fun _ : Unit => up w a (t, .inr (10, [.int (iI 0), v1, v2]))) (fun _ => True)) 0 0 (jA E) := by
  refine j_metV (by decide) (Nat.le_of_ble_eq_true rfl) ?_
  intro p e s m args below meth c Q hx hb hml hown hnm hts hV hH hret ls hl
  have hl : lv_has ls 1 [(0, .ref a)] := hl
  refine lv_aload_n hx hb dJ1_init_0 rfl (lv_at hl 0 rfl) ?_
  refine j_callvp (va_runI (As := []) (rest := []) ⟨hx, hb, hml, hown, hts⟩ (m_J0_init_J2 l _ _ _ _ _ _ (h1)) (cw_J0_init hts q174 (Nat.le_of_ble_eq_true rfl) (Nat.le_of_ble_eq_true rfl)) (j_preS hV hH) rfl rfl hl.1 rfl (lv_room (Nat.le_of_ble_eq_true rfl)) dJ1_init_1 ⟨Nat.le_of_ble_eq_true rfl, Nat.le_of_ble_eq_true rfl⟩) hH (fun H locs hH => ?_)
  have hH : jH E s.heap (up w a (t, .inr (10, [v0, v1, v2]))) H locs := hH
  have hf1 : (up w a (t, .inr (10, [v0, v1, v2]))) a = some (t, .inr (10, [v0, v1, v2])) := up_s
  refine lv_aload_n hx hb dJ1_init_4 rfl (lv_at hl 0 rfl) ?_
  refine j_iconst hx hb dJ1_init_5 ?_
  refine j_put hx hb hts hown hV hH hf1 rfl in_J2 tyJ2 tyJ2_ok nmJ2 0 (Nat.le_of_ble_eq_true rfl) q184 (fun _ h => h) rfl rfl rfl (Nat.le_of_ble_eq_true rfl) dJ1_init_6 (fun H locs hH => ?_)
  have hH : jH E s.heap (up w a (t, .inr (10, [.int (iI 0), v1, v2]))) H locs := up2 hH
  have hf2 : (up w a (t, .inr (10, [.int (iI 0), v1, v2]))) a = some (t, .inr (10, [.int (iI 0), v1, v2])) := up_s
  exact hret () hH dJ1_init_9 (Nat.le_of_ble_eq_true rfl) (Nat.le_of_ble_eq_true rfl) trivial
set_option maxHeartbeats 4000000 in
theorem m_J1_init_J4 {E : jE} (l : Launch) (w : Wl) (a : Nat) (t : Nat) (v0 : Value) (v1 : Value) (v2 : Value) (v3 : Value) (h1 : w a = some (t, .inr (12, [v0, v1, v2, v3]))) : Met l yJ1_init (ws_ yJ1_init cJ1_init 1 none) (rmL 2 0 0) (va_Pc [.ref a] (jP E w)) (jQv E (fun _ : Unit => up w a (t, .inr (12, [.int (iI 0), v1, v2, v3]))) (fun _ => True)) 0 0 (jA E) := by
  refine j_metV (by decide) (Nat.le_of_ble_eq_true rfl) ?_
  intro p e s m args below meth c Q hx hb hml hown hnm hts hV hH hret ls hl
  have hl : lv_has ls 1 [(0, .ref a)] := hl
  refine lv_aload_n hx hb dJ1_init_0 rfl (lv_at hl 0 rfl) ?_
  refine j_callvp (va_runI (As := []) (rest := []) ⟨hx, hb, hml, hown, hts⟩ (m_J0_init_J4 l _ _ _ _ _ _ _ (h1)) (cw_J0_init hts q174 (Nat.le_of_ble_eq_true rfl) (Nat.le_of_ble_eq_true rfl)) (j_preS hV hH) rfl rfl hl.1 rfl (lv_room (Nat.le_of_ble_eq_true rfl)) dJ1_init_1 ⟨Nat.le_of_ble_eq_true rfl, Nat.le_of_ble_eq_true rfl⟩) hH (fun H locs hH => ?_)
  have hH : jH E s.heap (up w a (t, .inr (12, [v0, v1, v2, v3]))) H locs := hH
  have hf1 : (up w a (t, .inr (12, [v0, v1, v2, v3]))) a = some (t, .inr (12, [v0, v1, v2, v3])) := up_s
  refine lv_aload_n hx hb dJ1_init_4 rfl (lv_at hl 0 rfl) ?_
  refine j_iconst hx hb dJ1_init_5 ?_
  refine j_put hx hb hts hown hV hH hf1 rfl in_J4 tyJ4 tyJ4_ok nmJ4 0 (Nat.le_of_ble_eq_true rfl) q184 (fun _ h => h) rfl rfl rfl (Nat.le_of_ble_eq_true rfl) dJ1_init_6 (fun H locs hH => ?_)
  have hH : jH E s.heap (up w a (t, .inr (12, [.int (iI 0), v1, v2, v3]))) H locs := up2 hH
  have hf2 : (up w a (t, .inr (12, [.int (iI 0), v1, v2, v3]))) a = some (t, .inr (12, [.int (iI 0), v1, v2, v3])) := up_s
  exact hret () hH dJ1_init_9 (Nat.le_of_ble_eq_true rfl) (Nat.le_of_ble_eq_true rfl) trivial
theorem cw_J3_init {R : Room} {s : State} {args : Array Value} {own : String} {index lev mc ms : Nat} (hts : ∀ w ∈ lw_all, w.before args s = true) (hl : Cond.methodLink own index yJ3_init ∈ lw_all) (hR1 : (rmL lev mc ms).frames + 1 ≤ R.frames) (hR2 : 8 + (1 + 11) + (rmL lev mc ms).locals ≤ R.locals) : CallB R s args own index yJ3_init cJ3_init 1 none (ws_ yJ3_init cJ3_init 1 none) (rmL lev mc ms) mc ms 0 ∧ yJ3_init.name = "<init>" ∧ (Cond.instanceMethod yJ3_init).before args s = true :=
  cwI 0 hts (lw_meth q205) rfl rfl rfl (hts _ q113) (hts _ hl) (hts _ q204) rfl (by decide +kernel) ⟨hR1, hR2⟩
set_option maxHeartbeats 4000000 in
theorem m_J3_init_J4 {E : jE} (l : Launch) (w : Wl) (a : Nat) (t : Nat) (v0 : Value) (v1 : Value) (v2 : Value) (v3 : Value) (h1 : w a = some (t, .inr (12, [v0, v1, v2, v3]))) : Met l yJ3_init (ws_ yJ3_init cJ3_init 1 none) (rmL 3 0 0) (va_Pc [.ref a] (jP E w)) (jQv E (fun _ : Unit => up w a (t, .inr (12, [.int (iI 0), v1, v2, v3]))) (fun _ => True)) 0 0 (jA E) := by
  refine j_metV (by decide) (Nat.le_of_ble_eq_true rfl) ?_
  intro p e s m args below meth c Q hx hb hml hown hnm hts hV hH hret ls hl
  have hl : lv_has ls 1 [(0, .ref a)] := hl
  refine lv_aload_n hx hb dJ3_init_0 rfl (lv_at hl 0 rfl) ?_
  refine j_callvp (va_runI (As := []) (rest := []) ⟨hx, hb, hml, hown, hts⟩ (m_J1_init_J4 l _ _ _ _ _ _ _ (h1)) (cw_J1_init hts q206 (Nat.le_of_ble_eq_true rfl) (Nat.le_of_ble_eq_true rfl)) (j_preS hV hH) rfl rfl hl.1 rfl (lv_room (Nat.le_of_ble_eq_true rfl)) dJ3_init_1 ⟨Nat.le_of_ble_eq_true rfl, Nat.le_of_ble_eq_true rfl⟩) hH (fun H locs hH => ?_)
  have hH : jH E s.heap (up w a (t, .inr (12, [.int (iI 0), v1, v2, v3]))) H locs := hH
  have hf1 : (up w a (t, .inr (12, [.int (iI 0), v1, v2, v3]))) a = some (t, .inr (12, [.int (iI 0), v1, v2, v3])) := up_s
  exact hret () hH dJ3_init_4 (Nat.le_of_ble_eq_true rfl) (Nat.le_of_ble_eq_true rfl) trivial
theorem cw_J4_init {R : Room} {s : State} {args : Array Value} {own : String} {index lev mc ms : Nat} (hts : ∀ w ∈ lw_all, w.before args s = true) (hl : Cond.methodLink own index yJ4_init ∈ lw_all) (hR1 : (rmL lev mc ms).frames + 1 ≤ R.frames) (hR2 : 8 + (1 + 11) + (rmL lev mc ms).locals ≤ R.locals) : CallB R s args own index yJ4_init cJ4_init 1 none (ws_ yJ4_init cJ4_init 1 none) (rmL lev mc ms) mc ms 0 ∧ yJ4_init.name = "<init>" ∧ (Cond.instanceMethod yJ4_init).before args s = true :=
  cwI 0 hts (lw_meth q202) rfl rfl rfl (hts _ q114) (hts _ hl) (hts _ q201) rfl (by decide +kernel) ⟨hR1, hR2⟩
set_option maxHeartbeats 4000000 in
theorem m_J4_init {E : jE} (l : Launch) (w : Wl) (a : Nat) (t : Nat) (v0 : Value) (v1 : Value) (v2 : Value) (v3 : Value) (h1 : w a = some (t, .inr (12, [v0, v1, v2, v3]))) : Met l yJ4_init (ws_ yJ4_init cJ4_init 1 none) (rmL 4 0 0) (va_Pc [.ref a] (jP E w)) (jQv E (fun _ : Unit => up w a (t, .inr (12, [.int (iI 0), .int (iI 0), v2, v3]))) (fun _ => True)) 0 0 (jA E) := by
  refine j_metV (by decide) (Nat.le_of_ble_eq_true rfl) ?_
  intro p e s m args below meth c Q hx hb hml hown hnm hts hV hH hret ls hl
  have hl : lv_has ls 1 [(0, .ref a)] := hl
  refine lv_aload_n hx hb dJ4_init_0 rfl (lv_at hl 0 rfl) ?_
  refine j_callvp (va_runI (As := []) (rest := []) ⟨hx, hb, hml, hown, hts⟩ (m_J3_init_J4 l _ _ _ _ _ _ _ (h1)) (cw_J3_init hts q203 (Nat.le_of_ble_eq_true rfl) (Nat.le_of_ble_eq_true rfl)) (j_preS hV hH) rfl rfl hl.1 rfl (lv_room (Nat.le_of_ble_eq_true rfl)) dJ4_init_1 ⟨Nat.le_of_ble_eq_true rfl, Nat.le_of_ble_eq_true rfl⟩) hH (fun H locs hH => ?_)
  have hH : jH E s.heap (up w a (t, .inr (12, [.int (iI 0), v1, v2, v3]))) H locs := hH
  have hf1 : (up w a (t, .inr (12, [.int (iI 0), v1, v2, v3]))) a = some (t, .inr (12, [.int (iI 0), v1, v2, v3])) := up_s
  refine lv_aload_n hx hb dJ4_init_4 rfl (lv_at hl 0 rfl) ?_
  refine j_iconst hx hb dJ4_init_5 ?_
  refine j_put hx hb hts hown hV hH hf1 rfl in_J4 tyJ4 tyJ4_ok nmJ4 1 (Nat.le_of_ble_eq_true rfl) q207 (fun _ h => h) rfl rfl rfl (Nat.le_of_ble_eq_true rfl) dJ4_init_6 (fun H locs hH => ?_)
  have hH : jH E s.heap (up w a (t, .inr (12, [.int (iI 0), .int (iI 0), v2, v3]))) H locs := up2 hH
  have hf2 : (up w a (t, .inr (12, [.int (iI 0), .int (iI 0), v2, v3]))) a = some (t, .inr (12, [.int (iI 0), .int (iI 0), v2, v3])) := up_s
  exact hret () hH dJ4_init_9 (Nat.le_of_ble_eq_true rfl) (Nat.le_of_ble_eq_true rfl) trivial
theorem cw_J2_init {R : Room} {s : State} {args : Array Value} {own : String} {index lev mc ms : Nat} (hts : ∀ w ∈ lw_all, w.before args s = true) (hl : Cond.methodLink own index yJ2_init ∈ lw_all) (hR1 : (rmL lev mc ms).frames + 1 ≤ R.frames) (hR2 : 8 + (1 + 11) + (rmL lev mc ms).locals ≤ R.locals) : CallB R s args own index yJ2_init cJ2_init 1 none (ws_ yJ2_init cJ2_init 1 none) (rmL lev mc ms) mc ms 0 ∧ yJ2_init.name = "<init>" ∧ (Cond.instanceMethod yJ2_init).before args s = true :=
  cwI 0 hts (lw_meth q170) rfl rfl rfl (hts _ q112) (hts _ hl) (hts _ q169) rfl (by decide +kernel) ⟨hR1, hR2⟩
set_option maxHeartbeats 4000000 in
theorem m_J2_init {E : jE} (l : Launch) (w : Wl) (a : Nat) (t : Nat) (v0 : Value) (v1 : Value) (v2 : Value) (h1 : w a = some (t, .inr (10, [v0, v1, v2]))) : Met l yJ2_init (ws_ yJ2_init cJ2_init 1 none) (rmL 3 0 0) (va_Pc [.ref a] (jP E w)) (jQv E (fun u : Wl => u) (fun u => u a = some (t, .inr (10, [.int (iI 0), .ref (E.2.2.2 0), v2])) ∧ FR (fun T k => T = t ∧ k = 20) w u)) 0 0 (jA E) := by
  refine j_metV (by decide) (Nat.le_of_ble_eq_true rfl) ?_
  intro p e s m args below meth c Q hx hb hml hown hnm hts hV hH hret ls hl
  have hl : lv_has ls 1 [(0, .ref a)] := hl
  have h0 := hH.1.2
  have hR0 := hH.1
  have hk : FR (fun T k => T = t ∧ k = 20) w w := FR.rf
  refine lv_aload_n hx hb dJ2_init_0 rfl (lv_at hl 0 rfl) ?_
  refine j_callvp (va_runI (As := []) (rest := []) ⟨hx, hb, hml, hown, hts⟩ (m_J1_init_J2 l _ _ _ _ _ _ (h1)) (cw_J1_init hts q171 (Nat.le_of_ble_eq_true rfl) (Nat.le_of_ble_eq_true rfl)) (j_preS hV hH) rfl rfl hl.1 rfl (lv_room (Nat.le_of_ble_eq_true rfl)) dJ2_init_1 ⟨Nat.le_of_ble_eq_true rfl, Nat.le_of_ble_eq_true rfl⟩) hH (fun H locs hH => ?_)
  obtain ⟨V1, eV1⟩ : ∃ V_ : Wl, V_ = up w a (t, .inr (10, [.int (iI 0), v1, v2])) := ⟨_, rfl⟩
  have hH := jH_eq hH eV1
  have hs2 : FR (fun T k => T = t ∧ k = 20) w V1 := by rw [eV1]; exact FR.one h1 rfl rfl
  have f3 : V1 a = some (t, .inr (10, [.int (iI 0), v1, v2])) := by rw [eV1]; exact up_s
  have hk : FR (fun T k => T = t ∧ k = 20) w V1 := FR.tr hk hs2 (by intro T k h_; first | exact h_.elim | (obtain ⟨rfl, rfl⟩ := h_; simp; done) | omega)
  refine lv_aload_n hx hb dJ2_init_4 rfl (lv_at hl 0 rfl) ?_
  refine j_getsK hx hb hts hown hV h0 hH q178 (fun _ h => h) dJ2_init_5 ?_
  refine j_put hx hb hts hown hV hH f3 rfl in_J2 tyJ2 tyJ2_ok nmJ2 1 (Nat.le_of_ble_eq_true rfl) q180 (fun _ h => h) rfl rfl rfl (Nat.le_of_ble_eq_true rfl) dJ2_init_8 (fun H locs hH => ?_)
  obtain ⟨V4, eV4⟩ : ∃ V_ : Wl, V_ = up V1 a (t, .inr (10, [.int (iI 0), .ref (E.2.2.2 0), v2])) := ⟨_, rfl⟩
  have hH := jH_eq hH eV4
  have hs5 : FR (fun T k => T = t ∧ k = 20) V1 V4 := by rw [eV4]; exact FR.one f3 rfl rfl
  have f6 : V4 a = some (t, .inr (10, [.int (iI 0), .ref (E.2.2.2 0), v2])) := by rw [eV4]; exact up_s
  have hk : FR (fun T k => T = t ∧ k = 20) w V4 := FR.tr hk hs5 (by intro T k h_; first | exact h_.elim | (obtain ⟨rfl, rfl⟩ := h_; simp; done) | omega)
  exact hret V4 hH dJ2_init_11 (Nat.le_of_ble_eq_true rfl) (Nat.le_of_ble_eq_true rfl) (⟨by assumption, hk⟩)
theorem cw_J19_newLength {R : Room} {s : State} {args : Array Value} {own : String} {index lev mc ms : Nat} (hts : ∀ w ∈ lw_all, w.before args s = true) (hl : Cond.methodLink own index yJ19_newLength ∈ lw_all) (hR1 : (rmL lev mc ms).frames + 1 ≤ R.frames) (hR2 : 8 + (4 + 11) + (rmL lev mc ms).locals ≤ R.locals) : CallB R s args own index yJ19_newLength cJ19_newLength 4 (some .int) (ws_ yJ19_newLength cJ19_newLength 4 (some .int)) (rmL lev mc ms) mc ms 3 ∧ (Cond.static yJ19_newLength).before args s = true :=
  va_cwS 3 hts (lw_S hl q493 q134 q494) rfl rfl rfl (by decide +kernel) ⟨hR1, hR2⟩
set_option maxHeartbeats 4000000 in
theorem m_J19_newLength {E : jE} (l : Launch) (w : Wl) (i1 : Int) (i2 : Int) (i3 : Int) (h1 : 0 ≤ i1 ∧ i1 ≤ 10000) (h2 : 1 ≤ i2 ∧ i2 ≤ 10000) (h3 : 0 ≤ i3 ∧ i3 ≤ 10000) : Met l yJ19_newLength (ws_ yJ19_newLength cJ19_newLength 4 (some .int)) (rmL 2 0 0) (va_Pc [.int (iI i1), .int (iI i2), .int (iI i3)] (jP E w)) (jQi E (fun _ : Unit => w) (fun z _ => z = i1 + max i2 i3)) 0 0 (jA E) := by
  refine j_metI (by decide) (Nat.le_of_ble_eq_true rfl) ?_
  intro p e s m args below meth c Q hx hb hml hown hnm hts hV hH hret ls hl
  have hl : lv_has ls 4 [(0, .int (iI i1)), (1, .int (iI i2)), (2, .int (iI i3))] := hl
  refine lv_iload_n hx hb dJ19_newLength_0 rfl (lv_at hl 0 rfl) ?_
  refine lv_iload_n hx hb dJ19_newLength_1 rfl (lv_at hl 1 rfl) ?_
  refine lv_iload_n hx hb dJ19_newLength_2 rfl (lv_at hl 2 rfl) ?_
  refine j_callip (va_runS (As := [.int (iI i2), .int (iI i3)]) (rest := [.int (iI i1)]) ⟨hx, hb, hml, hown, hts⟩ (m_J12_max l _ i2 i3 (by omega) (by omega)) (cw_J12_max hts q495 (Nat.le_of_ble_eq_true rfl) (Nat.le_of_ble_eq_true rfl)) (j_preS hV hH) rfl rfl hl.1 rfl (lv_room (Nat.le_of_ble_eq_true rfl)) dJ19_newLength_3 ⟨Nat.le_of_ble_eq_true rfl, Nat.le_of_ble_eq_true rfl⟩) hH (fun H locs hH => ?_)
  refine j_iadd hx hb dJ19_newLength_6 ?_
  refine j_istore_n (lv' := fun x1 => [(3, .int (iI x1)), (0, .int (iI i1)), (1, .int (iI i2)), (2, .int (iI i3))]) hx hb dJ19_newLength_7 rfl hl (by decide) (fun _ => rfl) (fun x1 ex1 ls hl => ?_)
  refine j_iconst hx hb dJ19_newLength_8 ?_
  refine lv_iload_n hx hb dJ19_newLength_9 rfl (lv_at hl 0 rfl) ?_
  refine j_icmp_ge (tgt := 21) hx hb dJ19_newLength_10 (by decide) (by omega) (by omega) (fun c10 => ?_) (fun c10 => ?_)
  · exact absurd c10 (by omega)
  · refine lv_iload_n hx hb dJ19_newLength_13 rfl (lv_at hl 0 rfl) ?_
    refine j_ldc (z := 2147483639) hx hb hts hown q498 dJ19_newLength_14 (by decide +kernel) ?_
    refine j_icmp_gt (tgt := 21) hx hb dJ19_newLength_16 (by decide) (by omega) (by omega) (fun c16 => ?_) (fun c16 => ?_)
    · exact absurd c16 (by omega)
    · refine lv_iload_n hx hb dJ19_newLength_19 rfl (lv_at hl 0 rfl) ?_
      exact hret () hH dJ19_newLength_20 (Nat.le_of_ble_eq_true rfl) (Nat.le_of_ble_eq_true rfl) (by first | rfl | omega)
theorem cw_J11_copyOf_2 {R : Room} {s : State} {args : Array Value} {own : String} {index lev mc ms : Nat} (hts : ∀ w ∈ lw_all, w.before args s = true) (hl : Cond.methodLink own index yJ11_copyOf_2 ∈ lw_all) (hR1 : (rmL lev mc ms).frames + 1 ≤ R.frames) (hR2 : 8 + (4 + 11) + (rmL lev mc ms).locals ≤ R.locals) : CallB R s args own index yJ11_copyOf_2 cJ11_copyOf_2 4 (some (.array (.object "java/lang/Object"))) (ws_ yJ11_copyOf_2 cJ11_copyOf_2 4 (some (.array (.object "java/lang/Object")))) (rmL lev mc ms) mc ms 3 ∧ (Cond.static yJ11_copyOf_2).before args s = true :=
  va_cwS 3 hts (lw_S hl q535 q122 q536) rfl rfl rfl (by decide +kernel) ⟨hR1, hR2⟩
set_option maxHeartbeats 4000000 in
theorem m_J11_copyOf_2 {E : jE} (l : Launch) (w : Wl) (t : Nat) (tg : Nat) (cap : Nat) (g : Int → Option Nat) (a : Nat) (n : Int) (h1 : w a = some (t, arQ E cap g)) (h2 : AO w g) (h3 : 0 ≤ n ∧ n ≤ 100) (h4 : (cap : Int) ≤ 100) : Met l yJ11_copyOf_2 (ws_ yJ11_copyOf_2 cJ11_copyOf_2 4 (some (.array (.object "java/lang/Object")))) (rmL 2 1 100) (va_Pc [.ref a, .int (iI n), .ref (E.2.2.2 200)] (jP E w)) (jQq E (fun u : Wl => u) (fun z u => ∃ (b : Nat) (g2 : Int → Option Nat), z = some b ∧ u b = some (tg, arQ E n.toNat g2) ∧ (AO u g2) ∧ (∀ j : Int, 0 ≤ j → j < (cap : Int) → j < n → g2 j = g j) ∧ (w b = none) ∧ FR (fun T k => False) w u)) 1 100 (jA E) := by
  refine j_metQ (by decide) (Nat.le_of_ble_eq_true rfl) (Or.inr ⟨_, rfl⟩) ?_
  intro p e s m args below meth c Q hx hb hml hown hnm hts hV hH hret ls hl
  have hl : lv_has ls 4 [(0, .ref a), (1, .int (iI n)), (2, .ref (E.2.2.2 200))] := hl
  have h0 := hH.1.2
  have hR0 := hH.1
  have hk : FR (fun T k => False) w w := FR.rf
  refine lv_aload_n hx hb dJ11_copyOf_2_0 rfl (lv_at hl 2 rfl) ?_
  refine va_ldcM hx hb hown (hts _ q537) hV.2.2.2.2.2.2.2.2.2.1 dJ11_copyOf_2_1 ?_
  refine lv_acmp_ne (rx := (some (E.2.2.2 200))) (ry := (some (E.2.2.2 200))) (tgt := 13) hx hb dJ11_copyOf_2_3 (by decide) (fun c3 => ?_) (fun c3 => ?_)
  · exact absurd rfl c3
  · refine lv_iload_n hx hb dJ11_copyOf_2_6 rfl (lv_at hl 1 rfl) ?_
    refine j_newq hx hb hts hown hV h0 hH q538 (by omega) (Nat.le_of_ble_eq_true rfl) (by show _ ≤ 100; omega) dJ11_copyOf_2_7 (fun r7 H nr7 hH => ?_)
    refine W.widen (k := 1) (n := 100) (Nat.le_of_ble_eq_true rfl) (by show _ ≤ 100; omega) ?_
    have hH := hH tg
    obtain ⟨V1, eV1⟩ : ∃ V_ : Wl, V_ = up w r7 (tg, arQ E n.toNat (fun _ => none)) := ⟨_, rfl⟩
    have hH := jH_eq hH eV1
    have nwr7 : w r7 = none := hk.non_ nr7
    have ne3 : a ≠ r7 := ne_fr h1 nr7
    have hs2 : FR (fun _ _ => False) w V1 := by rw [eV1]; exact FR.new1 nr7
    have f4 : V1 a = some (t, arQ E cap g) := hs2.at h1 (k := 4) rfl (by first | exact not_false | (intro q_; simp at q_; done) | omega)
    have p5 : AO V1 g := AO.kp h2 hs2
    have f6 : V1 r7 = some (tg, arQ E n.toNat (fun _ => none)) := by rw [eV1]; exact up_s
    have hk : FR (fun T k => False) w V1 := FR.tr hk hs2 (by intro T k h_; exact h_.elim)
    refine lv_goto (tgt := 24) hx hb dJ11_copyOf_2_10 (by decide) ?_
    refine lv_astore_n (lv' := [(3, .ref r7), (0, .ref a), (1, .int (iI n)), (2, .ref (E.2.2.2 200))]) hx hb dJ11_copyOf_2_24 rfl hl (by decide) rfl (fun ls hl => ?_)
    refine lv_aload_n hx hb dJ11_copyOf_2_25 rfl (lv_at hl 1 rfl) ?_
    refine j_iconst hx hb dJ11_copyOf_2_26 ?_
    refine lv_aload_n hx hb dJ11_copyOf_2_27 rfl (lv_at hl 0 rfl) ?_
    refine j_iconst hx hb dJ11_copyOf_2_28 ?_
    refine lv_aload_n hx hb dJ11_copyOf_2_29 rfl (lv_at hl 1 rfl) ?_
    refine j_alen (t0 := 3) hx hb hV hH f4 rfl dJ11_copyOf_2_30 ?_
    refine j_top (b := ((cap : Nat) : Int)) rfl ?_
    refine lv_iload_n hx hb dJ11_copyOf_2_31 rfl (lv_at hl 2 rfl) ?_
    refine j_callip (va_runS (As := [.int (iI ((cap : Nat) : Int)), .int (iI n)]) (rest := [.int (iI 0), .ref r7, .int (iI 0), .ref a]) ⟨hx, hb, hml, hown, hts⟩ (m_J12_min l _ ((cap : Nat) : Int) n (by omega) (by omega)) (cw_J12_min hts q539 (Nat.le_of_ble_eq_true rfl) (Nat.le_of_ble_eq_true rfl)) (j_preS hV hH) rfl rfl hl.1 rfl (lv_room (Nat.le_of_ble_eq_true rfl)) dJ11_copyOf_2_32 ⟨Nat.le_of_ble_eq_true rfl, Nat.le_of_ble_eq_true rfl⟩) hH (fun H locs hH => ?_)
    refine j_copyq hx hb (hml.trans hl.1.symm) hts hown hV h0 hH q542 q544 q543 q124 f4 f6 (by omega) (by omega) (by omega) (by omega) (by omega) (fun j _ _ y hy => j_anyO hV hH (p5 j y hy)) (Nat.le_of_ble_eq_true rfl) (Nat.le_of_ble_eq_true rfl) dJ11_copyOf_2_35 (fun H locs hH => ?_)
    obtain ⟨V7, eV7⟩ : ∃ V_ : Wl, V_ = up V1 r7 (tg, arQ E n.toNat (cpz g (fun _ => none) 0 0 (min ((cap : Nat) : Int) n))) := ⟨_, rfl⟩
    have hH := jH_eq hH eV7
    have hs8 : FR (fun T k => T = tg ∧ k = 4) V1 V7 := by rw [eV7]; exact FR.one f6 rfl rfl
    have f9 : V7 a = some (t, arQ E cap g) := by rw [eV7]; exact up_k f4 (ne3)
    have p10 : AO V7 g := AO.kp p5 hs8
    have f11 : V7 r7 = some (tg, arQ E n.toNat (cpz g (fun _ => none) 0 0 (min ((cap : Nat) : Int) n))) := by rw [eV7]; exact up_s
    have hk : FR (fun T k => False) w V7 := by rw [eV7]; exact FR.putF hk nwr7
    refine lv_aload_n hx hb dJ11_copyOf_2_38 rfl (lv_at hl 0 rfl) ?_
    exact hret (some r7) V7 hH dJ11_copyOf_2_39 (Nat.le_of_ble_eq_true rfl) (Nat.le_of_ble_eq_true rfl) (⟨r7, _, by first | rfl | omega, by assumption, AO.cpy p10 AO.emp, fun j h1_ h2_ h3_ => by rw [cpz_in (by omega)]; exact congrArg g (by omega), nwr7, hk⟩)
theorem cw_J11_copyOf {R : Room} {s : State} {args : Array Value} {own : String} {index lev mc ms : Nat} (hts : ∀ w ∈ lw_all, w.before args s = true) (hl : Cond.methodLink own index yJ11_copyOf ∈ lw_all) (hR1 : (rmL lev mc ms).frames + 1 ≤ R.frames) (hR2 : 8 + (2 + 11) + (rmL lev mc ms).locals ≤ R.locals) : CallB R s args own index yJ11_copyOf cJ11_copyOf 2 (some (.array (.object "java/lang/Object"))) (ws_ yJ11_copyOf cJ11_copyOf 2 (some (.array (.object "java/lang/Object")))) (rmL lev mc ms) mc ms 2 ∧ (Cond.static yJ11_copyOf).before args s = true :=
  va_cwS 2 hts (lw_S hl q503 q122 q504) rfl rfl rfl (by decide +kernel) ⟨hR1, hR2⟩
set_option maxHeartbeats 4000000 in
theorem m_J11_copyOf {E : jE} (l : Launch) (w : Wl) (t : Nat) (tg : Nat) (cap : Nat) (g : Int → Option Nat) (a : Nat) (n : Int) (h1 : w a = some (t, arQ E cap g)) (h2 : AO w g) (h3 : 0 ≤ n ∧ n ≤ 100) (h4 : (cap : Int) ≤ 100) : Met l yJ11_copyOf (ws_ yJ11_copyOf cJ11_copyOf 2 (some (.array (.object "java/lang/Object")))) (rmL 3 1 100) (va_Pc [.ref a, .int (iI n)] (jP E w)) (jQq E (fun u : Wl => u) (fun z u => ∃ (b : Nat) (g2 : Int → Option Nat), z = some b ∧ u b = some (tg, arQ E n.toNat g2) ∧ (AO u g2) ∧ (∀ j : Int, 0 ≤ j → j < (cap : Int) → j < n → g2 j = g j) ∧ (w b = none) ∧ FR (fun T k => False) w u)) 1 100 (jA E) := by
  refine j_metQ (by decide) (Nat.le_of_ble_eq_true rfl) (Or.inr ⟨_, rfl⟩) ?_
  intro p e s m args below meth c Q hx hb hml hown hnm hts hV hH hret ls hl
  have hl : lv_has ls 2 [(0, .ref a), (1, .int (iI n))] := hl
  have h0 := hH.1.2
  have hR0 := hH.1
  have hk : FR (fun T k => False) w w := FR.rf
  refine lv_aload_n hx hb dJ11_copyOf_0 rfl (lv_at hl 0 rfl) ?_
  refine lv_iload_n hx hb dJ11_copyOf_1 rfl (lv_at hl 1 rfl) ?_
  refine lv_aload_n hx hb dJ11_copyOf_2 rfl (lv_at hl 0 rfl) ?_
  refine va_getC hx hb (hml.trans hl.1.symm) hown (hts _ q505) (va_Nw.use rfl (hV.2.1 _ q2766 rfl)) (hts _ q2765) (hts _ q506) (hts _ q533) hV.2.2.2.2.2.2.2.2.2.1 (j_arrM hV hH h1) (Nat.le_of_ble_eq_true rfl) (Nat.le_of_ble_eq_true rfl) dJ11_copyOf_3 ?_
  refine j_callq (va_runS (As := [.ref a, .int (iI n), .ref (E.2.2.2 200)]) (rest := []) ⟨hx, hb, hml, hown, hts⟩ (m_J11_copyOf_2 l w t tg cap g a n (h1) (h2) (by omega) (by omega)) (cw_J11_copyOf_2 hts q534 (Nat.le_of_ble_eq_true rfl) (Nat.le_of_ble_eq_true rfl)) (j_preS hV hH) rfl rfl hl.1 rfl (lv_room (Nat.le_of_ble_eq_true rfl)) dJ11_copyOf_6 ⟨Nat.le_of_ble_eq_true rfl, Nat.le_of_ble_eq_true rfl⟩) hH (fun z3 U1 H locs hp hH => ?_)
  obtain ⟨b4, g25, hzz3, f6, p7, hin_6, hb0_6, hs2⟩ := hp
  have f8 : U1 a = some (t, arQ E cap g) := hs2.at h1 (k := 4) rfl (by first | exact not_false | (intro q_; simp at q_; done) | omega)
  have p9 : AO U1 g := AO.kp h2 hs2
  have hk : FR (fun T k => False) w U1 := FR.tr hk hs2 (by intro T k h_; exact h_.elim)
  subst hzz3
  show W p l e _ s m args below meth c H locs _ _ Q (F0 m _ ls (.ref b4 :: []))
  exact hret (some b4) U1 hH dJ11_copyOf_9 (Nat.le_of_ble_eq_true rfl) (Nat.le_of_ble_eq_true rfl) (⟨_, _, by first | rfl | omega, by assumption, by assumption, hin_6, hb0_6, hk⟩)
