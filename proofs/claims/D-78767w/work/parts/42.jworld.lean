/-! WORLDS THAT CHANGE: frames by addresses and by tags; rows on references' arrays, copies, statics -/
set_option maxRecDepth 100000
/-- a cell's kind: an array's by its contents, an object's by its class -/
def kd (c : Nat × va_E) : Nat := match c.2 with
  | .inr o => o.1 + 10
  | .inl (_, _, .inl _) => 0
  | .inl (_, _, .inr (.inl _)) => 1
  | .inl (_, _, .inr (.inr (.inl _))) => 2
  | .inl (_, _, .inr (.inr (.inr (.inl _)))) => 3
  | .inl (_, _, .inr (.inr (.inr (.inr _)))) => 4
theorem ne_kd {w : Wl} {a b : Nat} {ca cb : Nat × va_E} (hb : w b = some cb) (ha : w a = some ca) (h : Nat.beq (kd cb) (kd ca) = false) : b ≠ a := fun q => by
  subst q
  rw [ha] at hb
  cases hb
  exact Nat.ne_of_beq_eq_false h rfl
theorem ne_tg {w : Wl} {a b ta tb : Nat} {ca cb : va_E} (hb : w b = some (tb, cb)) (ha : w a = some (ta, ca)) (h : tb ≠ ta) : b ≠ a := fun q => by
  subst q
  rw [ha] at hb
  cases hb
  exact h rfl
theorem ne_fr {w : Wl} {a b : Nat} {cb : Nat × va_E} (hb : w b = some cb) (ha : w a = none) : b ≠ a := fun q => by
  subst q
  rw [ha] at hb
  cases hb
theorem up_k {w : Wl} {a b : Nat} {c cb : Nat × va_E} (hb : w b = some cb) (h : b ≠ a) : up w a c b = some cb := (up_n h).trans hb
/-- what w has is in u too, of the same kind, and the same but for the cells whose tag and kind satisfy C -/
def FR (C : Nat → Nat → Prop) (w u : Wl) : Prop := ∀ (b : Nat) (c : Nat × va_E), w b = some c → (¬ C c.1 (kd c) → u b = some c) ∧ ∃ c' : Nat × va_E, u b = some c' ∧ kd c' = kd c
theorem FR.rf {C : Nat → Nat → Prop} {w : Wl} : FR C w w := fun _ c h => ⟨fun _ => h, c, h, rfl⟩
theorem FR.tr {C D : Nat → Nat → Prop} {w u v : Wl} (h : FR C w u) (k : FR D u v) (hs : ∀ T k : Nat, D T k → C T k) : FR C w v := fun b c hb => ⟨fun hn => (k b c ((h b c hb).1 hn)).1 (fun q => hn (hs _ _ q)), by
  obtain ⟨c1, h1, h2⟩ := (h b c hb).2
  obtain ⟨c2, h3, h4⟩ := (k b c1 h1).2
  exact ⟨c2, h3, h4.trans h2⟩⟩
theorem FR.at {C : Nat → Nat → Prop} {w u : Wl} (h : FR C w u) {b t k : Nat} {c : va_E} (hb : w b = some (t, c)) (hk : kd (t, c) = k) (hn : ¬ C t k) : u b = some (t, c) := (h b _ hb).1 (by rw [hk]; exact hn)
theorem FR.non_ {C : Nat → Nat → Prop} {w u : Wl} (h : FR C w u) {b : Nat} (hb : u b = none) : w b = none := by
  cases hw : w b with
  | none => rfl
  | some c =>
    obtain ⟨c1, h1, -⟩ := (h b c hw).2
    rw [hb] at h1
    cases h1
theorem FR.new1 {w : Wl} {a : Nat} {c : Nat × va_E} (ha : w a = none) : FR (fun _ _ => False) w (up w a c) := fun b c hb => ⟨fun _ => up_k hb (ne_fr hb ha), c, up_k hb (ne_fr hb ha), rfl⟩
theorem FR.one {w : Wl} {a t k : Nat} {c0 : va_E} {c : Nat × va_E} (ha : w a = some (t, c0)) (hk : kd (t, c0) = k) (hk2 : kd c = k) : FR (fun T K => T = t ∧ K = k) w (up w a c) := fun b cb hb => by
  by_cases hba : b = a
  · subst hba
    rw [ha] at hb
    cases hb
    exact ⟨fun hn => absurd ⟨rfl, hk⟩ hn, c, up_s, hk2.trans hk.symm⟩
  · exact ⟨fun _ => up_k hb hba, cb, up_k hb hba, rfl⟩
theorem FR.putF {C : Nat → Nat → Prop} {w W : Wl} {a : Nat} {c : Nat × va_E} (h : FR C w W) (ha : w a = none) : FR C w (up W a c) := fun b cb hb => by
  have hba := ne_fr hb ha
  obtain ⟨c1, h1, h2⟩ := (h b cb hb).2
  exact ⟨fun hn => up_k ((h b cb hb).1 hn) hba, c1, up_k h1 hba, h2⟩
theorem FR.sub {C D : Nat → Nat → Prop} {w u : Wl} (k : FR D w u) (hs : ∀ T k : Nat, D T k → C T k) : FR C w u := fun b c hb => ⟨fun hn => (k b c hb).1 (fun q => hn (hs _ _ q)), (k b c hb).2⟩
/-- an object of a class that lists and deques hold -/
def OB (w : Wl) (y : Nat) : Prop := ∃ c : Nat × va_E, w y = some c ∧ (kd c = 11 ∨ kd c = 13 ∨ kd c = 14 ∨ kd c = 15)
theorem OB.kp {C : Nat → Nat → Prop} {w u : Wl} {y : Nat} (h : OB w y) (k : FR C w u) : OB u y := by
  obtain ⟨c, h1, h2⟩ := h
  obtain ⟨c1, h3, h4⟩ := (k y c h1).2
  exact ⟨c1, h3, by rw [h4]; exact h2⟩
theorem OB.obj {w : Wl} {y : Nat} (h : OB w y) : ∃ (t ci : Nat) (fs : List Value), w y = some (t, .inr (ci, fs)) ∧ (ci = 1 ∨ ci = 3 ∨ ci = 4 ∨ ci = 5) := by
  obtain ⟨⟨t, c⟩, h1, h2⟩ := h
  rcases c with ⟨cA, n, x⟩ | ⟨ci, fs⟩
  · rcases x with x | x | x | x | x <;> simp [kd] at h2
  · refine ⟨t, ci, fs, h1, ?_⟩
    simp [kd] at h2
    omega
theorem OB.of {w : Wl} {y t ci : Nat} {fs : List Value} (h : w y = some (t, .inr (ci, fs))) (hc : ci = 1 ∨ ci = 3 ∨ ci = 4 ∨ ci = 5) : OB w y := ⟨_, h, by show ci + 10 = 11 ∨ ci + 10 = 13 ∨ ci + 10 = 14 ∨ ci + 10 = 15; omega⟩
/-- the heap's cells as a list: any row of the kit on lists of cells serves a world -/
theorem jH.list {E : jE} {H0 H : Heap} {w : Wl} {locs : List Loc} (hH : jH E H0 w H locs) : ∃ ws : va_W, va_P E.1 vwCl ws H ∧ va_D (jA E) ws ∧ (∀ (a t : Nat) (e : va_E), w a = some (t, e) → ∃ k : Nat, ws[k]? = some (a, e)) ∧ ∀ (k : Nat) (q : Nat × va_E), ws[k]? = some q → ∃ t : Nat, w q.1 = some (t, q.2) := by
  have key : ∀ n : Nat, ∃ ws : va_W, (∀ (a t : Nat) (e : va_E), a < n → w a = some (t, e) → ∃ k : Nat, ws[k]? = some (a, e)) ∧ (∀ (k : Nat) (q : Nat × va_E), ws[k]? = some q → q.1 < n ∧ ∃ t : Nat, w q.1 = some (t, q.2)) ∧ (∀ (i j : Nat) (p q : Nat × va_E), ws[i]? = some p → ws[j]? = some q → p.1 = q.1 → i = j) := by
    intro n
    induction n with
    | zero => exact ⟨[], fun a t e h => absurd h (Nat.not_lt_zero a), fun k q h => by simp at h, fun i j p q h => by simp at h⟩
    | succ n ih =>
      obtain ⟨ws, h1, h2, h3⟩ := ih
      cases hc : w n with
      | none =>
        refine ⟨ws, fun a t e ha hw => ?_, fun k q hk => ⟨Nat.lt_succ_of_lt (h2 k q hk).1, (h2 k q hk).2⟩, h3⟩
        by_cases han : a = n
        · subst han; rw [hc] at hw; cases hw
        · exact h1 a t e (by omega) hw
      | some c =>
        have hsz : ∀ k : Nat, ∀ q : Nat × va_E, (ws ++ [(n, c.2)])[k]? = some q → (k < ws.length ∧ ws[k]? = some q) ∨ (k = ws.length ∧ q = (n, c.2)) := by
          intro k q hk
          by_cases hl : k < ws.length
          · rw [List.getElem?_append_left hl] at hk
            exact Or.inl ⟨hl, hk⟩
          · rw [List.getElem?_append_right (by omega)] at hk
            have hz : k - ws.length < 1 := (List.getElem?_eq_some_iff.mp hk).1
            have hk0 : k = ws.length := by omega
            subst hk0
            simp at hk
            exact Or.inr ⟨rfl, hk.symm⟩
        refine ⟨ws ++ [(n, c.2)], fun a t e ha hw => ?_, fun k q hk => ?_, fun i j p q hi hj hpq => ?_⟩
        · by_cases han : a = n
          · subst han
            rw [hc] at hw
            cases hw
            exact ⟨ws.length, by simp⟩
          · obtain ⟨k, hk⟩ := h1 a t e (by omega) hw
            have hl : k < ws.length := (List.getElem?_eq_some_iff.mp hk).1
            exact ⟨k, by rw [List.getElem?_append_left hl]; exact hk⟩
        · rcases hsz k q hk with ⟨-, hq⟩ | ⟨-, rfl⟩
          · exact ⟨Nat.lt_succ_of_lt (h2 k q hq).1, (h2 k q hq).2⟩
          · exact ⟨Nat.lt_succ_self n, c.1, hc⟩
        · rcases hsz i p hi with ⟨hil, hp⟩ | ⟨hil, rfl⟩ <;> rcases hsz j q hj with ⟨hjl, hq⟩ | ⟨hjl, rfl⟩
          · exact h3 i j p q hp hq hpq
          · have := (h2 i p hp).1
            simp at hpq
            omega
          · have := (h2 j q hq).1
            simp at hpq
            omega
          · omega
  obtain ⟨ws, h1, h2, h3⟩ := key H.size
  refine ⟨ws, fun k q hk => ?_, ⟨h3, fun k q hk => ?_⟩, fun a t e ha => h1 a t e (hH.1.lt ha) ha, fun k q hk => (h2 k q hk).2⟩
  · obtain ⟨t, ht⟩ := (h2 k q hk).2
    exact (hH.1.1 q.1 t q.2 ht).1
  · obtain ⟨t, ht⟩ := (h2 k q hk).2
    exact (hH.1.1 q.1 t q.2 ht).2
/-- the start's heap below its size -/
abbrev j0 (E : jE) (H0 : Heap) : Prop := E.2.2.1.size ≤ H0.size ∧ ∀ q : Nat, q < E.2.2.1.size → H0[q]? = E.2.2.1[q]?
theorem jH.back {E : jE} {H0 H H1 : Heap} {w w' : Wl} {locs locs1 : List Loc} {ws : va_W} (h0 : j0 E H0) (hP : va_P E.1 vwCl ws H1) (hD : va_D (jA E) ws) (hS : va_S (jA E) H0 H1 locs1) (hw : ∀ (a t : Nat) (e : va_E), w' a = some (t, e) → ∃ k : Nat, ws[k]? = some (a, e)) : jH E H0 w' H1 locs1 := by
  refine ⟨⟨fun a t e ha => ?_, Nat.le_trans h0.1 hS.1, fun q hq => ?_⟩, hS⟩
  · obtain ⟨k, hk⟩ := hw a t e ha
    exact ⟨hP k _ hk, hD.2 k _ hk⟩
  · rw [hS.2.1 q (Nat.lt_of_lt_of_le hq h0.1) (fun h => absurd h (Nat.not_le.mpr hq))]
    exact h0.2 q hq
theorem jH.set {E : jE} {H0 H1 : Heap} {w : Wl} {locs1 : List Loc} {ws : va_W} {k a t : Nat} {e0 e1 : va_E} (h0 : j0 E H0) (hw : ∀ (a t : Nat) (e : va_E), w a = some (t, e) → ∃ k : Nat, ws[k]? = some (a, e)) (hk : ws[k]? = some (a, e0)) (hP : va_P E.1 vwCl (ws.set k (a, e1)) H1) (hD : va_D (jA E) (ws.set k (a, e1))) (hS : va_S (jA E) H0 H1 locs1) : jH E H0 (up w a (t, e1)) H1 locs1 := by
  refine jH.back (w := w) (H := H1) (locs := locs1) h0 hP hD hS (fun b t' e hb => ?_)
  have hl : k < ws.length := (List.getElem?_eq_some_iff.mp hk).1
  by_cases hba : b = a
  · subst hba
    rw [up_s] at hb
    cases hb
    exact ⟨k, by rw [List.getElem?_set_self hl]⟩
  · rw [up_n hba] at hb
    obtain ⟨j, hj⟩ := hw b t' e hb
    refine ⟨j, ?_⟩
    rw [List.getElem?_set_ne (fun q => hba ?_)]
    · exact hj
    · subst q
      rw [hk] at hj
      cases hj
      rfl
theorem jH.app {E : jE} {H0 H1 : Heap} {w : Wl} {locs1 : List Loc} {ws : va_W} {a : Nat} {e1 : va_E} (h0 : j0 E H0) (hw : ∀ (a t : Nat) (e : va_E), w a = some (t, e) → ∃ k : Nat, ws[k]? = some (a, e)) (hP : va_P E.1 vwCl (ws ++ [(a, e1)]) H1) (hD : va_D (jA E) (ws ++ [(a, e1)])) (hS : va_S (jA E) H0 H1 locs1) : w a = none ∧ ∀ t : Nat, jH E H0 (up w a (t, e1)) H1 locs1 := by
  constructor
  · cases hc : w a with
    | none => rfl
    | some c =>
      obtain ⟨k, hk⟩ := hw a c.1 c.2 hc
      have hl : k < ws.length := (List.getElem?_eq_some_iff.mp hk).1
      have := hD.1 k ws.length (a, c.2) (a, e1) (by rw [List.getElem?_append_left hl]; exact hk) (by simp) rfl
      omega
  · intro t
    refine jH.back (w := w) (H := H1) (locs := locs1) h0 hP hD hS (fun b t' e hb => ?_)
    by_cases hba : b = a
    · subst hba
      rw [up_s] at hb
      cases hb
      exact ⟨ws.length, by simp⟩
    · rw [up_n hba] at hb
      obtain ⟨j, hj⟩ := hw b t' e hb
      have hl : j < ws.length := (List.getElem?_eq_some_iff.mp hj).1
      exact ⟨j, by rw [List.getElem?_append_left hl]; exact hj⟩
theorem j0.at {E : jE} {H0 H : Heap} {w : Wl} (h : jR E w H) : j0 E H := h.2
theorem j0.S {E : jE} {H0 H : Heap} {locs : List Loc} (h : j0 E H0) (hS : va_S (jA E) H0 H locs) : ∀ q : Nat, q < E.2.2.1.size → H[q]? = E.2.2.1[q]? := fun q hq => by
  rw [hS.2.1 q (Nat.lt_of_lt_of_le hq h.1) (fun k => absurd k (Nat.not_le.mpr hq))]
  exact h.2 q hq
section JWORLD
variable {p : Program} {l : Launch} {e : Env} {R : Room} {s : State} {m : MethodId} {args : Array Value} {below : List Frame} {meth : Method} {c : Code} {H : Heap} {locs : List Loc} {cells slots : Nat} {Q : State → Prop}
variable {cc : ByteArray} {pc : Nat} {ls : Array Slot} {rest : List Value} {E : jE} {w : Wl}
theorem j_any {b t ci : Nat} {fs : List Value} {r : vw_C} {H0 : Heap} (hV : jV E s) (hH : jH E H0 w H locs) (hw : w b = some (t, .inr (ci, fs))) (hc : vwCl[ci]? = some r) (hca : va_Nw (.castable r.1 "java/lang/Object") s) : va_Any "java/lang/Object" s H b := by
  obtain ⟨cell, h1, h2, h3⟩ := j_recv hV hH hw hc
  obtain ⟨kC, hkC, -⟩ := Vm.findClass_spec h3
  refine ⟨cell, h1, h2, ⟨kC, hkC⟩, fun comp h => ?_⟩
  obtain ⟨c0, t0, f1, f2, f3⟩ := Cond.castable_spec hca
  cases h3.symm.trans f1
  cases h.symm.trans f2
  exact f3
theorem upz_va {α : Type} (g : Int → α) (i : Int32) {z : Int} (v : α) (hz : ((i.toNatClampNeg : Nat) : Int) = z) : va_up (fun j : Nat => g (j : Int)) i.toNatClampNeg v = fun j : Nat => upz g z v (j : Int) := by
  funext j
  by_cases hj : j = i.toNatClampNeg
  · subst hj
    rw [va_up, if_pos rfl, hz, upz_s]
  · rw [va_up, if_neg hj, upz_n (fun q => hj (by omega))]
theorem j_aastA {a0 t n b : Nat} {g : Int → Option Nat} {z : Int} (hx : p.tables.exec = Jvm.exec) (hb : c.code = cc) (hV : jV E s) (h0 : j0 E s.heap) (hH : jH E s.heap w H locs) (hw : w a0 = some (t, arQ E n g)) (hA : va_Any "java/lang/Object" s H b) (hz : 0 ≤ z ∧ z < (n : Int)) (hn : z ≤ 2147483647) (d : decode cc pc = .ok (.aastore, 1)) (kk : ∀ (H1 : Heap) (locs1 : List Loc), jH E s.heap (up w a0 (t, arQ E n (upz g z (some b)))) H1 locs1 → W p l e R s m args below meth c H1 locs1 cells slots Q (F0 m (pc + 1) ls rest)) : W p l e R s m args below meth c H locs cells slots Q (F0 m pc ls (.ref b :: .int (iI z) :: .ref a0 :: rest)) := by
  obtain ⟨ws, hP, hD, w1, w2⟩ := hH.list
  obtain ⟨k, hk⟩ := w1 a0 t _ hw
  refine va_astqM hx hb hV.1 hP hD hH.2 k 3 (n := n) (f := fun j => g (j : Int)) hk rfl hA (iI_in hz hn) d fun H1 locs1 q1 q2 q3 => ?_
  rw [upz_va g (iI z) (some b) (iI_cl hz.1 hn)] at q1 q2
  exact kk H1 locs1 (jH.set h0 w1 hk q1 q2 q3)
theorem j_aast {a0 t t2 ci n b : Nat} {fs : List Value} {r : vw_C} {g : Int → Option Nat} {z : Int} (hx : p.tables.exec = Jvm.exec) (hb : c.code = cc) (hV : jV E s) (h0 : j0 E s.heap) (hH : jH E s.heap w H locs) (hw : w a0 = some (t, arQ E n g)) (hv : w b = some (t2, .inr (ci, fs))) (hc : vwCl[ci]? = some r) (hca : va_Nw (.castable r.1 "java/lang/Object") s) (hz : 0 ≤ z ∧ z < (n : Int)) (hn : z ≤ 2147483647) (d : decode cc pc = .ok (.aastore, 1)) (kk : ∀ (H1 : Heap) (locs1 : List Loc), jH E s.heap (up w a0 (t, arQ E n (upz g z (some b)))) H1 locs1 → W p l e R s m args below meth c H1 locs1 cells slots Q (F0 m (pc + 1) ls rest)) : W p l e R s m args below meth c H locs cells slots Q (F0 m pc ls (.ref b :: .int (iI z) :: .ref a0 :: rest)) :=
  j_aastA hx hb hV h0 hH hw (j_any hV hH hv hc hca) hz hn d kk
theorem j_aastN {a0 t n : Nat} {g : Int → Option Nat} {z : Int} (hx : p.tables.exec = Jvm.exec) (hb : c.code = cc) (hV : jV E s) (h0 : j0 E s.heap) (hH : jH E s.heap w H locs) (hw : w a0 = some (t, arQ E n g)) (hz : 0 ≤ z ∧ z < (n : Int)) (hn : z ≤ 2147483647) (d : decode cc pc = .ok (.aastore, 1)) (kk : ∀ (H1 : Heap) (locs1 : List Loc), jH E s.heap (up w a0 (t, arQ E n (upz g z none))) H1 locs1 → W p l e R s m args below meth c H1 locs1 cells slots Q (F0 m (pc + 1) ls rest)) : W p l e R s m args below meth c H locs cells slots Q (F0 m pc ls (.null :: .int (iI z) :: .ref a0 :: rest)) := by
  obtain ⟨ws, hP, hD, w1, w2⟩ := hH.list
  obtain ⟨k, hk⟩ := w1 a0 t _ hw
  refine va_astqN hx hb hV.1 hP hD hH.2 k 3 (n := n) (f := fun j => g (j : Int)) hk rfl (iI_in hz hn) d fun H1 locs1 q1 q2 q3 => ?_
  rw [upz_va g (iI z) none (iI_cl hz.1 hn)] at q1 q2
  exact kk H1 locs1 (jH.set h0 w1 hk q1 q2 q3)
theorem j_newq {n : Int} {own : String} {index : Nat} (hx : p.tables.exec = Jvm.exec) (hb : c.code = cc) (hts : ∀ w ∈ lw_all, w.before args s = true) (hown : s.vm.findClass own = some m.cls) (hV : jV E s) (h0 : j0 E s.heap) (hH : jH E s.heap w H locs) (hlink : Cond.classLink own index "java/lang/Object" ∈ lw_all) (hn : 0 ≤ n ∧ n ≤ 1000000) (hcells : cells + 1 ≤ R.cells) (hslots : slots + n.toNat ≤ R.slots) (d : decode cc pc = .ok (.anewarray index, 3))
    (kk : ∀ (q : Nat) (H1 : Heap), w q = none → (∀ t : Nat, jH E s.heap (up w q (t, arQ E n.toNat (fun _ => none))) H1 locs) → W p l e R s m args below meth c H1 locs (cells + 1) (slots + n.toNat) Q (F0 m (pc + 3) ls (.ref q :: rest))) : W p l e R s m args below meth c H locs cells slots Q (F0 m pc ls (.int (iI n) :: rest)) := by
  obtain ⟨ws, hP, hD, w1, w2⟩ := hH.list
  refine va_newq hx hb hown (hts _ hlink) hV.2.2.2.2.2.2.2.2.1.1 hV.1 hP hD hH.2 (fun q hq => Nat.le_trans h0.1 hq) (by rw [← iI_0, iI_lt (by omega) (by omega)]; omega) (iI_clN hn.1 (by omega)) (by omega) hcells hslots d fun q cA H1 k1 k2 k3 k4 => ?_
  have hcA : cA = E.2.1 3 := by
    obtain ⟨_, _, _, _, _, h1⟩ := (k1.2 5 (cA, .object "java/lang/Object") rfl).2
    obtain ⟨_, _, _, _, _, h2⟩ := (hV.1.2 3 (E.2.1 3, .object "java/lang/Object") rfl).2
    exact Option.some.inj (h1.symm.trans h2)
  subst hcA
  obtain ⟨e1, e2⟩ := jH.app h0 w1 k2 k3 k4
  exact kk q H1 e1 (fun t => e2 t)
theorem j_clonei {a0 t n : Nat} {g : Int → Int} {own : String} {index : Nat} (hx : p.tables.exec = Jvm.exec) (hb : c.code = cc) (hml : c.maxLocals = ls.size) (hts : ∀ w ∈ lw_all, w.before args s = true) (hown : s.vm.findClass own = some m.cls) (hV : jV E s) (h0 : j0 E s.heap) (hH : jH E s.heap w H locs)
    (hlink : Cond.methodLink own index ⟨"[I", "clone", "()Ljava/lang/Object;"⟩ ∈ lw_all) (hsame : Cond.sameMethod "[I" "java/lang/Object" "clone" "()Ljava/lang/Object;" ∈ lw_all)
    (hnat : Cond.native ⟨"java/lang/Object", "clone", "()Ljava/lang/Object;"⟩ ∈ lw_all) (hinst : Cond.instanceMethod ⟨"java/lang/Object", "clone", "()Ljava/lang/Object;"⟩ ∈ lw_all)
    (hsel : Cond.selects "[I" ⟨"[I", "clone", "()Ljava/lang/Object;"⟩ ⟨"java/lang/Object", "clone", "()Ljava/lang/Object;"⟩ ∈ lw_all) (hcl : va_Nw (.castable "[I" "java/lang/Cloneable") s)
    (hw : w a0 = some (t, arI E n g)) (hframes : 1 ≤ R.frames) (hlocals : (rest.map fun v => v.category).sum + 14 ≤ R.locals) (hcells : cells + 1 ≤ R.cells) (hslots : slots + n ≤ R.slots) (d : decode cc pc = .ok (.invokevirtual index, 3))
    (kk : ∀ (q : Nat) (H1 : Heap), w q = none → (∀ t : Nat, jH E s.heap (up w q (t, arI E n g)) H1 locs) → W p l e R s m args below meth c H1 locs (cells + 1) (slots + n) Q (F0 m (pc + 3) ls (.ref q :: rest))) : W p l e R s m args below meth c H locs cells slots Q (F0 m pc ls (.ref a0 :: rest)) := by
  obtain ⟨ws, hP, hD, w1, w2⟩ := hH.list
  obtain ⟨k, hk⟩ := w1 a0 t _ hw
  refine va_clone hx hb hml hown (hts _ hlink) (hts _ hsame) (hts _ hnat) (hts _ hinst) (hts _ hsel) hcl hV.1 hP hD hH.2 (fun q hq => Nat.le_trans h0.1 hq) k 0 (x := (n, .inl (fun j => iI (g (j : Int))))) hk rfl (hV.1.2 0 (E.2.1 0, .int) rfl).2 (fun i v hv => ?_) hframes hlocals hcells hslots d fun q H1 k1 k2 k3 k4 => ?_
  · have hl : i < n := by
      have h1 : i < (vp_cell (E.2.1 0) (n, .inl (fun j => iI (g (j : Int))))).slots.size := (Array.getElem?_eq_some_iff.mp hv).1
      rw [vp_cell_i, arrV_size] at h1
      exact h1
    rw [vp_cell_i, arrV_read _ _ hl] at hv
    cases hv
    rfl
  · obtain ⟨e1, e2⟩ := jH.app h0 w1 k2 k3 k4
    exact kk q H1 e1 (fun t => e2 t)
/-- copies of references within a world -/
def cpz {α : Type} (f g : Int → α) (sp dp n : Int) : Int → α := fun k => if dp ≤ k ∧ k < dp + n then f (sp + (k - dp)) else g k
theorem cpz_in {α : Type} {f g : Int → α} {sp dp n k : Int} (h : dp ≤ k ∧ k < dp + n) : cpz f g sp dp n k = f (sp + (k - dp)) := if_pos h
theorem cpz_out {α : Type} {f g : Int → α} {sp dp n k : Int} (h : ¬ (dp ≤ k ∧ k < dp + n)) : cpz f g sp dp n k = g k := if_neg h
theorem cpz_va {α : Type} (f g : Int → α) {sp dp n : Int} (h1 : 0 ≤ sp) (h2 : 0 ≤ dp) (h3 : 0 ≤ n) : va_cpy (fun j : Nat => f (j : Int)) (fun j : Nat => g (j : Int)) sp.toNat dp.toNat n.toNat = fun j : Nat => cpz f g sp dp n (j : Int) := by
  funext j
  by_cases hj : dp ≤ (j : Int) ∧ (j : Int) < dp + n
  · rw [va_cpy, if_pos (by omega), cpz_in hj]
    exact congrArg f (by omega)
  · rw [va_cpy, if_neg (by omega), cpz_out hj]
theorem j_copyq {a0 a1 t0 t1 n0 n1 : Nat} {f g : Int → Option Nat} {own : String} {index : Nat} {sp dp n : Int} (hx : p.tables.exec = Jvm.exec) (hb : c.code = cc) (hml : c.maxLocals = ls.size) (hts : ∀ w ∈ lw_all, w.before args s = true) (hown : s.vm.findClass own = some m.cls) (hV : jV E s) (h0 : j0 E s.heap) (hH : jH E s.heap w H locs)
    (hlink : Cond.methodLink own index arraycopyName ∈ lw_all) (hnat : Cond.native arraycopyName ∈ lw_all) (hstat : Cond.static arraycopyName ∈ lw_all) (hini : Cond.initialized "java/lang/System" ∈ lw_all)
    (hw0 : w a0 = some (t0, arQ E n0 f)) (hw1 : w a1 = some (t1, arQ E n1 g)) (hsp : 0 ≤ sp ∧ sp ≤ 1000000) (hdp : 0 ≤ dp ∧ dp ≤ 1000000) (hn : 0 ≤ n ∧ n ≤ 1000000) (h4 : sp + n ≤ (n0 : Int)) (h5 : dp + n ≤ (n1 : Int))
    (hel : ∀ j : Int, sp ≤ j → j < sp + n → ∀ y : Nat, f j = some y → va_Any "java/lang/Object" s H y) (hframes : 1 ≤ R.frames) (hlocals : (rest.map fun v => v.category).sum + (nativeFrameWords "java/lang/System" "arraycopy" 5 + 11) ≤ R.locals) (d : decode cc pc = .ok (.invokestatic index, 3))
    (kk : ∀ (H1 : Heap) (locs1 : List Loc), jH E s.heap (up w a1 (t1, arQ E n1 (cpz f g sp dp n))) H1 locs1 → W p l e R s m args below meth c H1 locs1 cells slots Q (F0 m (pc + 3) ls rest)) : W p l e R s m args below meth c H locs cells slots Q (F0 m pc ls (.int (iI n) :: .int (iI dp) :: .ref a1 :: .int (iI sp) :: .ref a0 :: rest)) := by
  obtain ⟨ws, hP, hD, w1, w2⟩ := hH.list
  obtain ⟨k0, hk0⟩ := w1 a0 t0 _ hw0
  obtain ⟨k1, hk1⟩ := w1 a1 t1 _ hw1
  have e1 := iI_clN (z := sp) hsp.1 (by omega)
  have e2 := iI_clN (z := dp) hdp.1 (by omega)
  have e3 := iI_clN (z := n) hn.1 (by omega)
  refine va_copyM hx hb hml hown (hts _ hlink) (hts _ hnat) (hts _ hstat) (hts _ hini) hV.1 hP hD hH.2 k0 k1 3 3 (n0 := n0) (n1 := n1) (f := fun j => f (j : Int)) (g := fun j => g (j : Int)) hk0 hk1 rfl rfl (by rw [← iI_0, iI_lt (by omega) (by omega)]; omega) (by rw [← iI_0, iI_lt (by omega) (by omega)]; omega) (by rw [← iI_0, iI_lt (by omega) (by omega)]; omega) (by rw [e1, e3]; omega) (by rw [e2, e3]; omega) (fun i hi y hy => hel (sp + i) (by omega) (by rw [e3] at hi; omega) y (by rw [← hy, e1]; exact congrArg f (by omega))) hframes hlocals d fun H1 locs1 q1 q2 q3 => ?_
  rw [e1, e2, e3, cpz_va f g hsp.1 hdp.1 hn.1] at q1 q2
  exact kk H1 locs1 (jH.set h0 w1 hk1 q1 q2 q3)
theorem j_copyb {a0 a1 t0 t1 n0 n1 : Nat} {f g : Int → Int} {own : String} {index : Nat} {sp dp n : Int} (hx : p.tables.exec = Jvm.exec) (hb : c.code = cc) (hml : c.maxLocals = ls.size) (hts : ∀ w ∈ lw_all, w.before args s = true) (hown : s.vm.findClass own = some m.cls) (hV : jV E s) (h0 : j0 E s.heap) (hH : jH E s.heap w H locs)
    (hlink : Cond.methodLink own index arraycopyName ∈ lw_all) (hnat : Cond.native arraycopyName ∈ lw_all) (hstat : Cond.static arraycopyName ∈ lw_all) (hini : Cond.initialized "java/lang/System" ∈ lw_all)
    (hw0 : w a0 = some (t0, arB E n0 f)) (hw1 : w a1 = some (t1, arB E n1 g)) (hsp : 0 ≤ sp ∧ sp ≤ 1000000) (hdp : 0 ≤ dp ∧ dp ≤ 1000000) (hn : 0 ≤ n ∧ n ≤ 1000000) (h4 : sp + n ≤ (n0 : Int)) (h5 : dp + n ≤ (n1 : Int))
    (hel : ∀ j : Int, sp ≤ j → j < sp + n → -128 ≤ f j ∧ f j ≤ 127) (hframes : 1 ≤ R.frames) (hlocals : (rest.map fun v => v.category).sum + (nativeFrameWords "java/lang/System" "arraycopy" 5 + 11) ≤ R.locals) (d : decode cc pc = .ok (.invokestatic index, 3))
    (kk : ∀ (H1 : Heap) (locs1 : List Loc), jH E s.heap (up w a1 (t1, arB E n1 (cpz f g sp dp n))) H1 locs1 → W p l e R s m args below meth c H1 locs1 cells slots Q (F0 m (pc + 3) ls rest)) : W p l e R s m args below meth c H locs cells slots Q (F0 m pc ls (.int (iI n) :: .int (iI dp) :: .ref a1 :: .int (iI sp) :: .ref a0 :: rest)) := by
  obtain ⟨ws, hP, hD, w1, w2⟩ := hH.list
  obtain ⟨k0, hk0⟩ := w1 a0 t0 _ hw0
  obtain ⟨k1, hk1⟩ := w1 a1 t1 _ hw1
  have e1 := iI_clN (z := sp) hsp.1 (by omega)
  have e2 := iI_clN (z := dp) hdp.1 (by omega)
  have e3 := iI_clN (z := n) hn.1 (by omega)
  refine va_copyi hx hb hml hown (hts _ hlink) (hts _ hnat) (hts _ hstat) (hts _ hini) hV.1 hP hD hH.2 k0 k1 1 1 (n0 := n0) (n1 := n1) (f := fun j => iI (f (j : Int))) (g := fun j => iI (g (j : Int))) hk0 hk1 rfl rfl rfl (by rw [← iI_0, iI_lt (by omega) (by omega)]; omega) (by rw [← iI_0, iI_lt (by omega) (by omega)]; omega) (by rw [← iI_0, iI_lt (by omega) (by omega)]; omega) (by rw [e1, e3]; omega) (by rw [e2, e3]; omega) (fun i hi => ?_) hframes hlocals d fun H1 locs1 q1 q2 q3 => ?_
  · have h8 := hel (sp + i) (by omega) (by rw [e3] at hi; omega)
    have h9 : f ((((iI sp).toNatClampNeg + i : Nat)) : Int) = f (sp + i) := congrArg f (by rw [e1]; omega)
    rw [h9]
    show fits .byte (.int (iI (f (sp + i)))) = true
    rw [← i8_T h8]
    exact pk_fb _
  · have h9 : va_cpy (fun j : Nat => iI (f (j : Int))) (fun j : Nat => iI (g (j : Int))) (iI sp).toNatClampNeg (iI dp).toNatClampNeg (iI n).toNatClampNeg = fun j : Nat => iI (cpz f g sp dp n (j : Int)) := by
      rw [e1, e2, e3, cpz_va (fun j => iI (f j)) (fun j => iI (g j)) hsp.1 hdp.1 hn.1]
      funext j
      by_cases hj : dp ≤ (j : Int) ∧ (j : Int) < dp + n
      · rw [cpz_in hj, cpz_in hj]
      · rw [cpz_out hj, cpz_out hj]
    rw [h9] at q1 q2
    exact kk H1 locs1 (jH.set h0 w1 hk1 q1 q2 q3)
/-- statics of the start -/
theorem j_gets {own ref C n d0 : String} {v : Value} {index k : Nat} (hx : p.tables.exec = Jvm.exec) (hb : c.code = cc) (hts : ∀ w ∈ lw_all, w.before args s = true) (hown : s.vm.findClass own = some m.cls) (hV : jV E s) (h0 : j0 E s.heap) (hH : jH E s.heap w H locs) (hz : jSt[k]? = some (C, n, d0, v)) (hlink : Cond.fieldLink own index ref n d0 ∈ lw_all) (hsame : ∀ x, s.fieldFound? C n d0 = some x → s.fieldFound? ref n d0 = some x) (d : decode cc pc = .ok (.getstatic index, 3)) (kk : W p l e R s m args below meth c H locs cells slots Q (F0 m (pc + 3) ls (v :: rest))) : W p l e R s m args below meth c H locs cells slots Q (F0 m pc ls rest) :=
  va_gets hx hb (C := C) (n := n) (d := d0) (va_Z.kept (hV.2.2.1 _ (List.mem_of_getElem? hz)) (fun a ha _ => h0.2 a ha)) hH.2 hown (hts _ hlink) hsame d kk
/-- ArrayList's empty array -/
theorem j_getsK {own ref : String} {index : Nat} (hx : p.tables.exec = Jvm.exec) (hb : c.code = cc) (hts : ∀ w ∈ lw_all, w.before args s = true) (hown : s.vm.findClass own = some m.cls) (hV : jV E s) (h0 : j0 E s.heap) (hH : jH E s.heap w H locs) (hlink : Cond.fieldLink own index ref "DEFAULTCAPACITY_EMPTY_ELEMENTDATA" "[Ljava/lang/Object;" ∈ lw_all) (hsame : ∀ x, s.fieldFound? "java/util/ArrayList" "DEFAULTCAPACITY_EMPTY_ELEMENTDATA" "[Ljava/lang/Object;" = some x → s.fieldFound? ref "DEFAULTCAPACITY_EMPTY_ELEMENTDATA" "[Ljava/lang/Object;" = some x) (d : decode cc pc = .ok (.getstatic index, 3)) (kk : W p l e R s m args below meth c H locs cells slots Q (F0 m (pc + 3) ls (.ref (E.2.2.2 0) :: rest))) : W p l e R s m args below meth c H locs cells slots Q (F0 m pc ls rest) :=
  va_gets hx hb (va_Z.kept hV.2.2.2.1.1 (fun a ha _ => h0.2 a ha)) hH.2 hown (hts _ hlink) hsame d kk
theorem j_alenK (hx : p.tables.exec = Jvm.exec) (hb : c.code = cc) (hV : jV E s) (h0 : j0 E s.heap) (hH : jH E s.heap w H locs) (d : decode cc pc = .ok (.arraylength, 1)) (kk : W p l e R s m args below meth c H locs cells slots Q (F0 m (pc + 1) ls (.int (iI 0) :: rest))) : W p l e R s m args below meth c H locs cells slots Q (F0 m pc ls (.ref (E.2.2.2 0) :: rest)) :=
  va_tlen hx hb (va_T.kept hV.2.2.2.1.2 (fun a ha _ => h0.2 a ha)) hH.2 rfl d kk
theorem jK_lt (hV : jV E s) : E.2.2.2 0 < E.2.2.1.size := by
  have := va_T.out hV.2.2.2.1.2
  exact Nat.not_le.mp this
theorem jK_no {H0 : Heap} (hV : jV E s) (hH : jH E H0 w H locs) : w (E.2.2.2 0) = none := by
  cases hc : w (E.2.2.2 0) with
  | none => rfl
  | some c => exact absurd (hH.1.1 _ c.1 c.2 hc).2 (Nat.not_le.mpr (jK_lt hV))
theorem j_anyO {b : Nat} {H0 : Heap} (hV : jV E s) (hH : jH E H0 w H locs) (h : OB w b) : va_Any "java/lang/Object" s H b := by
  obtain ⟨t, ci, fs, h1, h2⟩ := h.obj
  rcases h2 with h2 | h2 | h2 | h2 <;> subst h2
  · exact j_any hV hH h1 rfl (hV.2.1 _ q2739 rfl)
  · exact j_any hV hH h1 rfl (hV.2.1 _ q2753 rfl)
  · exact j_any hV hH h1 rfl (hV.2.1 _ q2752 rfl)
  · exact j_any hV hH h1 rfl (hV.2.1 _ q2756 rfl)
theorem j_ishr1 {a : Int} (hx : p.tables.exec = Jvm.exec) (hb : c.code = cc) (d : decode cc pc = .ok (.ishr, 1)) (ha : 0 ≤ a ∧ a ≤ 2147483647) (k : W p l e R s m args below meth c H locs cells slots Q (F0 m (pc + 1) ls (.int (iI (a / 2)) :: rest))) : W p l e R s m args below meth c H locs cells slots Q (F0 m pc ls (.int (iI 1) :: .int (iI a) :: rest)) := by
  refine lv_ishr hx hb d ?_
  have h : iI a >>> iI 1 = iI (a / 2) := by
    rw [← Int32.toInt_inj, pk_shr (iI a) (iI 1) 1 (by decide), iI_T (by omega), iI_T (by omega), Int.shiftRight_eq_div_pow]
    rfl
  rw [show (iI 1 &&& 31) = iI 1 by decide, h]
  exact k
theorem j_arrM {a t n : Nat} {g : Int → Option Nat} {H0 : Heap} (hV : jV E s) (hH : jH E H0 w H locs) (hw : w a = some (t, arQ E n g)) : ∃ cell : Cell, H[a]? = some cell ∧ cell.vm.isStatics = false ∧ s.vm.findClass "[Ljava/lang/Object;" = some cell.cls :=
  ⟨_, (hH.1.1 a t _ hw).1, rfl, va_nmO (hV.1.2 3 (E.2.1 3, .object "java/lang/Object") rfl).2 rfl⟩
end JWORLD
/-- a contract's end, weakened -/
theorem j_post {l : Launch} {y : MethodName} {ws : List Cond} {rm : Room} {Pc : Array Value → State → Prop} {Q1 Q2 : Array Value → State → Outcome → State → Prop} {mc ms : Nat} {free : Addr → Prop} (h : Met l y ws rm Pc Q1 mc ms free) (hi : ∀ (a : Array Value) (st : State) (o : Outcome) (t : State), Q1 a st o t → Q2 a st o t) : Met l y ws rm Pc Q2 mc ms free := fun p e h1 h2 h3 s m args below h4 h5 h6 h7 => by
  obtain ⟨n, o, k1, k2, k3, k4, k5⟩ := h p e h1 h2 h3 s m args below h4 h5 h6 h7
  exact ⟨n, o, k1, k2, k3, hi _ _ _ _ k4, k5⟩
section JIMP
variable {E : jE} {l : Launch} {y : MethodName} {ws : List Cond} {rm : Room} {Pc : Array Value → State → Prop} {S : Type} {P : S → Wl} {mc ms : Nat}
theorem jQv.imp {p1 p2 : S → Prop} (h : Met l y ws rm Pc (jQv E P p1) mc ms (jA E)) (hi : ∀ u : S, p1 u → p2 u) : Met l y ws rm Pc (jQv E P p2) mc ms (jA E) :=
  j_post h (fun a st o t q => by obtain ⟨⟨u, e, q1, q2⟩, q3⟩ := q; exact ⟨⟨u, e, hi u q1, q2⟩, q3⟩)
theorem jQi.imp {p1 p2 : Int → S → Prop} (h : Met l y ws rm Pc (jQi E P p1) mc ms (jA E)) (hi : ∀ (z : Int) (u : S), p1 z u → p2 z u) : Met l y ws rm Pc (jQi E P p2) mc ms (jA E) :=
  j_post h (fun a st o t q => by obtain ⟨⟨r, u, e, ⟨z, e2, q1⟩, q2⟩, q3⟩ := q; exact ⟨⟨r, u, e, ⟨z, e2, hi z u q1⟩, q2⟩, q3⟩)
theorem jQq.imp {p1 p2 : Option Nat → S → Prop} (h : Met l y ws rm Pc (jQq E P p1) mc ms (jA E)) (hi : ∀ (z : Option Nat) (u : S), p1 z u → p2 z u) : Met l y ws rm Pc (jQq E P p2) mc ms (jA E) :=
  j_post h (fun a st o t q => by obtain ⟨⟨r, u, e, q1, q2⟩, q3⟩ := q; exact ⟨⟨r, u, e, hi r u q1, q2⟩, q3⟩)
end JIMP
