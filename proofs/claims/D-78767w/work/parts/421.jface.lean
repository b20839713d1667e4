/-! calls of interfaces' methods -/
set_option maxRecDepth 100000
theorem jH_eq {E : jE} {H0 H : Heap} {w w' : Wl} {locs : List Loc} (h : jH E H0 w H locs) (e : w' = w) : jH E H0 w' H locs := by rw [e]; exact h
theorem lw_F {own C : String} {idx : Nat} {x y : MethodName} {b : ByteArray} {L : Nat} {r : Option FieldType} (h1 : Cond.methodLink own idx x ∈ lw_all) (h3 : Cond.selects C x y ∈ lw_all) (h4 : Cond.instanceMethod y ∈ lw_all) (h5 : Cond.initialized y.cls ∈ lw_all) (h6 : Cond.code y b L r ∈ lw_all) : GoodIn lw_all (va_wsF own idx C x y (ws_ y b L r)) := by
  refine lw_app ?_ (lw_meth h6)
  intro w hw
  simp only [List.mem_cons, List.not_mem_nil, or_false] at hw
  rcases hw with e | e | e | e
  · rw [e]; exact h1
  · rw [e]; exact h3
  · rw [e]; exact h4
  · rw [e]; exact h5
theorem j_Fw {E : jE} {s : State} {C : String} {x y : MethodName} (h1 : va_Nw (.declares x) s) (h2 : va_Nw (.interfaceMethod x.cls x.cls x.name x.desc) s) (h3 : va_Nw (.publicMethod y) s) (h4 : va_Nw (.unhidden C x.name x.desc) s) (h5 : va_Nw (.castable C x.cls) s) : va_Fw C x y s := ⟨h1, h2, h3, h4, h5⟩
section JFACE
variable {p : Program} {l : Launch} {e : Env} {R : Room} {s : State} {m : MethodId} {args : Array Value} {below : List Frame} {meth : Method} {c : Code} {H : Heap} {locs : List Loc} {cells slots : Nat} {Q : State → Prop}
variable {pc : Nat} {ls : Array Slot} {rest : List Value} {E : jE} {w : Wl} {mc ms : Nat} {st0 : List Value} {a : Array Value} {S : Type} {P : S → Wl}
theorem jF_calli {post : Int → S → Prop} (hr : va_Run5 p l e R s m args below meth c H locs cells slots mc ms (F0 m pc ls st0) rest (jQi E P post a) (jA E)) (hH : jH E s.heap w H locs)
    (kk : ∀ (z : Int) (u : S) (H1 : Heap) (locs1 : List Loc), post z u → jH E s.heap (P u) H1 locs1 → W p l e R s m args below meth c H1 locs1 (cells + mc) (slots + ms) Q (F0 m (pc + 5) ls (.int (iI z) :: rest))) : W p l e R s m args below meth c H locs cells slots Q (F0 m pc ls st0) :=
  va_callFi hr hH.2 (fun q _ h => h) (fun q h => h) (fun r u t H1 locs1 ht _ hp hB _ _ hS => by
    obtain ⟨z, rfl, hz⟩ := hp
    exact kk z u H1 locs1 hz ⟨by rw [← ht]; exact hB, hS⟩)
theorem jF_callv {post : S → Prop} (hr : va_Run5 p l e R s m args below meth c H locs cells slots mc ms (F0 m pc ls st0) rest (jQv E P post a) (jA E)) (hH : jH E s.heap w H locs)
    (kk : ∀ (u : S) (H1 : Heap) (locs1 : List Loc), post u → jH E s.heap (P u) H1 locs1 → W p l e R s m args below meth c H1 locs1 (cells + mc) (slots + ms) Q (F0 m (pc + 5) ls rest)) : W p l e R s m args below meth c H locs cells slots Q (F0 m pc ls st0) :=
  va_callFv hr hH.2 (fun q _ h => h) (fun q h => h) (fun u t H1 locs1 ht _ hp hB _ _ hS => kk u H1 locs1 hp ⟨by rw [← ht]; exact hB, hS⟩)
theorem jF_callq {post : Option Nat → S → Prop} (hr : va_Run5 p l e R s m args below meth c H locs cells slots mc ms (F0 m pc ls st0) rest (jQq E P post a) (jA E)) (hH : jH E s.heap w H locs)
    (kk : ∀ (z : Option Nat) (u : S) (H1 : Heap) (locs1 : List Loc), post z u → jH E s.heap (P u) H1 locs1 → W p l e R s m args below meth c H1 locs1 (cells + mc) (slots + ms) Q (F0 m (pc + 5) ls (va_rf z :: rest))) : W p l e R s m args below meth c H locs cells slots Q (F0 m pc ls st0) :=
  va_callFq hr hH.2 (fun q _ h => h) (fun q h => h) (fun r u t H1 locs1 ht _ hp hB _ _ hS => kk r u H1 locs1 hp ⟨by rw [← ht]; exact hB, hS⟩)
theorem jF_callip {r : Int} {P : Unit → Wl} (hr : va_Run5 p l e R s m args below meth c H locs cells slots mc ms (F0 m pc ls st0) rest (jQi E P (fun z _ => z = r) a) (jA E)) (hH : jH E s.heap w H locs)
    (kk : ∀ (H1 : Heap) (locs1 : List Loc), jH E s.heap (P ()) H1 locs1 → W p l e R s m args below meth c H1 locs1 (cells + mc) (slots + ms) Q (F0 m (pc + 5) ls (.int (iI r) :: rest))) : W p l e R s m args below meth c H locs cells slots Q (F0 m pc ls st0) :=
  jF_calli hr hH (fun z u H1 locs1 hp hH1 => by cases hp; exact kk H1 locs1 hH1)
variable {cc : ByteArray}
theorem j_astore_n (hx : p.tables.exec = Jvm.exec) (hb : c.code = cc) {k : Fin 4} {i nL : Nat} {x : Option Nat} {lv lv' : List (Nat × Value)} (d : decode cc pc = .ok (.astore_n k, 1)) (hi : (k : Nat) = i) (h : lv_has ls nL lv) (hn : i < nL) (hl : (i, va_rf x) :: lv.filter (fun q => !(q.1 == i) && !(q.1 + 1 == i && q.2.category == 2)) = lv')
    (kk : ∀ ls' : Array Slot, lv_has ls' nL lv' → W p l e R s m args below meth c H locs cells slots Q (F0 m (pc + 1) ls' rest)) : W p l e R s m args below meth c H locs cells slots Q (F0 m pc ls (va_rf x :: rest)) := by
  cases x with
  | none => exact lv_astore_nN hx hb d hi h hn hl kk
  | some x => exact lv_astore_n hx hb d hi h hn hl kk
theorem j_astore (hx : p.tables.exec = Jvm.exec) (hb : c.code = cc) {i nL : Nat} {x : Option Nat} {lv lv' : List (Nat × Value)} (d : decode cc pc = .ok (.astore i, 2)) (h : lv_has ls nL lv) (hn : i < nL) (hl : (i, va_rf x) :: lv.filter (fun q => !(q.1 == i) && !(q.1 + 1 == i && q.2.category == 2)) = lv')
    (kk : ∀ ls' : Array Slot, lv_has ls' nL lv' → W p l e R s m args below meth c H locs cells slots Q (F0 m (pc + 2) ls' rest)) : W p l e R s m args below meth c H locs cells slots Q (F0 m pc ls (va_rf x :: rest)) := by
  cases x with
  | none => exact lv_astoreN hx hb d h hn hl kk
  | some x => exact lv_astore hx hb d h hn hl kk
end JFACE
