/-! EXCEPTIONS: a method's head, calls of methods that may throw, what the stage throws -/
set_option maxRecDepth 100000
set_option maxHeartbeats 4000000
abbrev xI : String := "java/lang/IndexOutOfBoundsException"
abbrev xA : String := "java/lang/IllegalArgumentException"
abbrev xS : String := "java/lang/IllegalStateException"
def jXC (E : jE) (xp : String → Wl → Prop) : String → State → State → Prop := vx_X (fun _ : Wl => True) (fun En u t => xp En u ∧ jR E u t.heap) (jA E)
def jRX (p : Program) (l : Launch) (e : Env) (R : Room) (s : State) (m : MethodId) (args : Array Value) (below : List Frame) (meth : Method) (c : Code) (E : jE) (xp : String → Wl → Prop) (mc ms : Nat) (Q : State → Prop) : Prop :=
  ∀ {H : Heap} {locs : List Loc} {cells slots pc : Nat} {ls : Array Slot} {rest : List Value} {En : String} {ce : Cell} {q : Addr} (u : Wl), jH E s.heap u H locs → H[q]? = some ce → ce.vm = .none → s.vm.findClass En = some ce.cls → cells ≤ mc → slots ≤ ms → xp En u → vx_W p l e R s m args below meth c H locs cells slots Q (F0 m pc ls rest) q
section JEXC
variable {p : Program} {l : Launch} {e : Env} {R : Room} {s : State} {m : MethodId} {args : Array Value} {below : List Frame} {meth : Method} {c : Code} {H : Heap} {locs : List Loc} {cells slots : Nat} {Q : State → Prop}
variable {cc : ByteArray} {pc : Nat} {ls : Array Slot} {rest : List Value} {E : jE} {w : Wl} {H0 : Heap} {mc ms : Nat}
theorem j_xout {Qc : Array Value → State → Outcome → State → Prop} {xp : String → Wl → Prop} (hnx : ∀ x ∈ c.exceptionTable.toList, False) (hlk : meth.locks = false) : jRX p l e R s m args below meth c E xp mc ms (vx_MQ below Qc (jXC E xp) args s mc ms (jA E)) := by
  intro H locs cells slots pc ls rest En ce q u hH hce hcv hcl h1 h2 hxp
  exact vx_out (fun x hx => (hnx x hx).elim) hlk hce hcv hcl (fun t ht _ => ⟨u, trivial, ⟨hxp, by rw [ht]; exact hH.1⟩, hH.2.F ht⟩) hH.2.2.2 h1 h2
/-- a method's head: it may throw -/
theorem j_xmet {y : MethodName} {code : ByteArray} {maxL : Nat} {ret : Option FieldType} {lev mc ms : Nat} {av : List Value} {Qc : Array Value → State → Outcome → State → Prop} {XC : String → State → State → Prop} (hy : plainName y.cls = true) (hlen : (lg_sl av).length ≤ maxL)
    (body : ∀ (p : Program) (e : Env) (s : State) (m : MethodId) (below : List Frame) (meth : Method) (c : Code), p.tables.exec = Jvm.exec → c.code = code → c.maxLocals = maxL → meth.sig.returnType = ret → meth.locks = false → s.vm.findClass y.cls = some m.cls → meth.name = y.name → (∀ w ∈ lw_all, w.before av.toArray s = true) → jV E s → jH E s.heap w s.heap [] → (∀ x ∈ c.exceptionTable.toList, False) → ∀ ls : Array Slot, lv_has ls maxL (lv_args 0 av) →
      W p l e (rmL lev mc ms) s m av.toArray below meth c s.heap [] 0 0 (vx_MQ below Qc XC av.toArray s mc ms (jA E)) (F0 m 0 ls [])) : vx_Met l y (ws_ y code maxL ret) (rmL lev mc ms) (va_Pc av (jP E w)) Qc XC mc ms (jA E) := by
  refine vx_ofW (cc := code) (maxL := maxL) (ret := ret) hy rfl ?_
  intro p e s m args below meth c s₁ B hml hnx hv
  obtain ⟨rfl, hV, hR⟩ := hv
  have hts := atoms_spec (ws := ws_ y code maxL ret) B.pre
  have hl := lv_entry av (n := maxL) hlen
  rw [lg_entry_eq]
  exact body p e s m below meth c B.exec B.bytes hml B.returns B.notSynchronized (findClass_of_methodNamed B.named) (name_of_methodNamed B.named B.method).1 (fun w h => hts w (List.mem_cons_of_mem _ h)) hV ⟨hR, va_S.rf⟩ hnx _ hl
/-- a method's head: it has handlers -/
theorem j_hmet {y : MethodName} {code : ByteArray} {maxL : Nat} {ret : Option FieldType} {hh : List (Nat × Nat × Nat × Nat)} {lev mc ms : Nat} {av : List Value} {Qc : Array Value → State → Outcome → State → Prop} {XC : String → State → State → Prop} (hy : plainName y.cls = true) (hlen : (lg_sl av).length ≤ maxL)
    (body : ∀ (p : Program) (e : Env) (s : State) (m : MethodId) (below : List Frame) (meth : Method) (c : Code), p.tables.exec = Jvm.exec → c.code = code → c.maxLocals = maxL → meth.sig.returnType = ret → meth.locks = false → s.vm.findClass y.cls = some m.cls → meth.name = y.name → (∀ w ∈ lw_all, w.before av.toArray s = true) → jV E s → jH E s.heap w s.heap [] → c.exceptionTable.toList = tableOf hh → ∀ ls : Array Slot, lv_has ls maxL (lv_args 0 av) →
      W p l e (rmL lev mc ms) s m av.toArray below meth c s.heap [] 0 0 (vx_MQ below Qc XC av.toArray s mc ms (jA E)) (F0 m 0 ls [])) : vx_Met l y (wsW_ y code maxL ret hh) (rmL lev mc ms) (va_Pc av (jP E w)) Qc XC mc ms (jA E) := by
  refine vx_ofWH (cc := code) (maxL := maxL) (ret := ret) (hh := hh) hy rfl ?_
  intro p e s m args below meth c s₁ B hml hv
  obtain ⟨rfl, hV, hR⟩ := hv
  have hts := atoms_spec (ws := wsW_ y code maxL ret hh) B.pre
  have hl := lv_entry av (n := maxL) hlen
  rw [lg_entry_eq]
  exact body p e s m below meth c B.exec B.bytes hml B.returns B.notSynchronized (findClass_of_methodNamed B.named) (name_of_methodNamed B.named B.method).1 (fun w h => hts w (List.mem_cons_of_mem _ h)) hV ⟨hR, va_S.rf⟩ (vx_table B (hts _ List.mem_cons_self)) _ hl

theorem j_xmetI {y : MethodName} {code : ByteArray} {maxL : Nat} {lev mc ms : Nat} {av : List Value} {S : Type} {P : S → Wl} {post : Int → S → Prop} {xp : String → Wl → Prop} (hy : plainName y.cls = true) (hlen : (lg_sl av).length ≤ maxL) (body : ∀ (p : Program) (e : Env) (s : State) (m : MethodId) (args : Array Value) (below : List Frame) (meth : Method) (c : Code) (Q : State → Prop), p.tables.exec = Jvm.exec → c.code = code → c.maxLocals = maxL → s.vm.findClass y.cls = some m.cls → meth.name = y.name → (∀ w ∈ lw_all, w.before args s = true) → jV E s → jH E s.heap w s.heap [] → jRI p l e (rmL lev mc ms) s m args below meth c code E P post mc ms Q → jRX p l e (rmL lev mc ms) s m args below meth c E xp mc ms Q → ∀ ls : Array Slot, lv_has ls maxL (lv_args 0 av) → W p l e (rmL lev mc ms) s m args below meth c s.heap [] 0 0 Q (F0 m 0 ls [])) : vx_Met l y (ws_ y code maxL (some .int)) (rmL lev mc ms) (va_Pc av (jP E w)) (jQi E P post) (jXC E xp) mc ms (jA E) := by
  refine j_xmet hy hlen ?_
  intro p e s m below meth c hx hb hml hr hlk hown hnm hts hV hH hnx ls hl
  refine body p e s m _ below meth c _ hx hb hml hown hnm hts hV hH ?_ (j_xout hnx hlk) ls hl
  intro H locs cells slots pc ls z u hH d h1 h2 hp
  exact vx_ret (j_iret u hx hb hr hlk hH d h1 h2 hp)

theorem j_hmetI {y : MethodName} {code : ByteArray} {maxL : Nat} {hh : List (Nat × Nat × Nat × Nat)} {lev mc ms : Nat} {av : List Value} {S : Type} {P : S → Wl} {post : Int → S → Prop} {xp : String → Wl → Prop} (hy : plainName y.cls = true) (hlen : (lg_sl av).length ≤ maxL) (body : ∀ (p : Program) (e : Env) (s : State) (m : MethodId) (args : Array Value) (below : List Frame) (meth : Method) (c : Code) (Q : State → Prop), p.tables.exec = Jvm.exec → c.code = code → c.maxLocals = maxL → s.vm.findClass y.cls = some m.cls → meth.name = y.name → (∀ w ∈ lw_all, w.before args s = true) → jV E s → jH E s.heap w s.heap [] → jRI p l e (rmL lev mc ms) s m args below meth c code E P post mc ms Q → c.exceptionTable.toList = tableOf hh → meth.locks = false → (∀ t : State, vx_MQ below (jQi E P post) (jXC E xp) args s mc ms (jA E) t → Q t) → ∀ ls : Array Slot, lv_has ls maxL (lv_args 0 av) → W p l e (rmL lev mc ms) s m args below meth c s.heap [] 0 0 Q (F0 m 0 ls [])) : vx_Met l y (wsW_ y code maxL (some .int) hh) (rmL lev mc ms) (va_Pc av (jP E w)) (jQi E P post) (jXC E xp) mc ms (jA E) := by
  refine j_hmet hy hlen ?_
  intro p e s m below meth c hx hb hml hr hlk hown hnm hts hV hH hnx ls hl
  refine body p e s m _ below meth c _ hx hb hml hown hnm hts hV hH ?_ hnx hlk (fun _ h => h) ls hl
  intro H locs cells slots pc ls z u hH d h1 h2 hp
  exact vx_ret (j_iret u hx hb hr hlk hH d h1 h2 hp)

theorem j_xmetZ {y : MethodName} {code : ByteArray} {maxL : Nat} {lev mc ms : Nat} {av : List Value} {S : Type} {P : S → Wl} {post : Int → S → Prop} {xp : String → Wl → Prop} (hy : plainName y.cls = true) (hlen : (lg_sl av).length ≤ maxL) (body : ∀ (p : Program) (e : Env) (s : State) (m : MethodId) (args : Array Value) (below : List Frame) (meth : Method) (c : Code) (Q : State → Prop), p.tables.exec = Jvm.exec → c.code = code → c.maxLocals = maxL → s.vm.findClass y.cls = some m.cls → meth.name = y.name → (∀ w ∈ lw_all, w.before args s = true) → jV E s → jH E s.heap w s.heap [] → jRZ p l e (rmL lev mc ms) s m args below meth c code E P post mc ms Q → jRX p l e (rmL lev mc ms) s m args below meth c E xp mc ms Q → ∀ ls : Array Slot, lv_has ls maxL (lv_args 0 av) → W p l e (rmL lev mc ms) s m args below meth c s.heap [] 0 0 Q (F0 m 0 ls [])) : vx_Met l y (ws_ y code maxL (some .boolean)) (rmL lev mc ms) (va_Pc av (jP E w)) (jQi E P post) (jXC E xp) mc ms (jA E) := by
  refine j_xmet hy hlen ?_
  intro p e s m below meth c hx hb hml hr hlk hown hnm hts hV hH hnx ls hl
  refine body p e s m _ below meth c _ hx hb hml hown hnm hts hV hH ?_ (j_xout hnx hlk) ls hl
  intro H locs cells slots pc ls z u hH d h1 h2 hz hp
  exact vx_ret (j_zret u hx hb hr hlk hH d h1 h2 hz hp)

theorem j_hmetZ {y : MethodName} {code : ByteArray} {maxL : Nat} {hh : List (Nat × Nat × Nat × Nat)} {lev mc ms : Nat} {av : List Value} {S : Type} {P : S → Wl} {post : Int → S → Prop} {xp : String → Wl → Prop} (hy : plainName y.cls = true) (hlen : (lg_sl av).length ≤ maxL) (body : ∀ (p : Program) (e : Env) (s : State) (m : MethodId) (args : Array Value) (below : List Frame) (meth : Method) (c : Code) (Q : State → Prop), p.tables.exec = Jvm.exec → c.code = code → c.maxLocals = maxL → s.vm.findClass y.cls = some m.cls → meth.name = y.name → (∀ w ∈ lw_all, w.before args s = true) → jV E s → jH E s.heap w s.heap [] → jRZ p l e (rmL lev mc ms) s m args below meth c code E P post mc ms Q → c.exceptionTable.toList = tableOf hh → meth.locks = false → (∀ t : State, vx_MQ below (jQi E P post) (jXC E xp) args s mc ms (jA E) t → Q t) → ∀ ls : Array Slot, lv_has ls maxL (lv_args 0 av) → W p l e (rmL lev mc ms) s m args below meth c s.heap [] 0 0 Q (F0 m 0 ls [])) : vx_Met l y (wsW_ y code maxL (some .boolean) hh) (rmL lev mc ms) (va_Pc av (jP E w)) (jQi E P post) (jXC E xp) mc ms (jA E) := by
  refine j_hmet hy hlen ?_
  intro p e s m below meth c hx hb hml hr hlk hown hnm hts hV hH hnx ls hl
  refine body p e s m _ below meth c _ hx hb hml hown hnm hts hV hH ?_ hnx hlk (fun _ h => h) ls hl
  intro H locs cells slots pc ls z u hH d h1 h2 hz hp
  exact vx_ret (j_zret u hx hb hr hlk hH d h1 h2 hz hp)

theorem j_xmetL {y : MethodName} {code : ByteArray} {maxL : Nat} {lev mc ms : Nat} {av : List Value} {S : Type} {P : S → Wl} {post : Int → S → Prop} {xp : String → Wl → Prop} (hy : plainName y.cls = true) (hlen : (lg_sl av).length ≤ maxL) (body : ∀ (p : Program) (e : Env) (s : State) (m : MethodId) (args : Array Value) (below : List Frame) (meth : Method) (c : Code) (Q : State → Prop), p.tables.exec = Jvm.exec → c.code = code → c.maxLocals = maxL → s.vm.findClass y.cls = some m.cls → meth.name = y.name → (∀ w ∈ lw_all, w.before args s = true) → jV E s → jH E s.heap w s.heap [] → jRL p l e (rmL lev mc ms) s m args below meth c code E P post mc ms Q → jRX p l e (rmL lev mc ms) s m args below meth c E xp mc ms Q → ∀ ls : Array Slot, lv_has ls maxL (lv_args 0 av) → W p l e (rmL lev mc ms) s m args below meth c s.heap [] 0 0 Q (F0 m 0 ls [])) : vx_Met l y (ws_ y code maxL (some .long)) (rmL lev mc ms) (va_Pc av (jP E w)) (jQl E P post) (jXC E xp) mc ms (jA E) := by
  refine j_xmet hy hlen ?_
  intro p e s m below meth c hx hb hml hr hlk hown hnm hts hV hH hnx ls hl
  refine body p e s m _ below meth c _ hx hb hml hown hnm hts hV hH ?_ (j_xout hnx hlk) ls hl
  intro H locs cells slots pc ls z u hH d h1 h2 hp
  exact vx_ret (j_lret u hx hb hr hlk hH d h1 h2 hp)

theorem j_hmetL {y : MethodName} {code : ByteArray} {maxL : Nat} {hh : List (Nat × Nat × Nat × Nat)} {lev mc ms : Nat} {av : List Value} {S : Type} {P : S → Wl} {post : Int → S → Prop} {xp : String → Wl → Prop} (hy : plainName y.cls = true) (hlen : (lg_sl av).length ≤ maxL) (body : ∀ (p : Program) (e : Env) (s : State) (m : MethodId) (args : Array Value) (below : List Frame) (meth : Method) (c : Code) (Q : State → Prop), p.tables.exec = Jvm.exec → c.code = code → c.maxLocals = maxL → s.vm.findClass y.cls = some m.cls → meth.name = y.name → (∀ w ∈ lw_all, w.before args s = true) → jV E s → jH E s.heap w s.heap [] → jRL p l e (rmL lev mc ms) s m args below meth c code E P post mc ms Q → c.exceptionTable.toList = tableOf hh → meth.locks = false → (∀ t : State, vx_MQ below (jQl E P post) (jXC E xp) args s mc ms (jA E) t → Q t) → ∀ ls : Array Slot, lv_has ls maxL (lv_args 0 av) → W p l e (rmL lev mc ms) s m args below meth c s.heap [] 0 0 Q (F0 m 0 ls [])) : vx_Met l y (wsW_ y code maxL (some .long) hh) (rmL lev mc ms) (va_Pc av (jP E w)) (jQl E P post) (jXC E xp) mc ms (jA E) := by
  refine j_hmet hy hlen ?_
  intro p e s m below meth c hx hb hml hr hlk hown hnm hts hV hH hnx ls hl
  refine body p e s m _ below meth c _ hx hb hml hown hnm hts hV hH ?_ hnx hlk (fun _ h => h) ls hl
  intro H locs cells slots pc ls z u hH d h1 h2 hp
  exact vx_ret (j_lret u hx hb hr hlk hH d h1 h2 hp)

theorem j_xmetD {y : MethodName} {code : ByteArray} {maxL : Nat} {lev mc ms : Nat} {av : List Value} {S : Type} {P : S → Wl} {post : UInt64 → S → Prop} {xp : String → Wl → Prop} (hy : plainName y.cls = true) (hlen : (lg_sl av).length ≤ maxL) (body : ∀ (p : Program) (e : Env) (s : State) (m : MethodId) (args : Array Value) (below : List Frame) (meth : Method) (c : Code) (Q : State → Prop), p.tables.exec = Jvm.exec → c.code = code → c.maxLocals = maxL → s.vm.findClass y.cls = some m.cls → meth.name = y.name → (∀ w ∈ lw_all, w.before args s = true) → jV E s → jH E s.heap w s.heap [] → jRD p l e (rmL lev mc ms) s m args below meth c code E P post mc ms Q → jRX p l e (rmL lev mc ms) s m args below meth c E xp mc ms Q → ∀ ls : Array Slot, lv_has ls maxL (lv_args 0 av) → W p l e (rmL lev mc ms) s m args below meth c s.heap [] 0 0 Q (F0 m 0 ls [])) : vx_Met l y (ws_ y code maxL (some .double)) (rmL lev mc ms) (va_Pc av (jP E w)) (jQd E P post) (jXC E xp) mc ms (jA E) := by
  refine j_xmet hy hlen ?_
  intro p e s m below meth c hx hb hml hr hlk hown hnm hts hV hH hnx ls hl
  refine body p e s m _ below meth c _ hx hb hml hown hnm hts hV hH ?_ (j_xout hnx hlk) ls hl
  intro H locs cells slots pc ls z u hH d h1 h2 hp
  exact vx_ret (j_dret u hx hb hr hlk hH d h1 h2 hp)

theorem j_hmetD {y : MethodName} {code : ByteArray} {maxL : Nat} {hh : List (Nat × Nat × Nat × Nat)} {lev mc ms : Nat} {av : List Value} {S : Type} {P : S → Wl} {post : UInt64 → S → Prop} {xp : String → Wl → Prop} (hy : plainName y.cls = true) (hlen : (lg_sl av).length ≤ maxL) (body : ∀ (p : Program) (e : Env) (s : State) (m : MethodId) (args : Array Value) (below : List Frame) (meth : Method) (c : Code) (Q : State → Prop), p.tables.exec = Jvm.exec → c.code = code → c.maxLocals = maxL → s.vm.findClass y.cls = some m.cls → meth.name = y.name → (∀ w ∈ lw_all, w.before args s = true) → jV E s → jH E s.heap w s.heap [] → jRD p l e (rmL lev mc ms) s m args below meth c code E P post mc ms Q → c.exceptionTable.toList = tableOf hh → meth.locks = false → (∀ t : State, vx_MQ below (jQd E P post) (jXC E xp) args s mc ms (jA E) t → Q t) → ∀ ls : Array Slot, lv_has ls maxL (lv_args 0 av) → W p l e (rmL lev mc ms) s m args below meth c s.heap [] 0 0 Q (F0 m 0 ls [])) : vx_Met l y (wsW_ y code maxL (some .double) hh) (rmL lev mc ms) (va_Pc av (jP E w)) (jQd E P post) (jXC E xp) mc ms (jA E) := by
  refine j_hmet hy hlen ?_
  intro p e s m below meth c hx hb hml hr hlk hown hnm hts hV hH hnx ls hl
  refine body p e s m _ below meth c _ hx hb hml hown hnm hts hV hH ?_ hnx hlk (fun _ h => h) ls hl
  intro H locs cells slots pc ls z u hH d h1 h2 hp
  exact vx_ret (j_dret u hx hb hr hlk hH d h1 h2 hp)

theorem j_xmetV {y : MethodName} {code : ByteArray} {maxL : Nat} {lev mc ms : Nat} {av : List Value} {S : Type} {P : S → Wl} {post : S → Prop} {xp : String → Wl → Prop} (hy : plainName y.cls = true) (hlen : (lg_sl av).length ≤ maxL) (body : ∀ (p : Program) (e : Env) (s : State) (m : MethodId) (args : Array Value) (below : List Frame) (meth : Method) (c : Code) (Q : State → Prop), p.tables.exec = Jvm.exec → c.code = code → c.maxLocals = maxL → s.vm.findClass y.cls = some m.cls → meth.name = y.name → (∀ w ∈ lw_all, w.before args s = true) → jV E s → jH E s.heap w s.heap [] → jRV p l e (rmL lev mc ms) s m args below meth c code E P post mc ms Q → jRX p l e (rmL lev mc ms) s m args below meth c E xp mc ms Q → ∀ ls : Array Slot, lv_has ls maxL (lv_args 0 av) → W p l e (rmL lev mc ms) s m args below meth c s.heap [] 0 0 Q (F0 m 0 ls [])) : vx_Met l y (ws_ y code maxL (none)) (rmL lev mc ms) (va_Pc av (jP E w)) (jQv E P post) (jXC E xp) mc ms (jA E) := by
  refine j_xmet hy hlen ?_
  intro p e s m below meth c hx hb hml hr hlk hown hnm hts hV hH hnx ls hl
  refine body p e s m _ below meth c _ hx hb hml hown hnm hts hV hH ?_ (j_xout hnx hlk) ls hl
  intro H locs cells slots pc ls u hH d h1 h2 hp
  exact vx_ret (j_vret u hx hb hr hlk hH d h1 h2 hp)

theorem j_hmetV {y : MethodName} {code : ByteArray} {maxL : Nat} {hh : List (Nat × Nat × Nat × Nat)} {lev mc ms : Nat} {av : List Value} {S : Type} {P : S → Wl} {post : S → Prop} {xp : String → Wl → Prop} (hy : plainName y.cls = true) (hlen : (lg_sl av).length ≤ maxL) (body : ∀ (p : Program) (e : Env) (s : State) (m : MethodId) (args : Array Value) (below : List Frame) (meth : Method) (c : Code) (Q : State → Prop), p.tables.exec = Jvm.exec → c.code = code → c.maxLocals = maxL → s.vm.findClass y.cls = some m.cls → meth.name = y.name → (∀ w ∈ lw_all, w.before args s = true) → jV E s → jH E s.heap w s.heap [] → jRV p l e (rmL lev mc ms) s m args below meth c code E P post mc ms Q → c.exceptionTable.toList = tableOf hh → meth.locks = false → (∀ t : State, vx_MQ below (jQv E P post) (jXC E xp) args s mc ms (jA E) t → Q t) → ∀ ls : Array Slot, lv_has ls maxL (lv_args 0 av) → W p l e (rmL lev mc ms) s m args below meth c s.heap [] 0 0 Q (F0 m 0 ls [])) : vx_Met l y (wsW_ y code maxL (none) hh) (rmL lev mc ms) (va_Pc av (jP E w)) (jQv E P post) (jXC E xp) mc ms (jA E) := by
  refine j_hmet hy hlen ?_
  intro p e s m below meth c hx hb hml hr hlk hown hnm hts hV hH hnx ls hl
  refine body p e s m _ below meth c _ hx hb hml hown hnm hts hV hH ?_ hnx hlk (fun _ h => h) ls hl
  intro H locs cells slots pc ls u hH d h1 h2 hp
  exact vx_ret (j_vret u hx hb hr hlk hH d h1 h2 hp)

theorem j_xmetQ {y : MethodName} {code : ByteArray} {maxL : Nat} {rt : FieldType} {lev mc ms : Nat} {av : List Value} {S : Type} {P : S → Wl} {post : Option Nat → S → Prop} {xp : String → Wl → Prop} (hy : plainName y.cls = true) (hlen : (lg_sl av).length ≤ maxL) (hrt : (∃ n, rt = .object n) ∨ ∃ t, rt = .array t) (body : ∀ (p : Program) (e : Env) (s : State) (m : MethodId) (args : Array Value) (below : List Frame) (meth : Method) (c : Code) (Q : State → Prop), p.tables.exec = Jvm.exec → c.code = code → c.maxLocals = maxL → s.vm.findClass y.cls = some m.cls → meth.name = y.name → (∀ w ∈ lw_all, w.before args s = true) → jV E s → jH E s.heap w s.heap [] → jRQ p l e (rmL lev mc ms) s m args below meth c code E P post mc ms Q → jRX p l e (rmL lev mc ms) s m args below meth c E xp mc ms Q → ∀ ls : Array Slot, lv_has ls maxL (lv_args 0 av) → W p l e (rmL lev mc ms) s m args below meth c s.heap [] 0 0 Q (F0 m 0 ls [])) : vx_Met l y (ws_ y code maxL (some rt)) (rmL lev mc ms) (va_Pc av (jP E w)) (jQq E P post) (jXC E xp) mc ms (jA E) := by
  refine j_xmet hy hlen ?_
  intro p e s m below meth c hx hb hml hr hlk hown hnm hts hV hH hnx ls hl
  refine body p e s m _ below meth c _ hx hb hml hown hnm hts hV hH ?_ (j_xout hnx hlk) ls hl
  intro H locs cells slots pc ls z u hH d h1 h2 hp
  exact vx_ret (j_aret u hx hb hr hrt hlk hH d h1 h2 hp)

theorem j_hmetQ {y : MethodName} {code : ByteArray} {maxL : Nat} {hh : List (Nat × Nat × Nat × Nat)} {rt : FieldType} {lev mc ms : Nat} {av : List Value} {S : Type} {P : S → Wl} {post : Option Nat → S → Prop} {xp : String → Wl → Prop} (hy : plainName y.cls = true) (hlen : (lg_sl av).length ≤ maxL) (hrt : (∃ n, rt = .object n) ∨ ∃ t, rt = .array t) (body : ∀ (p : Program) (e : Env) (s : State) (m : MethodId) (args : Array Value) (below : List Frame) (meth : Method) (c : Code) (Q : State → Prop), p.tables.exec = Jvm.exec → c.code = code → c.maxLocals = maxL → s.vm.findClass y.cls = some m.cls → meth.name = y.name → (∀ w ∈ lw_all, w.before args s = true) → jV E s → jH E s.heap w s.heap [] → jRQ p l e (rmL lev mc ms) s m args below meth c code E P post mc ms Q → c.exceptionTable.toList = tableOf hh → meth.locks = false → (∀ t : State, vx_MQ below (jQq E P post) (jXC E xp) args s mc ms (jA E) t → Q t) → ∀ ls : Array Slot, lv_has ls maxL (lv_args 0 av) → W p l e (rmL lev mc ms) s m args below meth c s.heap [] 0 0 Q (F0 m 0 ls [])) : vx_Met l y (wsW_ y code maxL (some rt) hh) (rmL lev mc ms) (va_Pc av (jP E w)) (jQq E P post) (jXC E xp) mc ms (jA E) := by
  refine j_hmet hy hlen ?_
  intro p e s m below meth c hx hb hml hr hlk hown hnm hts hV hH hnx ls hl
  refine body p e s m _ below meth c _ hx hb hml hown hnm hts hV hH ?_ hnx hlk (fun _ h => h) ls hl
  intro H locs cells slots pc ls z u hH d h1 h2 hp
  exact vx_ret (j_aret u hx hb hr hrt hlk hH d h1 h2 hp)

theorem j_xcalli {S : Type} {P : S → Wl} {post : Int → S → Prop} {xp : String → Wl → Prop} {a : Array Value} {st0 : List Value} (hr : vx_Run p l e R s m args below meth c H locs cells slots mc ms (F0 m pc ls st0) rest (jQi E P post a) (jXC E xp) (jA E)) (hH : jH E s.heap w H locs)
    (kx : ∀ (En : String) (ce : Cell) (q9 : Addr) (u : Wl) (H1 : Heap) (locs1 : List Loc), xp En u → jH E s.heap u H1 locs1 → H1[q9]? = some ce → ce.vm = .none → s.vm.findClass En = some ce.cls → vx_W p l e R s m args below meth c H1 locs1 (cells + mc) (slots + ms) Q (F0 m pc ls rest) q9)
    (kk : ∀ (z : Int) (u : S) (H1 : Heap) (locs1 : List Loc), post z u → jH E s.heap (P u) H1 locs1 → W p l e R s m args below meth c H1 locs1 (cells + mc) (slots + ms) Q (F0 m (pc + 3) ls (.int (iI z) :: rest))) : W p l e R s m args below meth c H locs cells slots Q (F0 m pc ls st0) := vx_calli hr hH.2 (fun q _ h => h) (fun q h => h) (fun q _ h => h) (fun En ce q9 u t H1 locs1 ht _ _ hB _ _ hS h1 h2 h3 => kx En ce q9 u H1 locs1 hB.1 ⟨by rw [← ht]; exact hB.2, hS⟩ h1 h2 h3) (fun r u t H1 locs1 ht _ hp hB _ _ hS => by
    obtain ⟨z, rfl, hz⟩ := hp
    exact kk z u H1 locs1 hz ⟨by rw [← ht]; exact hB, hS⟩)

theorem j_xcalll {S : Type} {P : S → Wl} {post : Int → S → Prop} {xp : String → Wl → Prop} {a : Array Value} {st0 : List Value} (hr : vx_Run p l e R s m args below meth c H locs cells slots mc ms (F0 m pc ls st0) rest (jQl E P post a) (jXC E xp) (jA E)) (hH : jH E s.heap w H locs)
    (kx : ∀ (En : String) (ce : Cell) (q9 : Addr) (u : Wl) (H1 : Heap) (locs1 : List Loc), xp En u → jH E s.heap u H1 locs1 → H1[q9]? = some ce → ce.vm = .none → s.vm.findClass En = some ce.cls → vx_W p l e R s m args below meth c H1 locs1 (cells + mc) (slots + ms) Q (F0 m pc ls rest) q9)
    (kk : ∀ (z : Int) (u : S) (H1 : Heap) (locs1 : List Loc), post z u → jH E s.heap (P u) H1 locs1 → W p l e R s m args below meth c H1 locs1 (cells + mc) (slots + ms) Q (F0 m (pc + 3) ls (.long (lL z) :: rest))) : W p l e R s m args below meth c H locs cells slots Q (F0 m pc ls st0) := vx_calll hr hH.2 (fun q _ h => h) (fun q h => h) (fun q _ h => h) (fun En ce q9 u t H1 locs1 ht _ _ hB _ _ hS h1 h2 h3 => kx En ce q9 u H1 locs1 hB.1 ⟨by rw [← ht]; exact hB.2, hS⟩ h1 h2 h3) (fun r u t H1 locs1 ht _ hp hB _ _ hS => by
    obtain ⟨z, rfl, hz⟩ := hp
    exact kk z u H1 locs1 hz ⟨by rw [← ht]; exact hB, hS⟩)

theorem j_xcalld {S : Type} {P : S → Wl} {post : UInt64 → S → Prop} {xp : String → Wl → Prop} {a : Array Value} {st0 : List Value} (hr : vx_Run p l e R s m args below meth c H locs cells slots mc ms (F0 m pc ls st0) rest (jQd E P post a) (jXC E xp) (jA E)) (hH : jH E s.heap w H locs)
    (kx : ∀ (En : String) (ce : Cell) (q9 : Addr) (u : Wl) (H1 : Heap) (locs1 : List Loc), xp En u → jH E s.heap u H1 locs1 → H1[q9]? = some ce → ce.vm = .none → s.vm.findClass En = some ce.cls → vx_W p l e R s m args below meth c H1 locs1 (cells + mc) (slots + ms) Q (F0 m pc ls rest) q9)
    (kk : ∀ (z : UInt64) (u : S) (H1 : Heap) (locs1 : List Loc), post z u → jH E s.heap (P u) H1 locs1 → W p l e R s m args below meth c H1 locs1 (cells + mc) (slots + ms) Q (F0 m (pc + 3) ls (.double z :: rest))) : W p l e R s m args below meth c H locs cells slots Q (F0 m pc ls st0) := vx_calld hr hH.2 (fun q _ h => h) (fun q h => h) (fun q _ h => h) (fun En ce q9 u t H1 locs1 ht _ _ hB _ _ hS h1 h2 h3 => kx En ce q9 u H1 locs1 hB.1 ⟨by rw [← ht]; exact hB.2, hS⟩ h1 h2 h3) (fun r u t H1 locs1 ht _ hp hB _ _ hS => kk r u H1 locs1 hp ⟨by rw [← ht]; exact hB, hS⟩)

theorem j_xcallv {S : Type} {P : S → Wl} {post : S → Prop} {xp : String → Wl → Prop} {a : Array Value} {st0 : List Value} (hr : vx_Run p l e R s m args below meth c H locs cells slots mc ms (F0 m pc ls st0) rest (jQv E P post a) (jXC E xp) (jA E)) (hH : jH E s.heap w H locs)
    (kx : ∀ (En : String) (ce : Cell) (q9 : Addr) (u : Wl) (H1 : Heap) (locs1 : List Loc), xp En u → jH E s.heap u H1 locs1 → H1[q9]? = some ce → ce.vm = .none → s.vm.findClass En = some ce.cls → vx_W p l e R s m args below meth c H1 locs1 (cells + mc) (slots + ms) Q (F0 m pc ls rest) q9)
    (kk : ∀ (u : S) (H1 : Heap) (locs1 : List Loc), post u → jH E s.heap (P u) H1 locs1 → W p l e R s m args below meth c H1 locs1 (cells + mc) (slots + ms) Q (F0 m (pc + 3) ls (rest))) : W p l e R s m args below meth c H locs cells slots Q (F0 m pc ls st0) := vx_callv hr hH.2 (fun q _ h => h) (fun q h => h) (fun q _ h => h) (fun En ce q9 u t H1 locs1 ht _ _ hB _ _ hS h1 h2 h3 => kx En ce q9 u H1 locs1 hB.1 ⟨by rw [← ht]; exact hB.2, hS⟩ h1 h2 h3) (fun u t H1 locs1 ht _ hp hB _ _ hS => kk u H1 locs1 hp ⟨by rw [← ht]; exact hB, hS⟩)

theorem j_xcallq {S : Type} {P : S → Wl} {post : Option Nat → S → Prop} {xp : String → Wl → Prop} {a : Array Value} {st0 : List Value} (hr : vx_Run p l e R s m args below meth c H locs cells slots mc ms (F0 m pc ls st0) rest (jQq E P post a) (jXC E xp) (jA E)) (hH : jH E s.heap w H locs)
    (kx : ∀ (En : String) (ce : Cell) (q9 : Addr) (u : Wl) (H1 : Heap) (locs1 : List Loc), xp En u → jH E s.heap u H1 locs1 → H1[q9]? = some ce → ce.vm = .none → s.vm.findClass En = some ce.cls → vx_W p l e R s m args below meth c H1 locs1 (cells + mc) (slots + ms) Q (F0 m pc ls rest) q9)
    (kk : ∀ (z : Option Nat) (u : S) (H1 : Heap) (locs1 : List Loc), post z u → jH E s.heap (P u) H1 locs1 → W p l e R s m args below meth c H1 locs1 (cells + mc) (slots + ms) Q (F0 m (pc + 3) ls (va_rf z :: rest))) : W p l e R s m args below meth c H locs cells slots Q (F0 m pc ls st0) := by
  intro T hT X
  rcases hr T hT X with ⟨v, st₀, t, T', L, h0, X', hL, e1, e2, ⟨⟨r, u, hv, hp, hb⟩, hF⟩, st⟩ | ⟨q, st₀, t, T', L, En, ce, h0, X', hL, e1, e2, ⟨u, -, hb, hF⟩, hce, hcv, hcl, st⟩
  · cases hv
    obtain ⟨k1, k2, k3⟩ := vx_keep h0 e1 hH.2 (fun _ _ h => h) (fun _ h => h) hL hF
    obtain ⟨t2, a1, b1⟩ := kk r u T'.heap (locs ++ L) hp ⟨by rw [e1]; exact hb, k3⟩ T' rfl X'
    exact ⟨t2, st t2 a1, b1⟩
  · obtain ⟨k1, k2, k3⟩ := vx_keep h0 e1 hH.2 (fun _ _ h => h) (fun _ h => h) hL hF
    obtain ⟨t2, a1, b1⟩ := kx En ce q u T'.heap (locs ++ L) hb.1 ⟨by rw [e1]; exact hb.2, k3⟩ (by rw [e1]; exact hce) hcv hcl T' rfl X'
    exact ⟨t2, st.trans a1, b1⟩


/-- 'throw new E(text)', the text in local 1: new; dup; aload_1; invokespecial; athrow -/
theorem j_throwL {Qc : Array Value → State → Outcome → State → Prop} {XC : String → State → State → Prop} {free : Addr → Prop} (hexec : p.tables.exec = Jvm.exec) (hb : c.code = cc) (hl : l.stackTraces = false) {own cls : String} {names : List String} {ik ic sa : Nat} {A : Nat → Prop}
    (hown : s.vm.findClass own = some m.cls) (hcls : Bundle.fit cls = true) (hnames : ∀ n ∈ names, Bundle.fit n = true)
    (hk : (Cond.classLink own ik cls).before args s = true) (hini : (Cond.initialized cls).before args s = true) (hls : ls[1]? = some (.val (.ref sa))) (hat : ∀ w ∈ vx_atS own ic cls names, w.before args s = true)
    (hgood : ∀ w ∈ Cond.classLink own ik cls :: Cond.initialized cls :: vx_atS own ic cls names, vx_ot w = true)
    (hU : vx_Zq Bundle.tN "UNASSIGNED_STACK" Bundle.steD A s s.heap) (hN : vx_Zq Bundle.tN "SUPPRESSED_SENTINEL" Bundle.listD A s s.heap) (hS : va_S A s.heap H locs) (hsize : ls.size = c.maxLocals)
    (d0 : decode cc pc = .ok (.new ik, 3)) (d3 : decode cc (pc + 3) = .ok (.dup, 1)) (d4 : decode cc (pc + 4) = .ok (.aload_n 1, 1)) (d6 : decode cc (pc + 5) = .ok (.invokespecial ic, 3)) (d9 : decode cc (pc + 8) = .ok (.athrow, 1))
    (hout : ∀ x ∈ c.exceptionTable.toList, covers x (pc + 8) = false)
    (hRframes : names.length + 3 < R.frames) (hRlocals : (rest.map fun v => v.category).sum + (13 * (names.length + 1) + 43) ≤ R.locals) (hRcells : cells + 1 ≤ R.cells) (hRslots : slots + 6 ≤ R.slots) (hlocks : meth.locks = false)
    (hx : ∀ t : State, s.vm.Alike t.vm → H.size ≤ t.heap.size → (∀ q : Nat, q < H.size → t.heap[q]? = H[q]?) → XC cls s t)
    (hf : ∀ z ∈ locs, free z.base) (hc : cells + 1 ≤ mc) (hs : slots + 6 ≤ ms) :
    W p l e R s m args below meth c H locs cells slots (vx_MQ below Qc XC args s mc ms free) (F0 m pc ls rest) := by
  intro T hT X
  have htr : e.platform.stackTraces = false := (show e.platform.stackTraces = l.stackTraces by rw [X.admits.platform]).trans hl
  have Y := vx_rebase X (R' := { frames := R.frames, locals := R.locals, cells := 1, slots := 6 }) (Nat.le_refl _) (Nat.le_refl _) hRcells hRslots
  obtain ⟨s', hA⟩ : ∃ z, z = (T.setVm s.vm).setFrames (.invoking m args :: below) := ⟨_, rfl⟩
  rw [← hA] at Y
  have hvm : s'.vm = s.vm := by rw [hA]; rfl
  have hhp : s'.heap = H := by rw [hA]; exact hT
  have hW0 : s.WarmedH s'.vm := by rw [hvm]; exact State.WarmedH.refl s
  have hat' : ∀ w ∈ vx_atS own ic cls names, w.before args s' = true := fun w hw => vx_ot_at hW0 hvm.symm (hgood w (List.mem_cons_of_mem _ (List.mem_cons_of_mem _ hw))) (hat w hw)
  have hk' : (Cond.classLink own ik cls).before args s' = true := vx_ot_at hW0 hvm.symm (hgood _ List.mem_cons_self) hk
  have hini' : (Cond.initialized cls).before args s' = true := vx_ot_at hW0 hvm.symm (hgood _ (List.mem_cons_of_mem _ List.mem_cons_self)) hini
  have hU' : vx_Zq Bundle.tN "UNASSIGNED_STACK" Bundle.steD A s' s'.heap := by rw [hhp]; exact vx_Zq.moved hW0.alike (hU.kept hS.2.1)
  have hN' : vx_Zq Bundle.tN "SUPPRESSED_SENTINEL" Bundle.listD A s' s'.heap := by rw [hhp]; exact vx_Zq.moved hW0.alike (hN.kept hS.2.1)
  have h : ∀ w ∈ Bundle.ownAtoms own ic cls names, w.before args s' = true := vx_own hat' (vx_isRefq hU'.1) (vx_isRefq hN'.1) hU'.2.word hN'.2.word
  have hown' : s'.vm.findClass own = some m.cls := by rw [hvm]; exact hown
  have hins : (Cond.instantiable cls 6).before args s' = true := h _ (by simp [Bundle.ownAtoms])
  obtain ⟨vm₁, cX, kX, hfX, hkX, -, -, X₁, st1⟩ := Y.newCold hexec (own := own) (C := cls) (index := ik) (n := 6) hown' hk' hins hini'
    (g := F0 m pc ls rest) rfl (by rw [hb]; exact d0) (Nat.le_refl _) (Nat.le_refl _)
  generalize hT1 : (T.setVm vm₁).pushCell { cls := cX, slots := kX.instanceTypes.map defaultValue, vm := .none } = T1 at X₁ st1
  have hcat : (Value.ref T.heap.size).category = 1 := rfl
  have hcellA : T1.heap[T.heap.size]? = some (freshCell cX kX) := by rw [← hT1]; exact State.heap_pushCell_size _ _
  have d3' : decode c.code (pc + 3) = .ok (.dup, 1) := by rw [hb]; exact d3
  have d4' : decode c.code (pc + 4) = .ok (.aload_n 1, 1) := by rw [hb]; exact d4
  obtain ⟨U, hsteps, hrun, hend, hW, hsame, ce, hce, hO⟩ := X₁.ctorThrowS hexec htr (own := own) (cls := cls) (names := names) (ic := ic) hown' hcls hnames h (fun x hx => nomatch hx) hfX hkX hcellA (by rw [hhp, hT]; exact Nat.le_refl _) (msg := .ref sa) rfl
    (g := { method := m, pc := pc + 5, locals := ls, stack := .ref sa :: .ref T.heap.size :: .ref T.heap.size :: rest, locked := none }) rfl hsize rfl rfl (rest := rest) rfl
    (by rw [hb]; exact d6) (by rw [hb]; exact d9) hout hRframes (by simp only [List.map_cons, List.sum_cons, hcat]; omega) hlocks
  obtain ⟨f1, f2⟩ := vx_frame hsame
  rw [hhp] at f1 f2
  have hWs : s.WarmedH U.vm := State.WarmedH.trans hW0 hW
  have hcl : s.vm.findClass cls = some ce.cls := by
    have h9 := hO.cls
    rw [hvm] at h9
    exact h9
  have hall : s.sameButNew ({ U with vm := s.vm } : State) locs mc ms := by
    subst hA
    obtain ⟨e1, e2⟩ := hsame
    rw [State.setFrames_setFrames] at e1
    have h2 : (T.setVm s.vm).sameButNew ({ U with vm := s.vm } : State) [] (0 + 1) (0 + 6) := ⟨e1, e2⟩
    have h3 := X.same.trans h2
    rw [List.append_nil] at h3
    exact h3.mono hc hs
  refine ⟨U, ?_, .threw T.heap.size, hrun, hend, Or.inr ⟨T.heap.size, rfl, cls, ce, locs, hx U hWs.alike f1 (fun q hq => f2 q hq (fun z hz => nomatch hz)), hce, hO.vm, hcl, hWs, hall, hf⟩⟩
  refine st1 _ ?_
  show Steps p.tables e below (T1.setTop { method := m, pc := pc + 3, locals := ls, stack := .ref T.heap.size :: rest, locked := none }) _
  jvm_step X₁.here [X₁.here.top, hexec, d3', Value.category]
  jvm_step X₁.here [X₁.here.top, hexec, d4', hls, Value.isRef]
  exact hsteps
end JEXC
theorem vx_Met.pure {l : Launch} {E : jE} {y : MethodName} {ws : List Cond} {rm : Room} {Pc : Array Value → State → Prop} {Qc : Array Value → State → Outcome → State → Prop} {xp : String → Wl → Prop} {mc ms : Nat} {free : Addr → Prop} (h : vx_Met l y ws rm Pc Qc (jXC E xp) mc ms free) (hno : ∀ (En : String) (u : Wl), ¬ xp En u) : Met l y ws rm Pc Qc mc ms free := by
  intro p e ha hf hc s m args below hfr hap hP hK
  obtain ⟨n, o, h1, h2, h3, h4⟩ := h p e ha hf hc s m args below hfr hap hP hK
  refine ⟨n, o, h1, h2, h3, ?_⟩
  rcases h4 with h4 | ⟨q, -, En, ce, L, ⟨u, -, hb, -⟩, -⟩
  · exact h4
  · exact absurd hb.1 (hno _ _)
theorem vx_Met.imp {l : Launch} {y : MethodName} {ws : List Cond} {rm : Room} {Pc : Array Value → State → Prop} {Qc Qc' : Array Value → State → Outcome → State → Prop} {XC XC' : String → State → State → Prop} {mc ms : Nat} {free : Addr → Prop} (h : vx_Met l y ws rm Pc Qc XC mc ms free) (h1 : ∀ a st o t, Qc a st o t → Qc' a st o t) (h2 : ∀ En st t, XC En st t → XC' En st t) : vx_Met l y ws rm Pc Qc' XC' mc ms free := by
  intro p e ha hf hc s m args below hfr hap hP hK
  obtain ⟨n, o, k1, k2, k3, k4⟩ := h p e ha hf hc s m args below hfr hap hP hK
  refine ⟨n, o, k1, k2, k3, ?_⟩
  rcases k4 with k4 | ⟨q, k4, En, ce, L, k5, k6⟩
  · exact Or.inl ⟨h1 _ _ _ _ k4.1, k4.2⟩
  · exact Or.inr ⟨q, k4, En, ce, L, h2 _ _ _ k5, k6⟩

theorem xw_I {E : jE} {s : State} {args : Array Value} (hts : ∀ w ∈ lw_all, w.before args s = true) (hV : jV E s) : ∀ w ∈ vx_atS "EyeStage" 3 "java/lang/IndexOutOfBoundsException" ["java/lang/RuntimeException", "java/lang/Exception"], w.before args s = true := by
  intro w hw
  obtain ⟨hw, hno⟩ := List.mem_filter.mp hw
  simp only [Bundle.ownAtoms, Bundle.throwableAtoms, Bundle.throwableSAtoms, Bundle.chainSAtoms, Bundle.passSAtoms, List.mem_append, List.mem_cons, List.not_mem_nil, or_false, or_assoc] at hw
  rcases hw with rfl | rfl | rfl | rfl | rfl | rfl | rfl | rfl | rfl | rfl | rfl | rfl | rfl | rfl | rfl | rfl | rfl | rfl | rfl | rfl | rfl | rfl | rfl | rfl | rfl | rfl | rfl | rfl | rfl | rfl | rfl | rfl | rfl | rfl | rfl | rfl | rfl | rfl | rfl | rfl | rfl | rfl | rfl | rfl | rfl | rfl | rfl | rfl | rfl | rfl | rfl | rfl | rfl | rfl | rfl | rfl | rfl
  · exact hts _ q117
  · exact hts _ q585
  · exact hts _ q594
  · exact hts _ q600
  · exact hts _ q603
  · exact hts _ q605
  · exact hts _ q586
  · exact hts _ q587
  · exact hts _ q158
  · exact hts _ q159
  · exact hts _ q588
  · exact hts _ q593
  · exact hts _ q601
  · exact hts _ q836
  · exact hts _ q575
  · exact hts _ q837
  · exact hts _ q577
  · exact hts _ q838
  · exact hts _ q579
  · exact hts _ q589
  · exact absurd hno (by decide)
  · exact hts _ q591
  · exact absurd hno (by decide)
  · exact hts _ q581
  · exact hts _ q832
  · exact hts _ q833
  · exact hts _ q835
  · exact hts _ q581
  · exact hts _ q874
  · exact hts _ q875
  · exact hts _ q876
  · exact hts _ q826
  · exact va_Nw.use rfl (hV.2.1 _ q567 rfl)
  · exact hts _ q826
  · exact hts _ q827
  · exact hts _ q828
  · exact hts _ q829
  · exact va_Nw.use rfl (hV.2.1 _ q569 rfl)
  · exact hts _ q829
  · exact hts _ q830
  · exact hts _ q831
  · exact hts _ q832
  · exact va_Nw.use rfl (hV.2.1 _ q571 rfl)
  · exact hts _ q1268
  · exact hts _ q564
  · exact va_Nw.use rfl (hV.2.1 _ q565 rfl)
  · exact hts _ q572
  · exact hts _ q573
  · exact hts _ q574
  · exact hts _ q576
  · exact hts _ q578
  · exact hts _ q580
  · exact absurd hno (by decide)
  · exact absurd hno (by decide)
  · exact hts _ q584
  · exact hts _ q583
  · exact hts _ q582

theorem xg_I : ∀ w ∈ Cond.classLink "EyeStage" 1 "java/lang/IndexOutOfBoundsException" :: Cond.initialized "java/lang/IndexOutOfBoundsException" :: vx_atS "EyeStage" 3 "java/lang/IndexOutOfBoundsException" ["java/lang/RuntimeException", "java/lang/Exception"], vx_ot w = true := List.all_eq_true.mp (by decide +kernel)
theorem m_X1_requireIndex_x {E : jE} (l : Launch) (w : Wl) (ms : Nat) (h0 : l.stackTraces = false) : vx_Met l yX1_requireIndex (ws_ yX1_requireIndex cX1_requireIndex 2 none) (rmL 5 1 6) (va_Pc [.int (iI 0), .ref ms] (jP E w)) (jQv E (fun u : Wl => u) (fun _ => False)) (jXC E (fun En u => En = xI ∧ u = w)) 1 6 (jA E) := by
  refine j_xmet (by decide) (Nat.le_of_ble_eq_true rfl) ?_
  intro p e s m below meth c hx hb hml hr hlk hown hnm hts hV hH hnx ls hl
  have hl : lv_has ls 2 [(0, .int (iI 0)), (1, .ref ms)] := hl
  refine j_iload_n hx hb dX1_requireIndex_0 rfl (lv_at hl 0 rfl) ?_
  refine j_if_ne (tgt := 13) hx hb dX1_requireIndex_1 (by decide) (by omega) (fun c1 => ?_) (fun c1 => ?_)
  · exact absurd rfl c1
  · refine j_throwL hx hb h0 (own := "EyeStage") (cls := "java/lang/IndexOutOfBoundsException") (names := ["java/lang/RuntimeException", "java/lang/Exception"]) hown (by decide +kernel) (by decide +kernel) (hts _ q1267) (hts _ q125) (lv_at hl 1 rfl) (xw_I hts hV) xg_I (A := jA E) ?_ ?_ hH.2 (hl.1.trans hml.symm) dX1_requireIndex_4 dX1_requireIndex_7 dX1_requireIndex_8 dX1_requireIndex_9 dX1_requireIndex_12 (fun x hx => (hnx x hx).elim) (Nat.le_of_ble_eq_true rfl) (Nat.le_of_ble_eq_true rfl) (Nat.le_of_ble_eq_true rfl) (Nat.le_of_ble_eq_true rfl) hlk ?_ hH.2.2.2 (Nat.le_of_ble_eq_true rfl) (Nat.le_of_ble_eq_true rfl)
    · exact hV.2.2.2.2.2.2.2.1.1.kept (fun a ha hn => hH.1.2.2 a ha)
    · exact hV.2.2.2.2.2.2.2.1.2.kept (fun a ha hn => hH.1.2.2 a ha)
    · intro t _ hz hk
      refine ⟨w, trivial, ⟨⟨rfl, rfl⟩, ?_⟩, ⟨hz, fun q hq _ => hk q hq⟩⟩
      refine ⟨fun a t9 e9 h9 => ⟨?_, (hH.1.1 a t9 e9 h9).2⟩, Nat.le_trans hH.1.2.1 hz, fun q hq => by rw [hk q (Nat.lt_of_lt_of_le hq hH.1.2.1)]; exact hH.1.2.2 q hq⟩
      exact (hH.1.1 a t9 e9 h9).1.kept (hk a (hH.1.1 a t9 e9 h9).1.lt)

theorem xw_A {E : jE} {s : State} {args : Array Value} (hts : ∀ w ∈ lw_all, w.before args s = true) (hV : jV E s) : ∀ w ∈ vx_atS "EyeStage" 9 "java/lang/IllegalArgumentException" ["java/lang/RuntimeException", "java/lang/Exception"], w.before args s = true := by
  intro w hw
  obtain ⟨hw, hno⟩ := List.mem_filter.mp hw
  simp only [Bundle.ownAtoms, Bundle.throwableAtoms, Bundle.throwableSAtoms, Bundle.chainSAtoms, Bundle.passSAtoms, List.mem_append, List.mem_cons, List.not_mem_nil, or_false, or_assoc] at hw
  rcases hw with rfl | rfl | rfl | rfl | rfl | rfl | rfl | rfl | rfl | rfl | rfl | rfl | rfl | rfl | rfl | rfl | rfl | rfl | rfl | rfl | rfl | rfl | rfl | rfl | rfl | rfl | rfl | rfl | rfl | rfl | rfl | rfl | rfl | rfl | rfl | rfl | rfl | rfl | rfl | rfl | rfl | rfl | rfl | rfl | rfl | rfl | rfl | rfl | rfl | rfl | rfl | rfl | rfl | rfl | rfl | rfl | rfl
  · exact hts _ q117
  · exact hts _ q585
  · exact hts _ q594
  · exact hts _ q600
  · exact hts _ q603
  · exact hts _ q605
  · exact hts _ q586
  · exact hts _ q587
  · exact hts _ q158
  · exact hts _ q159
  · exact hts _ q588
  · exact hts _ q593
  · exact hts _ q601
  · exact hts _ q836
  · exact hts _ q575
  · exact hts _ q837
  · exact hts _ q577
  · exact hts _ q838
  · exact hts _ q579
  · exact hts _ q589
  · exact absurd hno (by decide)
  · exact hts _ q591
  · exact absurd hno (by decide)
  · exact hts _ q581
  · exact hts _ q832
  · exact hts _ q833
  · exact hts _ q835
  · exact hts _ q581
  · exact hts _ q823
  · exact hts _ q824
  · exact hts _ q825
  · exact hts _ q826
  · exact va_Nw.use rfl (hV.2.1 _ q567 rfl)
  · exact hts _ q826
  · exact hts _ q827
  · exact hts _ q828
  · exact hts _ q829
  · exact va_Nw.use rfl (hV.2.1 _ q569 rfl)
  · exact hts _ q829
  · exact hts _ q830
  · exact hts _ q831
  · exact hts _ q832
  · exact va_Nw.use rfl (hV.2.1 _ q571 rfl)
  · exact hts _ q1240
  · exact hts _ q808
  · exact va_Nw.use rfl (hV.2.1 _ q809 rfl)
  · exact hts _ q810
  · exact hts _ q597
  · exact hts _ q811
  · exact hts _ q812
  · exact hts _ q813
  · exact hts _ q814
  · exact absurd hno (by decide)
  · exact absurd hno (by decide)
  · exact hts _ q584
  · exact hts _ q583
  · exact hts _ q815

theorem xg_A : ∀ w ∈ Cond.classLink "EyeStage" 7 "java/lang/IllegalArgumentException" :: Cond.initialized "java/lang/IllegalArgumentException" :: vx_atS "EyeStage" 9 "java/lang/IllegalArgumentException" ["java/lang/RuntimeException", "java/lang/Exception"], vx_ot w = true := List.all_eq_true.mp (by decide +kernel)
theorem m_X1_requireArgument_x {E : jE} (l : Launch) (w : Wl) (ms : Nat) (h0 : l.stackTraces = false) : vx_Met l yX1_requireArgument (ws_ yX1_requireArgument cX1_requireArgument 2 none) (rmL 5 1 6) (va_Pc [.int (iI 0), .ref ms] (jP E w)) (jQv E (fun u : Wl => u) (fun _ => False)) (jXC E (fun En u => En = xA ∧ u = w)) 1 6 (jA E) := by
  refine j_xmet (by decide) (Nat.le_of_ble_eq_true rfl) ?_
  intro p e s m below meth c hx hb hml hr hlk hown hnm hts hV hH hnx ls hl
  have hl : lv_has ls 2 [(0, .int (iI 0)), (1, .ref ms)] := hl
  refine j_iload_n hx hb dX1_requireArgument_0 rfl (lv_at hl 0 rfl) ?_
  refine j_if_ne (tgt := 13) hx hb dX1_requireArgument_1 (by decide) (by omega) (fun c1 => ?_) (fun c1 => ?_)
  · exact absurd rfl c1
  · refine j_throwL hx hb h0 (own := "EyeStage") (cls := "java/lang/IllegalArgumentException") (names := ["java/lang/RuntimeException", "java/lang/Exception"]) hown (by decide +kernel) (by decide +kernel) (hts _ q1239) (hts _ q120) (lv_at hl 1 rfl) (xw_A hts hV) xg_A (A := jA E) ?_ ?_ hH.2 (hl.1.trans hml.symm) dX1_requireArgument_4 dX1_requireArgument_7 dX1_requireArgument_8 dX1_requireArgument_9 dX1_requireArgument_12 (fun x hx => (hnx x hx).elim) (Nat.le_of_ble_eq_true rfl) (Nat.le_of_ble_eq_true rfl) (Nat.le_of_ble_eq_true rfl) (Nat.le_of_ble_eq_true rfl) hlk ?_ hH.2.2.2 (Nat.le_of_ble_eq_true rfl) (Nat.le_of_ble_eq_true rfl)
    · exact hV.2.2.2.2.2.2.2.1.1.kept (fun a ha hn => hH.1.2.2 a ha)
    · exact hV.2.2.2.2.2.2.2.1.2.kept (fun a ha hn => hH.1.2.2 a ha)
    · intro t _ hz hk
      refine ⟨w, trivial, ⟨⟨rfl, rfl⟩, ?_⟩, ⟨hz, fun q hq _ => hk q hq⟩⟩
      refine ⟨fun a t9 e9 h9 => ⟨?_, (hH.1.1 a t9 e9 h9).2⟩, Nat.le_trans hH.1.2.1 hz, fun q hq => by rw [hk q (Nat.lt_of_lt_of_le hq hH.1.2.1)]; exact hH.1.2.2 q hq⟩
      exact (hH.1.1 a t9 e9 h9).1.kept (hk a (hH.1.1 a t9 e9 h9).1.lt)

theorem xw_S {E : jE} {s : State} {args : Array Value} (hts : ∀ w ∈ lw_all, w.before args s = true) (hV : jV E s) : ∀ w ∈ vx_atS "EyeStage" 12 "java/lang/IllegalStateException" ["java/lang/RuntimeException", "java/lang/Exception"], w.before args s = true := by
  intro w hw
  obtain ⟨hw, hno⟩ := List.mem_filter.mp hw
  simp only [Bundle.ownAtoms, Bundle.throwableAtoms, Bundle.throwableSAtoms, Bundle.chainSAtoms, Bundle.passSAtoms, List.mem_append, List.mem_cons, List.not_mem_nil, or_false, or_assoc] at hw
  rcases hw with rfl | rfl | rfl | rfl | rfl | rfl | rfl | rfl | rfl | rfl | rfl | rfl | rfl | rfl | rfl | rfl | rfl | rfl | rfl | rfl | rfl | rfl | rfl | rfl | rfl | rfl | rfl | rfl | rfl | rfl | rfl | rfl | rfl | rfl | rfl | rfl | rfl | rfl | rfl | rfl | rfl | rfl | rfl | rfl | rfl | rfl | rfl | rfl | rfl | rfl | rfl | rfl | rfl | rfl | rfl | rfl | rfl
  · exact hts _ q117
  · exact hts _ q585
  · exact hts _ q594
  · exact hts _ q600
  · exact hts _ q603
  · exact hts _ q605
  · exact hts _ q586
  · exact hts _ q587
  · exact hts _ q158
  · exact hts _ q159
  · exact hts _ q588
  · exact hts _ q593
  · exact hts _ q601
  · exact hts _ q836
  · exact hts _ q575
  · exact hts _ q837
  · exact hts _ q577
  · exact hts _ q838
  · exact hts _ q579
  · exact hts _ q589
  · exact absurd hno (by decide)
  · exact hts _ q591
  · exact absurd hno (by decide)
  · exact hts _ q581
  · exact hts _ q832
  · exact hts _ q833
  · exact hts _ q835
  · exact hts _ q581
  · exact hts _ q991
  · exact hts _ q992
  · exact hts _ q993
  · exact hts _ q826
  · exact va_Nw.use rfl (hV.2.1 _ q567 rfl)
  · exact hts _ q826
  · exact hts _ q827
  · exact hts _ q828
  · exact hts _ q829
  · exact va_Nw.use rfl (hV.2.1 _ q569 rfl)
  · exact hts _ q829
  · exact hts _ q830
  · exact hts _ q831
  · exact hts _ q832
  · exact va_Nw.use rfl (hV.2.1 _ q571 rfl)
  · exact hts _ q1295
  · exact hts _ q981
  · exact va_Nw.use rfl (hV.2.1 _ q982 rfl)
  · exact hts _ q983
  · exact hts _ q598
  · exact hts _ q984
  · exact hts _ q985
  · exact hts _ q986
  · exact hts _ q987
  · exact absurd hno (by decide)
  · exact absurd hno (by decide)
  · exact hts _ q584
  · exact hts _ q583
  · exact hts _ q988

theorem xg_S : ∀ w ∈ Cond.classLink "EyeStage" 10 "java/lang/IllegalStateException" :: Cond.initialized "java/lang/IllegalStateException" :: vx_atS "EyeStage" 12 "java/lang/IllegalStateException" ["java/lang/RuntimeException", "java/lang/Exception"], vx_ot w = true := List.all_eq_true.mp (by decide +kernel)
theorem m_X1_requireState_x {E : jE} (l : Launch) (w : Wl) (ms : Nat) (h0 : l.stackTraces = false) : vx_Met l yX1_requireState (ws_ yX1_requireState cX1_requireState 2 none) (rmL 5 1 6) (va_Pc [.int (iI 0), .ref ms] (jP E w)) (jQv E (fun u : Wl => u) (fun _ => False)) (jXC E (fun En u => En = xS ∧ u = w)) 1 6 (jA E) := by
  refine j_xmet (by decide) (Nat.le_of_ble_eq_true rfl) ?_
  intro p e s m below meth c hx hb hml hr hlk hown hnm hts hV hH hnx ls hl
  have hl : lv_has ls 2 [(0, .int (iI 0)), (1, .ref ms)] := hl
  refine j_iload_n hx hb dX1_requireState_0 rfl (lv_at hl 0 rfl) ?_
  refine j_if_ne (tgt := 13) hx hb dX1_requireState_1 (by decide) (by omega) (fun c1 => ?_) (fun c1 => ?_)
  · exact absurd rfl c1
  · refine j_throwL hx hb h0 (own := "EyeStage") (cls := "java/lang/IllegalStateException") (names := ["java/lang/RuntimeException", "java/lang/Exception"]) hown (by decide +kernel) (by decide +kernel) (hts _ q1294) (hts _ q121) (lv_at hl 1 rfl) (xw_S hts hV) xg_S (A := jA E) ?_ ?_ hH.2 (hl.1.trans hml.symm) dX1_requireState_4 dX1_requireState_7 dX1_requireState_8 dX1_requireState_9 dX1_requireState_12 (fun x hx => (hnx x hx).elim) (Nat.le_of_ble_eq_true rfl) (Nat.le_of_ble_eq_true rfl) (Nat.le_of_ble_eq_true rfl) (Nat.le_of_ble_eq_true rfl) hlk ?_ hH.2.2.2 (Nat.le_of_ble_eq_true rfl) (Nat.le_of_ble_eq_true rfl)
    · exact hV.2.2.2.2.2.2.2.1.1.kept (fun a ha hn => hH.1.2.2 a ha)
    · exact hV.2.2.2.2.2.2.2.1.2.kept (fun a ha hn => hH.1.2.2 a ha)
    · intro t _ hz hk
      refine ⟨w, trivial, ⟨⟨rfl, rfl⟩, ?_⟩, ⟨hz, fun q hq _ => hk q hq⟩⟩
      refine ⟨fun a t9 e9 h9 => ⟨?_, (hH.1.1 a t9 e9 h9).2⟩, Nat.le_trans hH.1.2.1 hz, fun q hq => by rw [hk q (Nat.lt_of_lt_of_le hq hH.1.2.1)]; exact hH.1.2.2 q hq⟩
      exact (hH.1.1 a t9 e9 h9).1.kept (hk a (hH.1.1 a t9 e9 h9).1.lt)
