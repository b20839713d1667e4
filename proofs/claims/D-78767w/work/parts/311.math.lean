/-! methods of classes some of whose members the machine answers itself: those that it does not -/
set_option maxRecDepth 100000
theorem ofWF {l : Launch} {y : MethodName} {ws ws' : List Cond} {rm : Room} {Pc : Array Value → State → Prop} {Qc : Array Value → State → Outcome → State → Prop} {mc ms : Nat} {free : Addr → Prop} {cc : ByteArray} {maxL : Nat} {ret : Option FieldType} (hy : plainFor y = true) (hw : ws = Cond.code y cc maxL ret :: ws')
    (body : ∀ p e s m args below meth c s₁, BodyLoose p l y (headSpec ws rm) cc maxL ret e s m args below meth c s₁ → c.maxLocals = maxL → Pc args s → W p l e (headSpec ws rm).room s m args below meth c s.heap [] 0 0 (MQ below Qc args s mc ms free) (entryFrame m args maxL)) : Met l y ws rm Pc Qc mc ms free := by
  refine MetFree.of_bodySF (code := cc) (maxLocals := maxL) (ret := ret) hy ?_ ?_
  · intro args s m h hn
    obtain ⟨meth, c, h1, h2, h3, h4, h5, h6, -, -⟩ := Cond.code_spec hn (atoms_spec (ws := ws) h _ (by rw [hw]; exact List.mem_cons_self))
    exact ⟨meth, c, h1, h2, h3, h4, h5, h6⟩
  · intro p e s m args below meth c s₁ B hml hP _
    have hh0 : s₁.heap = s.heap := by rw [B.state]; rfl
    obtain ⟨t, a1, o, b1, b2, b3⟩ := body p e s m args below meth c s₁ B hml hP s₁ hh0 (Stand.of_body B)
    exact ⟨t, o, a1, b1, b2, ⟨b3.1, b3.2⟩⟩
theorem pf_J12_floorDiv : plainFor yJ12_floorDiv = true := by decide +kernel
theorem pf_J12_max : plainFor yJ12_max = true := by decide +kernel
theorem pf_J12_min : plainFor yJ12_min = true := by decide +kernel
theorem pf_J12_abs : plainFor yJ12_abs = true := by decide +kernel
section MATHHEADS
variable {l : Launch} {E : jE} {w : Wl}
theorem j_metF {y : MethodName} {code : ByteArray} {maxL : Nat} {ret : Option FieldType} {lev mc ms : Nat} {av : List Value} {Qc : Array Value → State → Outcome → State → Prop} (hy : plainFor y = true) (hlen : (lg_sl av).length ≤ maxL)
    (body : ∀ (p : Program) (e : Env) (s : State) (m : MethodId) (below : List Frame) (meth : Method) (c : Code), p.tables.exec = Jvm.exec → c.code = code → c.maxLocals = maxL → meth.sig.returnType = ret → meth.locks = false → s.vm.findClass y.cls = some m.cls → meth.name = y.name → (∀ w ∈ lw_all, w.before av.toArray s = true) → jV E s → jH E s.heap w s.heap [] → ∀ ls : Array Slot, lv_has ls maxL (lv_args 0 av) →
      W p l e (rmL lev mc ms) s m av.toArray below meth c s.heap [] 0 0 (MQ below Qc av.toArray s mc ms (jA E)) (F0 m 0 ls [])) : Met l y (ws_ y code maxL ret) (rmL lev mc ms) (va_Pc av (jP E w)) Qc mc ms (jA E) := by
  refine ofWF (cc := code) (maxL := maxL) (ret := ret) hy rfl ?_
  intro p e s m args below meth c s₁ B hml hv
  obtain ⟨rfl, hV, hR⟩ := hv
  have hts := atoms_spec (ws := ws_ y code maxL ret) B.pre
  have hl := lv_entry av (n := maxL) hlen
  rw [lg_entry_eq]
  exact body p e s m below meth c B.exec B.bytes hml B.returns B.notSynchronized (findClass_of_methodNamed B.named) (name_of_methodNamed B.named B.method).1 (fun w h => hts w (List.mem_cons_of_mem _ h)) hV ⟨hR, va_S.rf⟩ _ hl
theorem j_metIF {y : MethodName} {code : ByteArray} {maxL : Nat} {lev mc ms : Nat} {av : List Value} {S : Type} {P : S → Wl} {post : Int → S → Prop} (hy : plainFor y = true) (hlen : (lg_sl av).length ≤ maxL) (body : ∀ (p : Program) (e : Env) (s : State) (m : MethodId) (args : Array Value) (below : List Frame) (meth : Method) (c : Code) (Q : State → Prop), p.tables.exec = Jvm.exec → c.code = code → c.maxLocals = maxL → s.vm.findClass y.cls = some m.cls → meth.name = y.name → (∀ w ∈ lw_all, w.before args s = true) → jV E s → jH E s.heap w s.heap [] → jRI p l e (rmL lev mc ms) s m args below meth c code E P post mc ms Q → ∀ ls : Array Slot, lv_has ls maxL (lv_args 0 av) →
      W p l e (rmL lev mc ms) s m args below meth c s.heap [] 0 0 Q (F0 m 0 ls [])) : Met l y (ws_ y code maxL (some .int)) (rmL lev mc ms) (va_Pc av (jP E w)) (jQi E P post) mc ms (jA E) :=
  j_metF hy hlen (fun p e s m below meth c hx hb hml hr hlk hown hnm hts hV hH ls hl => body p e s m _ below meth c _ hx hb hml hown hnm hts hV hH (fun {H locs cells slots pc ls z} u hH d h1 h2 hp => j_iret u hx hb hr hlk hH d h1 h2 hp) ls hl)
end MATHHEADS
