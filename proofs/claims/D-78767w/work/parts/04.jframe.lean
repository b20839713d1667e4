/-! FRAMEWORK: whole numbers as Int, the heap as a map of cells with a tag, contracts over it -/
set_option maxRecDepth 100000
def iI (z : Int) : Int32 := Int32.ofInt z
def lL (z : Int) : Int64 := Int64.ofInt z
noncomputable def bI (p : Prop) : Int := @ite Int p (Classical.propDecidable p) 1 0
theorem bI_t {p : Prop} (h : p) : bI p = 1 := by unfold bI; exact if_pos h
theorem bI_f {p : Prop} (h : ¬ p) : bI p = 0 := by unfold bI; exact if_neg h
theorem bT {p : Prop} (h : p) : 1 = bI p := (bI_t h).symm
theorem bF {p : Prop} (h : ¬ p) : 0 = bI p := (bI_f h).symm
theorem bI_T : bI True = 1 := bI_t trivial
theorem bI_F : bI False = 0 := bI_f id
theorem bI_c {p q : Prop} (h : p ↔ q) : bI p = bI q := by rw [propext h]
theorem bI_01 (p : Prop) : 0 ≤ bI p ∧ bI p ≤ 1 := by
  by_cases h : p
  · rw [bI_t h]; decide
  · rw [bI_f h]; decide
theorem bI_0 {p : Prop} : bI p = 0 ↔ ¬ p := by
  by_cases h : p
  · rw [bI_t h]; simp [h]
  · rw [bI_f h]; simp [h]
theorem bI_1 {p : Prop} : bI p = 1 ↔ p := by
  by_cases h : p
  · rw [bI_t h]; simp [h]
  · rw [bI_f h]; simp [h]
theorem iI_add (a b : Int) : iI a + iI b = iI (a + b) := (Int32.ofInt_add a b).symm
theorem iI_sub (a b : Int) : iI a - iI b = iI (a - b) := (Int32.ofInt_sub a b).symm
theorem iI_mul (a b : Int) : iI a * iI b = iI (a * b) := (Int32.ofInt_mul a b).symm
theorem iI_neg (a : Int) : - iI a = iI (-a) := (Int32.ofInt_neg a).symm
theorem iI_T {z : Int} (h : -2147483648 ≤ z ∧ z ≤ 2147483647) : (iI z).toInt = z := Int32.toInt_ofInt_of_le (by omega) (by omega)
theorem iI_x (x : Int32) : iI x.toInt = x := Int32.ofInt_toInt x
theorem iI_b (x : Int32) : -2147483648 ≤ x.toInt ∧ x.toInt ≤ 2147483647 := by
  have h1 := Int32.le_toInt x
  have h2 := Int32.toInt_lt x
  omega
theorem iI_lt {a b : Int} (ha : -2147483648 ≤ a ∧ a ≤ 2147483647) (hb : -2147483648 ≤ b ∧ b ≤ 2147483647) : iI a < iI b ↔ a < b := by
  rw [Int32.lt_iff_toInt_lt, iI_T ha, iI_T hb]
theorem iI_le {a b : Int} (ha : -2147483648 ≤ a ∧ a ≤ 2147483647) (hb : -2147483648 ≤ b ∧ b ≤ 2147483647) : iI a ≤ iI b ↔ a ≤ b := by
  rw [Int32.le_iff_toInt_le, iI_T ha, iI_T hb]
theorem iI_eq {a b : Int} (ha : -2147483648 ≤ a ∧ a ≤ 2147483647) (hb : -2147483648 ≤ b ∧ b ≤ 2147483647) : iI a = iI b ↔ a = b := by
  rw [← Int32.toInt_inj, iI_T ha, iI_T hb]
theorem iI_nat (n : Nat) : iI (n : Int) = Int32.ofNat n := Int32.ofInt_eq_ofNat
theorem iI_0 : iI 0 = 0 := by decide
theorem iI_zeq {a : Int} (ha : -2147483648 ≤ a ∧ a ≤ 2147483647) : iI a = 0 ↔ a = 0 := by rw [← iI_0, iI_eq ha (by omega)]
theorem iI_zlt {a : Int} (ha : -2147483648 ≤ a ∧ a ≤ 2147483647) : iI a < 0 ↔ a < 0 := by rw [← iI_0, iI_lt ha (by omega)]
theorem iI_zle {a : Int} (ha : -2147483648 ≤ a ∧ a ≤ 2147483647) : iI a ≤ 0 ↔ a ≤ 0 := by rw [← iI_0, iI_le ha (by omega)]
theorem iI_zgt {a : Int} (ha : -2147483648 ≤ a ∧ a ≤ 2147483647) : 0 < iI a ↔ 0 < a := by rw [← iI_0, iI_lt (by omega) ha]
theorem iI_zge {a : Int} (ha : -2147483648 ≤ a ∧ a ≤ 2147483647) : 0 ≤ iI a ↔ 0 ≤ a := by rw [← iI_0, iI_le (by omega) ha]
theorem iI_in {z : Int} {n : Nat} (h : 0 ≤ z ∧ z < (n : Int)) (hn : z ≤ 2147483647) : vp_in (iI z) n := by
  rw [vp_in_iff, iI_T (by omega)]
  exact h
theorem iI_cl {z : Int} (h0 : 0 ≤ z) (h : z ≤ 2147483647) : ((iI z).toNatClampNeg : Int) = z := by
  have h1 : (iI z).toNatClampNeg = (iI z).toInt.toNat := rfl
  rw [h1, iI_T (by omega)]
  omega
theorem iI_clN {z : Int} (h0 : 0 ≤ z) (h : z ≤ 2147483647) : (iI z).toNatClampNeg = z.toNat := by
  have h1 : (iI z).toNatClampNeg = (iI z).toInt.toNat := rfl
  rw [h1, iI_T (by omega)]
theorem iI_div {a b : Int} (ha : 0 ≤ a ∧ a ≤ 2147483647) (hb : 0 < b ∧ b ≤ 2147483647) : iI a / iI b = iI (a / b) := by
  have h1 : iI b ≠ -1 := by
    intro h
    have := congrArg Int32.toInt h
    rw [iI_T (by omega)] at this
    have h2 : (-1 : Int32).toInt = -1 := by decide
    omega
  rw [← Int32.toInt_inj, Int32.toInt_div_of_ne_right _ _ h1, iI_T (by omega), iI_T (by omega), Int.tdiv_eq_ediv_of_nonneg ha.1, iI_T]
  have h2 := Int.ediv_nonneg ha.1 (Int.le_of_lt hb.1)
  have h3 := Int.ediv_le_self b ha.1
  omega
theorem iI_mod {a b : Int} (ha : 0 ≤ a ∧ a ≤ 2147483647) (hb : 0 < b ∧ b ≤ 2147483647) : iI a - iI a / iI b * iI b = iI (a % b) := by
  rw [iI_div ha hb, iI_mul, iI_sub, Int.emod_def, Int.mul_comm]
theorem iI_ne0 {b : Int} (hb : -2147483648 ≤ b ∧ b ≤ 2147483647) (h : b ≠ 0) : ¬ iI b = 0 := by
  rw [← iI_0, iI_eq hb (by omega)]
  exact h
theorem iI_l {z : Int} (h : -2147483648 ≤ z ∧ z ≤ 2147483647) : (iI z).toInt64 = lL z := by
  rw [← Int64.toInt_inj, Int32.toInt_toInt64, iI_T h]
  exact (Int64.toInt_ofInt_of_le (by omega) (by omega)).symm
theorem lL_T {z : Int} (h : -9223372036854775808 ≤ z ∧ z ≤ 9223372036854775807) : (lL z).toInt = z := Int64.toInt_ofInt_of_le (by omega) (by omega)
theorem lL_add (a b : Int) : lL a + lL b = lL (a + b) := (Int64.ofInt_add a b).symm
theorem lL_mul (a b : Int) : lL a * lL b = lL (a * b) := (Int64.ofInt_mul a b).symm
theorem lL_sub (a b : Int) : lL a - lL b = lL (a - b) := (Int64.ofInt_sub a b).symm
theorem lL_i (z : Int) : (lL z).toInt32 = iI z := Int64.toInt32_ofInt
theorem lL_eq {a b : Int} (ha : -9223372036854775808 ≤ a ∧ a ≤ 9223372036854775807) (hb : -9223372036854775808 ≤ b ∧ b ≤ 9223372036854775807) : lL a = lL b ↔ a = b := by
  rw [← Int64.toInt_inj, lL_T ha, lL_T hb]
theorem lL_lt {a b : Int} (ha : -9223372036854775808 ≤ a ∧ a ≤ 9223372036854775807) (hb : -9223372036854775808 ≤ b ∧ b ≤ 9223372036854775807) : lL a < lL b ↔ a < b := by
  rw [Int64.lt_iff_toInt_lt, lL_T ha, lL_T hb]
theorem i8_lit {n : Int} (h : -128 ≤ n ∧ n ≤ 127) : (Int8.ofInt n).toInt32 = iI n := by
  rw [← Int32.toInt_inj, Int8.toInt_toInt32, iI_T (by omega)]
  exact Int8.toInt_ofInt_of_le (by omega) (by omega)
theorem i16_lit {n : Int} (h : -32768 ≤ n ∧ n ≤ 32767) : (Int16.ofInt n).toInt32 = iI n := by
  rw [← Int32.toInt_inj, Int16.toInt_toInt32, iI_T (by omega)]
  exact Int16.toInt_ofInt_of_le (by omega) (by omega)
theorem nar_bI (p : Prop) : narrow .boolean (.int (iI (bI p))) = .int (iI (bI p)) := by
  by_cases h : p
  · rw [bI_t h]; decide +kernel
  · rw [bI_f h]; decide +kernel
theorem fit_bI (p : Prop) : fits .boolean (.int (iI (bI p))) = true := by
  by_cases h : p
  · rw [bI_t h]; decide +kernel
  · rw [bI_f h]; decide +kernel
theorem i8_T {x : Int} (h : -128 ≤ x ∧ x ≤ 127) : (iI x).toInt8.toInt32 = iI x := by
  rw [← Int32.toInt_inj, Int8.toInt_toInt32, iI_T (by omega)]
  have h1 : (iI x).toInt8 = Int8.ofInt x := Int32.toInt8_ofInt
  rw [h1]
  exact Int8.toInt_ofInt_of_le (by omega) (by omega)
theorem nar_b8 {x : Int} (h : -128 ≤ x ∧ x ≤ 127) : narrow .byte (.int (iI x)) = .int (iI x) := by
  show Value.int (iI x).toInt8.toInt32 = _
  rw [i8_T h]
def cmpI (a b : Int) : Int := if b < a then 1 else if a = b then 0 else -1
theorem cmpI_b (a b : Int) : -2147483648 ≤ cmpI a b ∧ cmpI a b ≤ 2147483647 := by
  unfold cmpI; split
  · omega
  · split <;> omega
theorem cmpI_s (a b : Int) : (cmpI a b = 1 ∧ b < a) ∨ (cmpI a b = 0 ∧ a = b) ∨ (cmpI a b = -1 ∧ a < b) := by
  unfold cmpI; split
  · omega
  · split <;> omega
theorem fit_01 {z : Int} (h : 0 ≤ z ∧ z ≤ 1) : fits .boolean (.int (iI z)) = true := by
  rcases (show z = 0 ∨ z = 1 by omega) with h | h <;> rw [h] <;> decide +kernel
theorem va_rf_cat {x : Option Nat} : (va_rf x).category = 1 := by cases x <;> rfl
theorem fit_iI (z : Int) : fits .int (.int (iI z)) = true := rfl
/-- the room of a method at a level of calls -/
abbrev rmL (n mc ms : Nat) : Room := { frames := n, cells := mc, slots := ms, locals := 96 * n }
/-- the classes whose objects the worlds hold -/
abbrev vwCl : List vw_C := [(RX1, TX1, 5), (RX2, TX2, 9), (RX3, TX3, 24), (RX5, TX5, 9), (RX6, TX6, 5), (RX7, TX7, 3), (RX8, TX8, 3), (RX9, TX9, 7), (RX10, TX10, 1), (RX11, TX11, 7), (RJ2, TJ2, 3), (RJ16, TJ16, 4), (RJ4, TJ4, 4), (RJ25, TJ25, 3), (RJ5, TJ5, 3), (RJ26, TJ26, 3), (RJ21, TJ21, 4), (RJ15, TJ15, 4)]
/-- a world: cells with a tag, by address -/
abbrev Wl : Type := Nat → Option (Nat × va_E)
/-- what a run stands on: the classes' numbers and slots, the array classes' numbers, the heap at the law's start, the addresses of String constants and of their arrays, of ArrayList's empty array -/
abbrev jE : Type := va_G × (Nat → ClassId) × Heap × (Nat → Nat)
abbrev jTys (E : jE) : List (ClassId × FieldType) := [(E.2.1 0, .int), (E.2.1 1, .byte), (E.2.1 2, .long), (E.2.1 3, .object "java/lang/Object"), (E.2.1 4, .double)]
def up (w : Wl) (a : Nat) (c : Nat × va_E) : Wl := fun q => if q = a then some c else w q
theorem up_s {w : Wl} {a : Nat} {c : Nat × va_E} : up w a c a = some c := by simp [up]
theorem up_n {w : Wl} {a b : Nat} {c : Nat × va_E} (h : b ≠ a) : up w a c b = w b := by simp [up, h]
def upz {α : Type} (f : Int → α) (k : Int) (v : α) : Int → α := fun j => if j = k then v else f j
theorem upz_s {α : Type} {f : Int → α} {k : Int} {v : α} : upz f k v k = v := by simp [upz]
theorem upz_n {α : Type} {f : Int → α} {k j : Int} {v : α} (h : j ≠ k) : upz f k v j = f j := by simp [upz, h]
/-- arrays as cells: their contents by whole numbers -/
def arI (E : jE) (n : Nat) (g : Int → Int) : va_E := .inl (E.2.1 0, n, .inl (fun j => iI (g (j : Int))))
def arB (E : jE) (n : Nat) (g : Int → Int) : va_E := .inl (E.2.1 1, n, .inl (fun j => iI (g (j : Int))))
def arL (E : jE) (n : Nat) (g : Int → Int) : va_E := .inl (E.2.1 2, n, .inr (.inl (fun j => lL (g (j : Int)))))
def arQ (E : jE) (n : Nat) (g : Int → Option Nat) : va_E := .inl (E.2.1 3, n, .inr (.inr (.inr (.inr (fun j => g (j : Int))))))
def arD (E : jE) (n : Nat) (g : Int → UInt64) : va_E := .inl (E.2.1 4, n, .inr (.inr (.inr (.inl (fun j => g (j : Int))))))
def jA (E : jE) : Nat → Prop := fun q => E.2.2.1.size ≤ q
def jR (E : jE) (w : Wl) (H : Heap) : Prop := (∀ (a t : Nat) (e : va_E), w a = some (t, e) → va_at E.1 vwCl (a, e) H ∧ E.2.2.1.size ≤ a) ∧ E.2.2.1.size ≤ H.size ∧ ∀ q : Nat, q < E.2.2.1.size → H[q]? = E.2.2.1[q]?
def jH (E : jE) (H0 : Heap) (w : Wl) (H : Heap) (locs : List Loc) : Prop := jR E w H ∧ va_S (jA E) H0 H locs
theorem jR.lt {E : jE} {w : Wl} {H : Heap} {a : Nat} {c : Nat × va_E} (h : jR E w H) (ha : w a = some c) : a < H.size := ((h.1 a c.1 c.2 ha).1).lt
theorem jR.fresh {E : jE} {w : Wl} {H : Heap} (h : jR E w H) {q : Nat} (hq : H.size ≤ q) : w q = none := by
  cases hc : w q with
  | none => rfl
  | some c => exact absurd (h.lt hc) (by omega)
theorem jH.put {E : jE} {H0 H H1 : Heap} {w : Wl} {locs : List Loc} {a t k : Nat} {e0 e : va_E} (h : jH E H0 w H locs) (z : H1.size = H.size) (oq : ∀ q : Nat, q ≠ a → H1[q]? = H[q]?) (ha : w a = some (t, e0)) (he : va_at E.1 vwCl (a, e) H1) : jH E H0 (up w a (t, e)) H1 (locs ++ [⟨a, k⟩]) := by
  have hb := (h.1.1 a t e0 ha).2
  refine ⟨⟨fun b t' e' hb' => ?_, by rw [z]; exact h.1.2.1, fun q hq => ?_⟩, h.2.put z oq hb⟩
  · by_cases hba : b = a
    · subst hba
      rw [up_s] at hb'
      cases hb'
      exact ⟨he, hb⟩
    · rw [up_n hba] at hb'
      exact ⟨(h.1.1 b t' e' hb').1.kept (oq b hba), (h.1.1 b t' e' hb').2⟩
  · rw [oq q (by omega)]
    exact h.1.2.2 q hq
theorem jH.new {E : jE} {H0 H H1 : Heap} {w : Wl} {locs : List Loc} {t : Nat} {e : va_E} (h : jH E H0 w H locs) (z : H1.size = H.size + 1) (oq : ∀ q : Nat, q < H.size → H1[q]? = H[q]?) (he : va_at E.1 vwCl (H.size, e) H1) : jH E H0 (up w H.size (t, e)) H1 locs := by
  refine ⟨⟨fun b t' e' hb' => ?_, by rw [z]; exact Nat.le_succ_of_le h.1.2.1, fun q hq => ?_⟩, Nat.le_trans h.2.1 (by omega), fun q h1 h2 => (oq q (Nat.lt_of_lt_of_le h1 h.2.1)).trans (h.2.2.1 q h1 h2), h.2.2.2⟩
  · by_cases hba : b = H.size
    · subst hba
      rw [up_s] at hb'
      cases hb'
      exact ⟨he, h.1.2.1⟩
    · rw [up_n hba] at hb'
      exact ⟨(h.1.1 b t' e' hb').1.kept (oq b (h.1.lt hb')), (h.1.1 b t' e' hb').2⟩
  · rw [oq q (Nat.lt_of_lt_of_le hq h.1.2.1)]
    exact h.1.2.2 q hq
/-- the same cells in another map -/
theorem jR.to {E : jE} {w w' : Wl} {H : Heap} (h : jR E w H) (hw : ∀ (a t : Nat) (e : va_E), w' a = some (t, e) → ∃ t', w a = some (t', e)) : jR E w' H :=
  ⟨fun a t e ha => by obtain ⟨t', h1⟩ := hw a t e ha; exact h.1 a t' e h1, h.2⟩
theorem jH.to {E : jE} {H0 H : Heap} {w w' : Wl} {locs : List Loc} (h : jH E H0 w H locs) (hw : ∀ (a t : Nat) (e : va_E), w' a = some (t, e) → ∃ t', w a = some (t', e)) : jH E H0 w' H locs := ⟨h.1.to hw, h.2⟩
/-- tables' words that ride by themselves -/
def jk : Cond → Bool
  | .fieldLinkNest .. => true
  | .methodLinkNest .. => true
  | .castable .. => true
  | .declares .. => true
  | _ => false
def jN (U : State) : Prop := ∀ w ∈ lw_tbl, jk w = true → va_Nw w U
theorem jN.warm {s U : State} (hW : s.WarmedH U.vm) (h : jN s) : jN U := by
  intro w hw hk
  have h1 := h w hw hk
  cases w <;> first | (exact va_Nw.warmF hW h1) | (exact va_Nw.warmM hW h1) | (exact va_Nw.warmC hW h1) | (exact va_Nw.warmD hW h1) | (cases hk)
def jFw (U : State) : Prop := True
/-- what the tables and the start give, at any state of the run -/
def jV (E : jE) (U : State) : Prop := va_K E.1 vwCl (jTys E) U ∧ jN U ∧ jX (jA E) E.2.2.2 E.2.2.1 U
theorem jV.warm {E : jE} {s U : State} (hW : s.WarmedH U.vm) (h : jV E s) : jV E U := ⟨va_K.moved hW.alike h.1, jN.warm hW h.2.1, jX.warm hW h.2.2⟩
theorem jV.same {E : jE} {s U : State} (hv : U.vm = s.vm) (h : jV E s) : jV E U := jV.warm (by rw [hv]; exact State.WarmedH.refl s) h
def jP (E : jE) (w : Wl) : State → Prop := fun U => jV E U ∧ jR E w U.heap
theorem jP.blind {E : jE} {w : Wl} {av : List Value} : FrameBlind (va_Pc av (jP E w)) := fun _ U g mk h => ⟨h.1, jV.same (s := U) (U := U.calling g mk _) rfl h.2.1, h.2.2⟩
def jB {S : Type} (E : jE) (P : S → Wl) : S → State → Prop := fun u t => jR E (P u) t.heap
abbrev jQi {S : Type} (E : jE) (P : S → Wl) (post : Int → S → Prop) : Array Value → State → Outcome → State → Prop := va_Qi (fun r u => ∃ z : Int, r = iI z ∧ post z u) (jB E P) (jA E)
abbrev jQl {S : Type} (E : jE) (P : S → Wl) (post : Int → S → Prop) : Array Value → State → Outcome → State → Prop := va_Ql (fun r u => ∃ z : Int, r = lL z ∧ post z u) (jB E P) (jA E)
abbrev jQv {S : Type} (E : jE) (P : S → Wl) (post : S → Prop) : Array Value → State → Outcome → State → Prop := va_Qv post (jB E P) (jA E)
abbrev jQd {S : Type} (E : jE) (P : S → Wl) (post : UInt64 → S → Prop) : Array Value → State → Outcome → State → Prop := va_Qd post (jB E P) (jA E)
abbrev jQq {S : Type} (E : jE) (P : S → Wl) (post : Option Nat → S → Prop) : Array Value → State → Outcome → State → Prop := va_Qq post (jB E P) (jA E)
def jRI {S : Type} (p : Program) (l : Launch) (e : Env) (R : Room) (s : State) (m : MethodId) (args : Array Value) (below : List Frame) (meth : Method) (c : Code) (code : ByteArray) (E : jE) (P : S → Wl) (post : Int → S → Prop) (mc ms : Nat) (Q : State → Prop) : Prop :=
  ∀ {H : Heap} {locs : List Loc} {cells slots pc : Nat} {ls : Array Slot} {z : Int} (u : S), jH E s.heap (P u) H locs → decode code pc = .ok (.ireturn, 1) → cells ≤ mc → slots ≤ ms → post z u → W p l e R s m args below meth c H locs cells slots Q (F0 m pc ls [.int (iI z)])
def jRZ {S : Type} (p : Program) (l : Launch) (e : Env) (R : Room) (s : State) (m : MethodId) (args : Array Value) (below : List Frame) (meth : Method) (c : Code) (code : ByteArray) (E : jE) (P : S → Wl) (post : Int → S → Prop) (mc ms : Nat) (Q : State → Prop) : Prop :=
  ∀ {H : Heap} {locs : List Loc} {cells slots pc : Nat} {ls : Array Slot} {z : Int} (u : S), jH E s.heap (P u) H locs → decode code pc = .ok (.ireturn, 1) → cells ≤ mc → slots ≤ ms → 0 ≤ z ∧ z ≤ 1 → post z u → W p l e R s m args below meth c H locs cells slots Q (F0 m pc ls [.int (iI z)])
def jRL {S : Type} (p : Program) (l : Launch) (e : Env) (R : Room) (s : State) (m : MethodId) (args : Array Value) (below : List Frame) (meth : Method) (c : Code) (code : ByteArray) (E : jE) (P : S → Wl) (post : Int → S → Prop) (mc ms : Nat) (Q : State → Prop) : Prop :=
  ∀ {H : Heap} {locs : List Loc} {cells slots pc : Nat} {ls : Array Slot} {z : Int} (u : S), jH E s.heap (P u) H locs → decode code pc = .ok (.lreturn, 1) → cells ≤ mc → slots ≤ ms → post z u → W p l e R s m args below meth c H locs cells slots Q (F0 m pc ls [.long (lL z)])
def jRD {S : Type} (p : Program) (l : Launch) (e : Env) (R : Room) (s : State) (m : MethodId) (args : Array Value) (below : List Frame) (meth : Method) (c : Code) (code : ByteArray) (E : jE) (P : S → Wl) (post : UInt64 → S → Prop) (mc ms : Nat) (Q : State → Prop) : Prop :=
  ∀ {H : Heap} {locs : List Loc} {cells slots pc : Nat} {ls : Array Slot} {z : UInt64} (u : S), jH E s.heap (P u) H locs → decode code pc = .ok (.dreturn, 1) → cells ≤ mc → slots ≤ ms → post z u → W p l e R s m args below meth c H locs cells slots Q (F0 m pc ls [.double z])
def jRQ {S : Type} (p : Program) (l : Launch) (e : Env) (R : Room) (s : State) (m : MethodId) (args : Array Value) (below : List Frame) (meth : Method) (c : Code) (code : ByteArray) (E : jE) (P : S → Wl) (post : Option Nat → S → Prop) (mc ms : Nat) (Q : State → Prop) : Prop :=
  ∀ {H : Heap} {locs : List Loc} {cells slots pc : Nat} {ls : Array Slot} (z : Option Nat) (u : S), jH E s.heap (P u) H locs → decode code pc = .ok (.areturn, 1) → cells ≤ mc → slots ≤ ms → post z u → W p l e R s m args below meth c H locs cells slots Q (F0 m pc ls [va_rf z])
def jRV {S : Type} (p : Program) (l : Launch) (e : Env) (R : Room) (s : State) (m : MethodId) (args : Array Value) (below : List Frame) (meth : Method) (c : Code) (code : ByteArray) (E : jE) (P : S → Wl) (post : S → Prop) (mc ms : Nat) (Q : State → Prop) : Prop :=
  ∀ {H : Heap} {locs : List Loc} {cells slots pc : Nat} {ls : Array Slot} (u : S), jH E s.heap (P u) H locs → decode code pc = .ok (.return_, 1) → cells ≤ mc → slots ≤ ms → post u → W p l e R s m args below meth c H locs cells slots Q (F0 m pc ls [])
section JROWS
variable {p : Program} {l : Launch} {e : Env} {R : Room} {s : State} {m : MethodId} {args : Array Value} {below : List Frame} {meth : Method} {c : Code} {H : Heap} {locs : List Loc} {cells slots : Nat} {Q : State → Prop}
variable {cc : ByteArray} {pc : Nat} {ls : Array Slot} {rest : List Value} {E : jE} {w : Wl} {H0 : Heap}
/-- a method's head -/
theorem j_met {y : MethodName} {code : ByteArray} {maxL : Nat} {ret : Option FieldType} {lev mc ms : Nat} {av : List Value} {Qc : Array Value → State → Outcome → State → Prop} (hy : plainName y.cls = true) (hlen : (lg_sl av).length ≤ maxL)
    (body : ∀ (p : Program) (e : Env) (s : State) (m : MethodId) (below : List Frame) (meth : Method) (c : Code), p.tables.exec = Jvm.exec → c.code = code → c.maxLocals = maxL → meth.sig.returnType = ret → meth.locks = false → s.vm.findClass y.cls = some m.cls → meth.name = y.name → (∀ w ∈ lw_all, w.before av.toArray s = true) → jV E s → jH E s.heap w s.heap [] → ∀ ls : Array Slot, lv_has ls maxL (lv_args 0 av) →
      W p l e (rmL lev mc ms) s m av.toArray below meth c s.heap [] 0 0 (MQ below Qc av.toArray s mc ms (jA E)) (F0 m 0 ls [])) : Met l y (ws_ y code maxL ret) (rmL lev mc ms) (va_Pc av (jP E w)) Qc mc ms (jA E) := by
  refine Met.ofW (cc := code) (maxL := maxL) (ret := ret) hy rfl ?_
  intro p e s m args below meth c s₁ B hml hv
  obtain ⟨rfl, hV, hR⟩ := hv
  have hts := atoms_spec (ws := ws_ y code maxL ret) B.pre
  have hl := lv_entry av (n := maxL) hlen
  rw [lg_entry_eq]
  exact body p e s m below meth c B.exec B.bytes hml B.returns B.notSynchronized (findClass_of_methodNamed B.named) (name_of_methodNamed B.named B.method).1 (fun w h => hts w (List.mem_cons_of_mem _ h)) hV ⟨hR, va_S.rf⟩ _ hl
theorem j_preS {As : List Value} (hV : jV E s) (hH : jH E s.heap w H locs) : PreS s H (va_Pc As (jP E w)) As := ⟨jP.blind, fun U hU hW => ⟨rfl, hV.warm hW, by rw [hU]; exact hH.1⟩⟩
theorem j_recv {b t ci : Nat} {fs : List Value} {r : vw_C} (hV : jV E s) (hH : jH E H0 w H locs) (hw : w b = some (t, .inr (ci, fs))) (hc : vwCl[ci]? = some r) : ∃ cell : Cell, H[b]? = some cell ∧ cell.vm.isStatics = false ∧ s.vm.findClass r.1 = some cell.cls := by
  have h := (hH.1.1 b t _ hw).1
  have hP : va_P E.1 vwCl [(b, .inr (ci, fs))] H := by
    intro k q hk
    cases k with
    | zero => cases hk; exact h
    | succ k => simp at hk
  exact va_recv hV.1 hP (q0 := 0) hc rfl
theorem j_preV {b t ci : Nat} {fs As : List Value} {r : vw_C} (hV : jV E s) (hH : jH E s.heap w H locs) (hw : w b = some (t, .inr (ci, fs))) (hc : vwCl[ci]? = some r) : PreV s H r.1 b (va_Pc (.ref b :: As) (jP E w)) As :=
  ⟨jP.blind, j_recv hV hH hw hc, fun U hU hW => ⟨rfl, hV.warm hW, by rw [hU]; exact hH.1⟩⟩
variable {mc ms : Nat} {st0 : List Value} {a : Array Value} {S : Type} {P : S → Wl}
theorem j_calli {post : Int → S → Prop} (hr : va_Run p l e R s m args below meth c H locs cells slots mc ms (F0 m pc ls st0) rest (jQi E P post a) (jA E)) (hH : jH E s.heap w H locs)
    (kk : ∀ (z : Int) (u : S) (H1 : Heap) (locs1 : List Loc), post z u → jH E s.heap (P u) H1 locs1 → W p l e R s m args below meth c H1 locs1 (cells + mc) (slots + ms) Q (F0 m (pc + 3) ls (.int (iI z) :: rest))) : W p l e R s m args below meth c H locs cells slots Q (F0 m pc ls st0) :=
  va_calli hr hH.2 (fun q _ h => h) (fun q h => h) (fun r u t H1 locs1 ht _ hp hB _ _ hS => by
    obtain ⟨z, rfl, hz⟩ := hp
    exact kk z u H1 locs1 hz ⟨by rw [← ht]; exact hB, hS⟩)
theorem j_calll {post : Int → S → Prop} (hr : va_Run p l e R s m args below meth c H locs cells slots mc ms (F0 m pc ls st0) rest (jQl E P post a) (jA E)) (hH : jH E s.heap w H locs)
    (kk : ∀ (z : Int) (u : S) (H1 : Heap) (locs1 : List Loc), post z u → jH E s.heap (P u) H1 locs1 → W p l e R s m args below meth c H1 locs1 (cells + mc) (slots + ms) Q (F0 m (pc + 3) ls (.long (lL z) :: rest))) : W p l e R s m args below meth c H locs cells slots Q (F0 m pc ls st0) :=
  va_calll hr hH.2 (fun q _ h => h) (fun q h => h) (fun r u t H1 locs1 ht _ hp hB _ _ hS => by
    obtain ⟨z, rfl, hz⟩ := hp
    exact kk z u H1 locs1 hz ⟨by rw [← ht]; exact hB, hS⟩)
theorem j_callv {post : S → Prop} (hr : va_Run p l e R s m args below meth c H locs cells slots mc ms (F0 m pc ls st0) rest (jQv E P post a) (jA E)) (hH : jH E s.heap w H locs)
    (kk : ∀ (u : S) (H1 : Heap) (locs1 : List Loc), post u → jH E s.heap (P u) H1 locs1 → W p l e R s m args below meth c H1 locs1 (cells + mc) (slots + ms) Q (F0 m (pc + 3) ls rest)) : W p l e R s m args below meth c H locs cells slots Q (F0 m pc ls st0) :=
  va_callv hr hH.2 (fun q _ h => h) (fun q h => h) (fun u t H1 locs1 ht _ hp hB _ _ hS => kk u H1 locs1 hp ⟨by rw [← ht]; exact hB, hS⟩)
theorem j_calld {post : UInt64 → S → Prop} (hr : va_Run p l e R s m args below meth c H locs cells slots mc ms (F0 m pc ls st0) rest (jQd E P post a) (jA E)) (hH : jH E s.heap w H locs)
    (kk : ∀ (z : UInt64) (u : S) (H1 : Heap) (locs1 : List Loc), post z u → jH E s.heap (P u) H1 locs1 → W p l e R s m args below meth c H1 locs1 (cells + mc) (slots + ms) Q (F0 m (pc + 3) ls (.double z :: rest))) : W p l e R s m args below meth c H locs cells slots Q (F0 m pc ls st0) :=
  va_calld hr hH.2 (fun q _ h => h) (fun q h => h) (fun r u t H1 locs1 ht _ hp hB _ _ hS => kk r u H1 locs1 hp ⟨by rw [← ht]; exact hB, hS⟩)
theorem j_callq {post : Option Nat → S → Prop} (hr : va_Run p l e R s m args below meth c H locs cells slots mc ms (F0 m pc ls st0) rest (jQq E P post a) (jA E)) (hH : jH E s.heap w H locs)
    (kk : ∀ (z : Option Nat) (u : S) (H1 : Heap) (locs1 : List Loc), post z u → jH E s.heap (P u) H1 locs1 → W p l e R s m args below meth c H1 locs1 (cells + mc) (slots + ms) Q (F0 m (pc + 3) ls (va_rf z :: rest))) : W p l e R s m args below meth c H locs cells slots Q (F0 m pc ls st0) :=
  va_callq hr hH.2 (fun q _ h => h) (fun q h => h) (fun r u t H1 locs1 ht _ hp hB _ _ hS => kk r u H1 locs1 hp ⟨by rw [← ht]; exact hB, hS⟩)
theorem j_callif {r : Int} {u0 : S} (hr : va_Run p l e R s m args below meth c H locs cells slots mc ms (F0 m pc ls st0) rest (jQi E P (fun z u => z = r ∧ u = u0) a) (jA E)) (hH : jH E s.heap w H locs)
    (kk : ∀ (H1 : Heap) (locs1 : List Loc), jH E s.heap (P u0) H1 locs1 → W p l e R s m args below meth c H1 locs1 (cells + mc) (slots + ms) Q (F0 m (pc + 3) ls (.int (iI r) :: rest))) : W p l e R s m args below meth c H locs cells slots Q (F0 m pc ls st0) :=
  j_calli hr hH (fun z u H1 locs1 hp hH1 => by obtain ⟨rfl, rfl⟩ := hp; exact kk H1 locs1 hH1)
theorem j_callip {r : Int} {P : Unit → Wl} (hr : va_Run p l e R s m args below meth c H locs cells slots mc ms (F0 m pc ls st0) rest (jQi E P (fun z _ => z = r) a) (jA E)) (hH : jH E s.heap w H locs)
    (kk : ∀ (H1 : Heap) (locs1 : List Loc), jH E s.heap (P ()) H1 locs1 → W p l e R s m args below meth c H1 locs1 (cells + mc) (slots + ms) Q (F0 m (pc + 3) ls (.int (iI r) :: rest))) : W p l e R s m args below meth c H locs cells slots Q (F0 m pc ls st0) :=
  j_calli hr hH (fun z u H1 locs1 hp hH1 => by cases hp; exact kk H1 locs1 hH1)
theorem j_calllf {r : Int} {u0 : S} (hr : va_Run p l e R s m args below meth c H locs cells slots mc ms (F0 m pc ls st0) rest (jQl E P (fun z u => z = r ∧ u = u0) a) (jA E)) (hH : jH E s.heap w H locs)
    (kk : ∀ (H1 : Heap) (locs1 : List Loc), jH E s.heap (P u0) H1 locs1 → W p l e R s m args below meth c H1 locs1 (cells + mc) (slots + ms) Q (F0 m (pc + 3) ls (.long (lL r) :: rest))) : W p l e R s m args below meth c H locs cells slots Q (F0 m pc ls st0) :=
  j_calll hr hH (fun z u H1 locs1 hp hH1 => by obtain ⟨rfl, rfl⟩ := hp; exact kk H1 locs1 hH1)
theorem j_calllp {r : Int} {P : Unit → Wl} (hr : va_Run p l e R s m args below meth c H locs cells slots mc ms (F0 m pc ls st0) rest (jQl E P (fun z _ => z = r) a) (jA E)) (hH : jH E s.heap w H locs)
    (kk : ∀ (H1 : Heap) (locs1 : List Loc), jH E s.heap (P ()) H1 locs1 → W p l e R s m args below meth c H1 locs1 (cells + mc) (slots + ms) Q (F0 m (pc + 3) ls (.long (lL r) :: rest))) : W p l e R s m args below meth c H locs cells slots Q (F0 m pc ls st0) :=
  j_calll hr hH (fun z u H1 locs1 hp hH1 => by cases hp; exact kk H1 locs1 hH1)
theorem j_calldf {r : UInt64} {u0 : S} (hr : va_Run p l e R s m args below meth c H locs cells slots mc ms (F0 m pc ls st0) rest (jQd E P (fun z u => z = r ∧ u = u0) a) (jA E)) (hH : jH E s.heap w H locs)
    (kk : ∀ (H1 : Heap) (locs1 : List Loc), jH E s.heap (P u0) H1 locs1 → W p l e R s m args below meth c H1 locs1 (cells + mc) (slots + ms) Q (F0 m (pc + 3) ls (.double r :: rest))) : W p l e R s m args below meth c H locs cells slots Q (F0 m pc ls st0) :=
  j_calld hr hH (fun z u H1 locs1 hp hH1 => by obtain ⟨rfl, rfl⟩ := hp; exact kk H1 locs1 hH1)
theorem j_calldp {r : UInt64} {P : Unit → Wl} (hr : va_Run p l e R s m args below meth c H locs cells slots mc ms (F0 m pc ls st0) rest (jQd E P (fun z _ => z = r) a) (jA E)) (hH : jH E s.heap w H locs)
    (kk : ∀ (H1 : Heap) (locs1 : List Loc), jH E s.heap (P ()) H1 locs1 → W p l e R s m args below meth c H1 locs1 (cells + mc) (slots + ms) Q (F0 m (pc + 3) ls (.double r :: rest))) : W p l e R s m args below meth c H locs cells slots Q (F0 m pc ls st0) :=
  j_calld hr hH (fun z u H1 locs1 hp hH1 => by cases hp; exact kk H1 locs1 hH1)
theorem j_callqf {r : Option Nat} {u0 : S} (hr : va_Run p l e R s m args below meth c H locs cells slots mc ms (F0 m pc ls st0) rest (jQq E P (fun z u => z = r ∧ u = u0) a) (jA E)) (hH : jH E s.heap w H locs)
    (kk : ∀ (H1 : Heap) (locs1 : List Loc), jH E s.heap (P u0) H1 locs1 → W p l e R s m args below meth c H1 locs1 (cells + mc) (slots + ms) Q (F0 m (pc + 3) ls (va_rf r :: rest))) : W p l e R s m args below meth c H locs cells slots Q (F0 m pc ls st0) :=
  j_callq hr hH (fun z u H1 locs1 hp hH1 => by obtain ⟨rfl, rfl⟩ := hp; exact kk H1 locs1 hH1)
theorem j_callqp {r : Option Nat} {P : Unit → Wl} (hr : va_Run p l e R s m args below meth c H locs cells slots mc ms (F0 m pc ls st0) rest (jQq E P (fun z _ => z = r) a) (jA E)) (hH : jH E s.heap w H locs)
    (kk : ∀ (H1 : Heap) (locs1 : List Loc), jH E s.heap (P ()) H1 locs1 → W p l e R s m args below meth c H1 locs1 (cells + mc) (slots + ms) Q (F0 m (pc + 3) ls (va_rf r :: rest))) : W p l e R s m args below meth c H locs cells slots Q (F0 m pc ls st0) :=
  j_callq hr hH (fun z u H1 locs1 hp hH1 => by cases hp; exact kk H1 locs1 hH1)
theorem j_callvf {u0 : S} (hr : va_Run p l e R s m args below meth c H locs cells slots mc ms (F0 m pc ls st0) rest (jQv E P (fun u => u = u0) a) (jA E)) (hH : jH E s.heap w H locs)
    (kk : ∀ (H1 : Heap) (locs1 : List Loc), jH E s.heap (P u0) H1 locs1 → W p l e R s m args below meth c H1 locs1 (cells + mc) (slots + ms) Q (F0 m (pc + 3) ls (rest))) : W p l e R s m args below meth c H locs cells slots Q (F0 m pc ls st0) :=
  j_callv hr hH (fun u H1 locs1 hp hH1 => by cases hp; exact kk H1 locs1 hH1)
theorem j_callvp {P : Unit → Wl} (hr : va_Run p l e R s m args below meth c H locs cells slots mc ms (F0 m pc ls st0) rest (jQv E P (fun _ => True) a) (jA E)) (hH : jH E s.heap w H locs)
    (kk : ∀ (H1 : Heap) (locs1 : List Loc), jH E s.heap (P ()) H1 locs1 → W p l e R s m args below meth c H1 locs1 (cells + mc) (slots + ms) Q (F0 m (pc + 3) ls (rest))) : W p l e R s m args below meth c H locs cells slots Q (F0 m pc ls st0) :=
  j_callv hr hH (fun u H1 locs1 hp hH1 => kk H1 locs1 hH1)
/-- a method's ends -/
theorem j_iret {post : Int → S → Prop} {z : Int} (u : S) (hx : p.tables.exec = Jvm.exec) (hb : c.code = cc) (hr : meth.sig.returnType = some .int) (hlk : meth.locks = false) (hH : jH E s.heap (P u) H locs) (d : decode cc pc = .ok (.ireturn, 1)) (h1 : cells ≤ mc) (h2 : slots ≤ ms) (hp : post z u) : W p l e R s m args below meth c H locs cells slots (MQ below (jQi E P post) args s mc ms (jA E)) (F0 m pc ls [.int (iI z)]) :=
  W.widen h1 h2 (W.iret hx hb hr (fun t ht _ => ⟨⟨iI z, u, rfl, ⟨z, rfl, hp⟩, by rw [jB, ht]; exact hH.1⟩, hH.2.F ht⟩) hH.2.2.2 d hlk)
theorem nar_01 {z : Int} (h : 0 ≤ z ∧ z ≤ 1) : narrow .boolean (.int (iI z)) = .int (iI z) := by
  rcases (show z = 0 ∨ z = 1 by omega) with h | h <;> rw [h] <;> decide +kernel
theorem j_zret {post : Int → S → Prop} {z : Int} (u : S) (hx : p.tables.exec = Jvm.exec) (hb : c.code = cc) (hr : meth.sig.returnType = some .boolean) (hlk : meth.locks = false) (hH : jH E s.heap (P u) H locs) (d : decode cc pc = .ok (.ireturn, 1)) (h1 : cells ≤ mc) (h2 : slots ≤ ms) (hz : 0 ≤ z ∧ z ≤ 1) (hp : post z u) : W p l e R s m args below meth c H locs cells slots (MQ below (jQi E P post) args s mc ms (jA E)) (F0 m pc ls [.int (iI z)]) :=
  W.widen h1 h2 (W.zret hx hb hr (nar_01 hz) (fun t ht _ => ⟨⟨iI z, u, rfl, ⟨z, rfl, hp⟩, by rw [jB, ht]; exact hH.1⟩, hH.2.F ht⟩) hH.2.2.2 d hlk)
theorem j_lret {post : Int → S → Prop} {z : Int} (u : S) (hx : p.tables.exec = Jvm.exec) (hb : c.code = cc) (hr : meth.sig.returnType = some .long) (hlk : meth.locks = false) (hH : jH E s.heap (P u) H locs) (d : decode cc pc = .ok (.lreturn, 1)) (h1 : cells ≤ mc) (h2 : slots ≤ ms) (hp : post z u) : W p l e R s m args below meth c H locs cells slots (MQ below (jQl E P post) args s mc ms (jA E)) (F0 m pc ls [.long (lL z)]) :=
  W.widen h1 h2 (W.lret hx hb hr (fun t ht _ => ⟨⟨lL z, u, rfl, ⟨z, rfl, hp⟩, by rw [jB, ht]; exact hH.1⟩, hH.2.F ht⟩) hH.2.2.2 d hlk)
theorem j_dret {post : UInt64 → S → Prop} {z : UInt64} (u : S) (hx : p.tables.exec = Jvm.exec) (hb : c.code = cc) (hr : meth.sig.returnType = some .double) (hlk : meth.locks = false) (hH : jH E s.heap (P u) H locs) (d : decode cc pc = .ok (.dreturn, 1)) (h1 : cells ≤ mc) (h2 : slots ≤ ms) (hp : post z u) : W p l e R s m args below meth c H locs cells slots (MQ below (jQd E P post) args s mc ms (jA E)) (F0 m pc ls [.double z]) :=
  W.widen h1 h2 (W.dret hx hb hr (fun t ht _ => ⟨⟨z, u, rfl, hp, by rw [jB, ht]; exact hH.1⟩, hH.2.F ht⟩) hH.2.2.2 d hlk)
theorem j_vret {post : S → Prop} (u : S) (hx : p.tables.exec = Jvm.exec) (hb : c.code = cc) (hr : meth.sig.returnType = none) (hlk : meth.locks = false) (hH : jH E s.heap (P u) H locs) (d : decode cc pc = .ok (.return_, 1)) (h1 : cells ≤ mc) (h2 : slots ≤ ms) (hp : post u) : W p l e R s m args below meth c H locs cells slots (MQ below (jQv E P post) args s mc ms (jA E)) (F0 m pc ls []) :=
  W.widen h1 h2 (W.vret hx hb hr (fun t ht _ => ⟨⟨u, rfl, hp, by rw [jB, ht]; exact hH.1⟩, hH.2.F ht⟩) hH.2.2.2 d hlk)
theorem j_aret {post : Option Nat → S → Prop} {z : Option Nat} {rt : FieldType} (u : S) (hx : p.tables.exec = Jvm.exec) (hb : c.code = cc) (hr : meth.sig.returnType = some rt) (hrt : (∃ n, rt = .object n) ∨ ∃ t, rt = .array t) (hlk : meth.locks = false) (hH : jH E s.heap (P u) H locs) (d : decode cc pc = .ok (.areturn, 1)) (h1 : cells ≤ mc) (h2 : slots ≤ ms) (hp : post z u) : W p l e R s m args below meth c H locs cells slots (MQ below (jQq E P post) args s mc ms (jA E)) (F0 m pc ls [va_rf z]) :=
  W.widen h1 h2 (W.aret hx hb hr hrt (by cases z <;> simp [va_rf]) (fun t ht _ => ⟨⟨z, u, rfl, hp, by rw [jB, ht]; exact hH.1⟩, hH.2.F ht⟩) hH.2.2.2 d hlk)
theorem j_metI {y : MethodName} {code : ByteArray} {maxL : Nat} {lev mc ms : Nat} {av : List Value} {S : Type} {P : S → Wl} {post : Int → S → Prop} (hy : plainName y.cls = true) (hlen : (lg_sl av).length ≤ maxL) (body : ∀ (p : Program) (e : Env) (s : State) (m : MethodId) (args : Array Value) (below : List Frame) (meth : Method) (c : Code) (Q : State → Prop), p.tables.exec = Jvm.exec → c.code = code → c.maxLocals = maxL → s.vm.findClass y.cls = some m.cls → meth.name = y.name → (∀ w ∈ lw_all, w.before args s = true) → jV E s → jH E s.heap w s.heap [] → jRI p l e (rmL lev mc ms) s m args below meth c code E P post mc ms Q → ∀ ls : Array Slot, lv_has ls maxL (lv_args 0 av) →
      W p l e (rmL lev mc ms) s m args below meth c s.heap [] 0 0 Q (F0 m 0 ls [])) : Met l y (ws_ y code maxL (some .int)) (rmL lev mc ms) (va_Pc av (jP E w)) (jQi E P post) mc ms (jA E) :=
  j_met hy hlen (fun p e s m below meth c hx hb hml hr hlk hown hnm hts hV hH ls hl => body p e s m _ below meth c _ hx hb hml hown hnm hts hV hH (fun {H locs cells slots pc ls z} u hH d h1 h2 hp => j_iret u hx hb hr hlk hH d h1 h2 hp) ls hl)
theorem j_metZ {y : MethodName} {code : ByteArray} {maxL : Nat} {lev mc ms : Nat} {av : List Value} {S : Type} {P : S → Wl} {post : Int → S → Prop} (hy : plainName y.cls = true) (hlen : (lg_sl av).length ≤ maxL) (body : ∀ (p : Program) (e : Env) (s : State) (m : MethodId) (args : Array Value) (below : List Frame) (meth : Method) (c : Code) (Q : State → Prop), p.tables.exec = Jvm.exec → c.code = code → c.maxLocals = maxL → s.vm.findClass y.cls = some m.cls → meth.name = y.name → (∀ w ∈ lw_all, w.before args s = true) → jV E s → jH E s.heap w s.heap [] → jRZ p l e (rmL lev mc ms) s m args below meth c code E P post mc ms Q → ∀ ls : Array Slot, lv_has ls maxL (lv_args 0 av) →
      W p l e (rmL lev mc ms) s m args below meth c s.heap [] 0 0 Q (F0 m 0 ls [])) : Met l y (ws_ y code maxL (some .boolean)) (rmL lev mc ms) (va_Pc av (jP E w)) (jQi E P post) mc ms (jA E) :=
  j_met hy hlen (fun p e s m below meth c hx hb hml hr hlk hown hnm hts hV hH ls hl => body p e s m _ below meth c _ hx hb hml hown hnm hts hV hH (fun {H locs cells slots pc ls z} u hH d h1 h2 h3 hp => j_zret u hx hb hr hlk hH d h1 h2 h3 hp) ls hl)
theorem j_metL {y : MethodName} {code : ByteArray} {maxL : Nat} {lev mc ms : Nat} {av : List Value} {S : Type} {P : S → Wl} {post : Int → S → Prop} (hy : plainName y.cls = true) (hlen : (lg_sl av).length ≤ maxL) (body : ∀ (p : Program) (e : Env) (s : State) (m : MethodId) (args : Array Value) (below : List Frame) (meth : Method) (c : Code) (Q : State → Prop), p.tables.exec = Jvm.exec → c.code = code → c.maxLocals = maxL → s.vm.findClass y.cls = some m.cls → meth.name = y.name → (∀ w ∈ lw_all, w.before args s = true) → jV E s → jH E s.heap w s.heap [] → jRL p l e (rmL lev mc ms) s m args below meth c code E P post mc ms Q → ∀ ls : Array Slot, lv_has ls maxL (lv_args 0 av) →
      W p l e (rmL lev mc ms) s m args below meth c s.heap [] 0 0 Q (F0 m 0 ls [])) : Met l y (ws_ y code maxL (some .long)) (rmL lev mc ms) (va_Pc av (jP E w)) (jQl E P post) mc ms (jA E) :=
  j_met hy hlen (fun p e s m below meth c hx hb hml hr hlk hown hnm hts hV hH ls hl => body p e s m _ below meth c _ hx hb hml hown hnm hts hV hH (fun {H locs cells slots pc ls z} u hH d h1 h2 hp => j_lret u hx hb hr hlk hH d h1 h2 hp) ls hl)
theorem j_metD {y : MethodName} {code : ByteArray} {maxL : Nat} {lev mc ms : Nat} {av : List Value} {S : Type} {P : S → Wl} {post : UInt64 → S → Prop} (hy : plainName y.cls = true) (hlen : (lg_sl av).length ≤ maxL) (body : ∀ (p : Program) (e : Env) (s : State) (m : MethodId) (args : Array Value) (below : List Frame) (meth : Method) (c : Code) (Q : State → Prop), p.tables.exec = Jvm.exec → c.code = code → c.maxLocals = maxL → s.vm.findClass y.cls = some m.cls → meth.name = y.name → (∀ w ∈ lw_all, w.before args s = true) → jV E s → jH E s.heap w s.heap [] → jRD p l e (rmL lev mc ms) s m args below meth c code E P post mc ms Q → ∀ ls : Array Slot, lv_has ls maxL (lv_args 0 av) →
      W p l e (rmL lev mc ms) s m args below meth c s.heap [] 0 0 Q (F0 m 0 ls [])) : Met l y (ws_ y code maxL (some .double)) (rmL lev mc ms) (va_Pc av (jP E w)) (jQd E P post) mc ms (jA E) :=
  j_met hy hlen (fun p e s m below meth c hx hb hml hr hlk hown hnm hts hV hH ls hl => body p e s m _ below meth c _ hx hb hml hown hnm hts hV hH (fun {H locs cells slots pc ls z} u hH d h1 h2 hp => j_dret u hx hb hr hlk hH d h1 h2 hp) ls hl)
theorem j_metV {y : MethodName} {code : ByteArray} {maxL : Nat} {lev mc ms : Nat} {av : List Value} {S : Type} {P : S → Wl} {post : S → Prop} (hy : plainName y.cls = true) (hlen : (lg_sl av).length ≤ maxL) (body : ∀ (p : Program) (e : Env) (s : State) (m : MethodId) (args : Array Value) (below : List Frame) (meth : Method) (c : Code) (Q : State → Prop), p.tables.exec = Jvm.exec → c.code = code → c.maxLocals = maxL → s.vm.findClass y.cls = some m.cls → meth.name = y.name → (∀ w ∈ lw_all, w.before args s = true) → jV E s → jH E s.heap w s.heap [] → jRV p l e (rmL lev mc ms) s m args below meth c code E P post mc ms Q → ∀ ls : Array Slot, lv_has ls maxL (lv_args 0 av) →
      W p l e (rmL lev mc ms) s m args below meth c s.heap [] 0 0 Q (F0 m 0 ls [])) : Met l y (ws_ y code maxL none) (rmL lev mc ms) (va_Pc av (jP E w)) (jQv E P post) mc ms (jA E) :=
  j_met hy hlen (fun p e s m below meth c hx hb hml hr hlk hown hnm hts hV hH ls hl => body p e s m _ below meth c _ hx hb hml hown hnm hts hV hH (fun {H locs cells slots pc ls} u hH d h1 h2 hp => j_vret u hx hb hr hlk hH d h1 h2 hp) ls hl)
theorem j_metQ {y : MethodName} {code : ByteArray} {maxL : Nat} {rt : FieldType} {lev mc ms : Nat} {av : List Value} {S : Type} {P : S → Wl} {post : Option Nat → S → Prop} (hy : plainName y.cls = true) (hlen : (lg_sl av).length ≤ maxL) (hrt : (∃ n, rt = .object n) ∨ ∃ t, rt = .array t) (body : ∀ (p : Program) (e : Env) (s : State) (m : MethodId) (args : Array Value) (below : List Frame) (meth : Method) (c : Code) (Q : State → Prop), p.tables.exec = Jvm.exec → c.code = code → c.maxLocals = maxL → s.vm.findClass y.cls = some m.cls → meth.name = y.name → (∀ w ∈ lw_all, w.before args s = true) → jV E s → jH E s.heap w s.heap [] → jRQ p l e (rmL lev mc ms) s m args below meth c code E P post mc ms Q → ∀ ls : Array Slot, lv_has ls maxL (lv_args 0 av) →
      W p l e (rmL lev mc ms) s m args below meth c s.heap [] 0 0 Q (F0 m 0 ls [])) : Met l y (ws_ y code maxL (some rt)) (rmL lev mc ms) (va_Pc av (jP E w)) (jQq E P post) mc ms (jA E) :=
  j_met hy hlen (fun p e s m below meth c hx hb hml hr hlk hown hnm hts hV hH ls hl => body p e s m _ below meth c _ hx hb hml hown hnm hts hV hH (fun {H locs cells slots pc ls} z u hH d h1 h2 hp => j_aret u hx hb hr hrt hlk hH d h1 h2 hp) ls hl)
/-- numbers -/
theorem j_top {a b : Int} (h : a = b) (k : W p l e R s m args below meth c H locs cells slots Q (F0 m pc ls (.int (iI b) :: rest))) : W p l e R s m args below meth c H locs cells slots Q (F0 m pc ls (.int (iI a) :: rest)) := by rw [h]; exact k
theorem j_topl {a b : Int} (h : a = b) (k : W p l e R s m args below meth c H locs cells slots Q (F0 m pc ls (.long (lL b) :: rest))) : W p l e R s m args below meth c H locs cells slots Q (F0 m pc ls (.long (lL a) :: rest)) := by rw [h]; exact k
theorem j_nm {a : Int} (k : ∀ z : Int, z = a → W p l e R s m args below meth c H locs cells slots Q (F0 m pc ls (.int (iI z) :: rest))) : W p l e R s m args below meth c H locs cells slots Q (F0 m pc ls (.int (iI a) :: rest)) := k a rfl
theorem j_iconst (hx : p.tables.exec = Jvm.exec) (hb : c.code = cc) {n : Int} (d : decode cc pc = .ok (.iconst n, 1)) (k : W p l e R s m args below meth c H locs cells slots Q (F0 m (pc + 1) ls (.int (iI n) :: rest))) : W p l e R s m args below meth c H locs cells slots Q (F0 m pc ls rest) := lv_iconst hx hb d rfl k
theorem j_bipush (hx : p.tables.exec = Jvm.exec) (hb : c.code = cc) {n : Int} (d : decode cc pc = .ok (.bipush n, 2)) (h : -128 ≤ n ∧ n ≤ 127) (k : W p l e R s m args below meth c H locs cells slots Q (F0 m (pc + 2) ls (.int (iI n) :: rest))) : W p l e R s m args below meth c H locs cells slots Q (F0 m pc ls rest) := lv_bipush hx hb d (i8_lit h) k
theorem j_sipush (hx : p.tables.exec = Jvm.exec) (hb : c.code = cc) {n : Int} (d : decode cc pc = .ok (.sipush n, 3)) (h : -32768 ≤ n ∧ n ≤ 32767) (k : W p l e R s m args below meth c H locs cells slots Q (F0 m (pc + 3) ls (.int (iI n) :: rest))) : W p l e R s m args below meth c H locs cells slots Q (F0 m pc ls rest) := lv_sipush hx hb d (i16_lit h) k
theorem j_lconst (hx : p.tables.exec = Jvm.exec) (hb : c.code = cc) {n : Fin 2} {z : Int} (d : decode cc pc = .ok (.lconst n, 1)) (hz : Int64.ofNat (n : Nat) = lL z) (k : W p l e R s m args below meth c H locs cells slots Q (F0 m (pc + 1) ls (.long (lL z) :: rest))) : W p l e R s m args below meth c H locs cells slots Q (F0 m pc ls rest) := lv_lconst hx hb d hz k
theorem j_ldc2 (hx : p.tables.exec = Jvm.exec) (hb : c.code = cc) {own : String} {index : Nat} {v : Int64} {z : Int} (hts : ∀ w ∈ lw_all, w.before args s = true) (hown : s.vm.findClass own = some m.cls) (hq : Cond.constantLong own index v ∈ lw_all) (d : decode cc pc = .ok (.ldc2_w index, 3)) (hz : v = lL z) (k : W p l e R s m args below meth c H locs cells slots Q (F0 m (pc + 3) ls (.long (lL z) :: rest))) : W p l e R s m args below meth c H locs cells slots Q (F0 m pc ls rest) := lv_ldc2 hx hb hown (hts _ hq) d (by rw [hz]; exact k)
theorem j_ldc (hx : p.tables.exec = Jvm.exec) (hb : c.code = cc) {own : String} {index : Nat} {v : Int32} {z : Int} (hts : ∀ w ∈ lw_all, w.before args s = true) (hown : s.vm.findClass own = some m.cls) (hq : Cond.constant own index v ∈ lw_all) (d : decode cc pc = .ok (.ldc index, 2)) (hz : v = iI z) (k : W p l e R s m args below meth c H locs cells slots Q (F0 m (pc + 2) ls (.int (iI z) :: rest))) : W p l e R s m args below meth c H locs cells slots Q (F0 m pc ls rest) := lv_ldc hx hb hown (hts _ hq) d (by rw [hz]; exact k)
theorem j_iadd (hx : p.tables.exec = Jvm.exec) (hb : c.code = cc) {a b : Int} (d : decode cc pc = .ok (.iadd, 1)) (k : W p l e R s m args below meth c H locs cells slots Q (F0 m (pc + 1) ls (.int (iI (a + b)) :: rest))) : W p l e R s m args below meth c H locs cells slots Q (F0 m pc ls (.int (iI b) :: .int (iI a) :: rest)) := lv_iadd hx hb d (by rw [iI_add]; exact k)
theorem j_isub (hx : p.tables.exec = Jvm.exec) (hb : c.code = cc) {a b : Int} (d : decode cc pc = .ok (.isub, 1)) (k : W p l e R s m args below meth c H locs cells slots Q (F0 m (pc + 1) ls (.int (iI (a - b)) :: rest))) : W p l e R s m args below meth c H locs cells slots Q (F0 m pc ls (.int (iI b) :: .int (iI a) :: rest)) := lv_isub hx hb d (by rw [iI_sub]; exact k)
theorem j_imul (hx : p.tables.exec = Jvm.exec) (hb : c.code = cc) {a b : Int} (d : decode cc pc = .ok (.imul, 1)) (k : W p l e R s m args below meth c H locs cells slots Q (F0 m (pc + 1) ls (.int (iI (a * b)) :: rest))) : W p l e R s m args below meth c H locs cells slots Q (F0 m pc ls (.int (iI b) :: .int (iI a) :: rest)) := lv_imul hx hb d (by rw [iI_mul]; exact k)
theorem j_ineg (hx : p.tables.exec = Jvm.exec) (hb : c.code = cc) {a : Int} (d : decode cc pc = .ok (.ineg, 1)) (k : W p l e R s m args below meth c H locs cells slots Q (F0 m (pc + 1) ls (.int (iI (-a)) :: rest))) : W p l e R s m args below meth c H locs cells slots Q (F0 m pc ls (.int (iI a) :: rest)) := lv_ineg hx hb d (by rw [iI_neg]; exact k)
theorem j_idiv (hx : p.tables.exec = Jvm.exec) (hb : c.code = cc) {a b : Int} (d : decode cc pc = .ok (.idiv, 1)) (ha : 0 ≤ a ∧ a ≤ 2147483647) (hb2 : 0 < b ∧ b ≤ 2147483647) (k : W p l e R s m args below meth c H locs cells slots Q (F0 m (pc + 1) ls (.int (iI (a / b)) :: rest))) : W p l e R s m args below meth c H locs cells slots Q (F0 m pc ls (.int (iI b) :: .int (iI a) :: rest)) := lv_idiv hx hb d (iI_ne0 (by omega) (by omega)) (by rw [iI_div ha hb2]; exact k)
theorem j_irem (hx : p.tables.exec = Jvm.exec) (hb : c.code = cc) {a b : Int} (d : decode cc pc = .ok (.irem, 1)) (ha : 0 ≤ a ∧ a ≤ 2147483647) (hb2 : 0 < b ∧ b ≤ 2147483647) (k : W p l e R s m args below meth c H locs cells slots Q (F0 m (pc + 1) ls (.int (iI (a % b)) :: rest))) : W p l e R s m args below meth c H locs cells slots Q (F0 m pc ls (.int (iI b) :: .int (iI a) :: rest)) := lv_irem hx hb d (iI_ne0 (by omega) (by omega)) (by rw [iI_mod ha hb2]; exact k)
theorem j_ladd (hx : p.tables.exec = Jvm.exec) (hb : c.code = cc) {a b : Int} (d : decode cc pc = .ok (.ladd, 1)) (k : W p l e R s m args below meth c H locs cells slots Q (F0 m (pc + 1) ls (.long (lL (a + b)) :: rest))) : W p l e R s m args below meth c H locs cells slots Q (F0 m pc ls (.long (lL b) :: .long (lL a) :: rest)) := lv_ladd hx hb d (by rw [lL_add]; exact k)
theorem j_lmul (hx : p.tables.exec = Jvm.exec) (hb : c.code = cc) {a b : Int} (d : decode cc pc = .ok (.lmul, 1)) (k : W p l e R s m args below meth c H locs cells slots Q (F0 m (pc + 1) ls (.long (lL (a * b)) :: rest))) : W p l e R s m args below meth c H locs cells slots Q (F0 m pc ls (.long (lL b) :: .long (lL a) :: rest)) := lv_lmul hx hb d (by rw [lL_mul]; exact k)
theorem j_lsub (hx : p.tables.exec = Jvm.exec) (hb : c.code = cc) {a b : Int} (d : decode cc pc = .ok (.lsub, 1)) (k : W p l e R s m args below meth c H locs cells slots Q (F0 m (pc + 1) ls (.long (lL (a - b)) :: rest))) : W p l e R s m args below meth c H locs cells slots Q (F0 m pc ls (.long (lL b) :: .long (lL a) :: rest)) := lv_lsub hx hb d (by rw [lL_sub]; exact k)
theorem j_i2l (hx : p.tables.exec = Jvm.exec) (hb : c.code = cc) {a : Int} (d : decode cc pc = .ok (.i2l, 1)) (h : -2147483648 ≤ a ∧ a ≤ 2147483647) (k : W p l e R s m args below meth c H locs cells slots Q (F0 m (pc + 1) ls (.long (lL a) :: rest))) : W p l e R s m args below meth c H locs cells slots Q (F0 m pc ls (.int (iI a) :: rest)) := lv_i2l hx hb d (iI_l h) k
theorem j_iinc (hx : p.tables.exec = Jvm.exec) (hb : c.code = cc) {i nL k : Nat} {n a : Int} {lv : List (Nat × Value)} {lv' : Int → List (Nat × Value)} (d : decode cc pc = .ok (.iinc i n, 3)) (h : lv_has ls nL lv) (hk : lv[k]? = some (i, .int (iI a))) (hn : i < nL) (hl : ∀ z : Int, (i, Value.int (iI z)) :: lv.filter (fun q => !(q.1 == i) && !(q.1 + 1 == i && q.2.category == 2)) = lv' z)
    (kk : ∀ z : Int, z = a + n → ∀ ls' : Array Slot, lv_has ls' nL (lv' z) → W p l e R s m args below meth c H locs cells slots Q (F0 m (pc + 3) ls' rest)) : W p l e R s m args below meth c H locs cells slots Q (F0 m pc ls rest) :=
  lv_iinc (v := iI (a + n)) hx hb d h hk (by rw [← iI_add]; rfl) hn (hl (a + n)) (kk (a + n) rfl)
theorem j_istore_n (hx : p.tables.exec = Jvm.exec) (hb : c.code = cc) {k : Fin 4} {i nL : Nat} {a : Int} {lv : List (Nat × Value)} {lv' : Int → List (Nat × Value)} (d : decode cc pc = .ok (.istore_n k, 1)) (hi : (k : Nat) = i) (h : lv_has ls nL lv) (hn : i < nL) (hl : ∀ z : Int, (i, Value.int (iI z)) :: lv.filter (fun q => !(q.1 == i) && !(q.1 + 1 == i && q.2.category == 2)) = lv' z)
    (kk : ∀ z : Int, z = a → ∀ ls' : Array Slot, lv_has ls' nL (lv' z) → W p l e R s m args below meth c H locs cells slots Q (F0 m (pc + 1) ls' rest)) : W p l e R s m args below meth c H locs cells slots Q (F0 m pc ls (.int (iI a) :: rest)) :=
  lv_istore_n hx hb d hi h hn (hl a) (kk a rfl)
theorem j_istore (hx : p.tables.exec = Jvm.exec) (hb : c.code = cc) {i nL : Nat} {a : Int} {lv : List (Nat × Value)} {lv' : Int → List (Nat × Value)} (d : decode cc pc = .ok (.istore i, 2)) (h : lv_has ls nL lv) (hn : i < nL) (hl : ∀ z : Int, (i, Value.int (iI z)) :: lv.filter (fun q => !(q.1 == i) && !(q.1 + 1 == i && q.2.category == 2)) = lv' z)
    (kk : ∀ z : Int, z = a → ∀ ls' : Array Slot, lv_has ls' nL (lv' z) → W p l e R s m args below meth c H locs cells slots Q (F0 m (pc + 2) ls' rest)) : W p l e R s m args below meth c H locs cells slots Q (F0 m pc ls (.int (iI a) :: rest)) :=
  lv_istore hx hb d h hn (hl a) (kk a rfl)
theorem j_icmp_eq (hx : p.tables.exec = Jvm.exec) (hb : c.code = cc) {a b : Int} {off : Int} {tgt : Nat} (d : decode cc pc = .ok (.if_icmp .eq off, 3)) (ht : (pc : Int) + off = (tgt : Int)) (ha : -2147483648 ≤ a ∧ a ≤ 2147483647) (hb2 : -2147483648 ≤ b ∧ b ≤ 2147483647) (kt : a = b → W p l e R s m args below meth c H locs cells slots Q (F0 m tgt ls rest)) (kf : a ≠ b → W p l e R s m args below meth c H locs cells slots Q (F0 m (pc + 3) ls rest)) : W p l e R s m args below meth c H locs cells slots Q (F0 m pc ls (.int (iI b) :: .int (iI a) :: rest)) :=
  lv_icmp_eq hx hb d ht (fun h => kt ((iI_eq ha hb2).mp h)) (fun h => kf (fun q => h ((iI_eq ha hb2).mpr q)))
theorem j_if_eq (hx : p.tables.exec = Jvm.exec) (hb : c.code = cc) {a : Int} {off : Int} {tgt : Nat} (d : decode cc pc = .ok (.ifCond .eq off, 3)) (ht : (pc : Int) + off = (tgt : Int)) (ha : -2147483648 ≤ a ∧ a ≤ 2147483647) (kt : a = 0 → W p l e R s m args below meth c H locs cells slots Q (F0 m tgt ls rest)) (kf : a ≠ 0 → W p l e R s m args below meth c H locs cells slots Q (F0 m (pc + 3) ls rest)) : W p l e R s m args below meth c H locs cells slots Q (F0 m pc ls (.int (iI a) :: rest)) :=
  lv_if_eq hx hb d ht (fun h => kt ((iI_zeq ha).mp h)) (fun h => kf (fun q => h ((iI_zeq ha).mpr q)))
theorem j_icmp_ne (hx : p.tables.exec = Jvm.exec) (hb : c.code = cc) {a b : Int} {off : Int} {tgt : Nat} (d : decode cc pc = .ok (.if_icmp .ne off, 3)) (ht : (pc : Int) + off = (tgt : Int)) (ha : -2147483648 ≤ a ∧ a ≤ 2147483647) (hb2 : -2147483648 ≤ b ∧ b ≤ 2147483647) (kt : a ≠ b → W p l e R s m args below meth c H locs cells slots Q (F0 m tgt ls rest)) (kf : a = b → W p l e R s m args below meth c H locs cells slots Q (F0 m (pc + 3) ls rest)) : W p l e R s m args below meth c H locs cells slots Q (F0 m pc ls (.int (iI b) :: .int (iI a) :: rest)) :=
  lv_icmp_ne hx hb d ht (fun h => kt (fun q => h ((iI_eq ha hb2).mpr q))) (fun h => kf ((iI_eq ha hb2).mp h))
theorem j_if_ne (hx : p.tables.exec = Jvm.exec) (hb : c.code = cc) {a : Int} {off : Int} {tgt : Nat} (d : decode cc pc = .ok (.ifCond .ne off, 3)) (ht : (pc : Int) + off = (tgt : Int)) (ha : -2147483648 ≤ a ∧ a ≤ 2147483647) (kt : a ≠ 0 → W p l e R s m args below meth c H locs cells slots Q (F0 m tgt ls rest)) (kf : a = 0 → W p l e R s m args below meth c H locs cells slots Q (F0 m (pc + 3) ls rest)) : W p l e R s m args below meth c H locs cells slots Q (F0 m pc ls (.int (iI a) :: rest)) :=
  lv_if_ne hx hb d ht (fun h => kt (fun q => h ((iI_zeq ha).mpr q))) (fun h => kf ((iI_zeq ha).mp h))
theorem j_icmp_lt (hx : p.tables.exec = Jvm.exec) (hb : c.code = cc) {a b : Int} {off : Int} {tgt : Nat} (d : decode cc pc = .ok (.if_icmp .lt off, 3)) (ht : (pc : Int) + off = (tgt : Int)) (ha : -2147483648 ≤ a ∧ a ≤ 2147483647) (hb2 : -2147483648 ≤ b ∧ b ≤ 2147483647) (kt : a < b → W p l e R s m args below meth c H locs cells slots Q (F0 m tgt ls rest)) (kf : b ≤ a → W p l e R s m args below meth c H locs cells slots Q (F0 m (pc + 3) ls rest)) : W p l e R s m args below meth c H locs cells slots Q (F0 m pc ls (.int (iI b) :: .int (iI a) :: rest)) :=
  lv_icmp_lt hx hb d ht (fun h => kt ((iI_lt ha hb2).mp h)) (fun h => kf (by have q := mt (iI_lt ha hb2).mpr h; omega))
theorem j_if_lt (hx : p.tables.exec = Jvm.exec) (hb : c.code = cc) {a : Int} {off : Int} {tgt : Nat} (d : decode cc pc = .ok (.ifCond .lt off, 3)) (ht : (pc : Int) + off = (tgt : Int)) (ha : -2147483648 ≤ a ∧ a ≤ 2147483647) (kt : a < 0 → W p l e R s m args below meth c H locs cells slots Q (F0 m tgt ls rest)) (kf : 0 ≤ a → W p l e R s m args below meth c H locs cells slots Q (F0 m (pc + 3) ls rest)) : W p l e R s m args below meth c H locs cells slots Q (F0 m pc ls (.int (iI a) :: rest)) :=
  lv_if_lt hx hb d ht (fun h => kt ((iI_zlt ha).mp h)) (fun h => kf (by have q := mt (iI_zlt ha).mpr h; omega))
theorem j_icmp_ge (hx : p.tables.exec = Jvm.exec) (hb : c.code = cc) {a b : Int} {off : Int} {tgt : Nat} (d : decode cc pc = .ok (.if_icmp .ge off, 3)) (ht : (pc : Int) + off = (tgt : Int)) (ha : -2147483648 ≤ a ∧ a ≤ 2147483647) (hb2 : -2147483648 ≤ b ∧ b ≤ 2147483647) (kt : b ≤ a → W p l e R s m args below meth c H locs cells slots Q (F0 m tgt ls rest)) (kf : a < b → W p l e R s m args below meth c H locs cells slots Q (F0 m (pc + 3) ls rest)) : W p l e R s m args below meth c H locs cells slots Q (F0 m pc ls (.int (iI b) :: .int (iI a) :: rest)) :=
  lv_icmp_ge hx hb d ht (fun h => kt ((iI_le hb2 ha).mp h)) (fun h => kf (by have q := mt (iI_le hb2 ha).mpr h; omega))
theorem j_if_ge (hx : p.tables.exec = Jvm.exec) (hb : c.code = cc) {a : Int} {off : Int} {tgt : Nat} (d : decode cc pc = .ok (.ifCond .ge off, 3)) (ht : (pc : Int) + off = (tgt : Int)) (ha : -2147483648 ≤ a ∧ a ≤ 2147483647) (kt : 0 ≤ a → W p l e R s m args below meth c H locs cells slots Q (F0 m tgt ls rest)) (kf : a < 0 → W p l e R s m args below meth c H locs cells slots Q (F0 m (pc + 3) ls rest)) : W p l e R s m args below meth c H locs cells slots Q (F0 m pc ls (.int (iI a) :: rest)) :=
  lv_if_ge hx hb d ht (fun h => kt ((iI_zge ha).mp h)) (fun h => kf (by have q := mt (iI_zge ha).mpr h; omega))
theorem j_icmp_gt (hx : p.tables.exec = Jvm.exec) (hb : c.code = cc) {a b : Int} {off : Int} {tgt : Nat} (d : decode cc pc = .ok (.if_icmp .gt off, 3)) (ht : (pc : Int) + off = (tgt : Int)) (ha : -2147483648 ≤ a ∧ a ≤ 2147483647) (hb2 : -2147483648 ≤ b ∧ b ≤ 2147483647) (kt : b < a → W p l e R s m args below meth c H locs cells slots Q (F0 m tgt ls rest)) (kf : a ≤ b → W p l e R s m args below meth c H locs cells slots Q (F0 m (pc + 3) ls rest)) : W p l e R s m args below meth c H locs cells slots Q (F0 m pc ls (.int (iI b) :: .int (iI a) :: rest)) :=
  lv_icmp_gt hx hb d ht (fun h => kt ((iI_lt hb2 ha).mp h)) (fun h => kf (by have q := mt (iI_lt hb2 ha).mpr h; omega))
theorem j_if_gt (hx : p.tables.exec = Jvm.exec) (hb : c.code = cc) {a : Int} {off : Int} {tgt : Nat} (d : decode cc pc = .ok (.ifCond .gt off, 3)) (ht : (pc : Int) + off = (tgt : Int)) (ha : -2147483648 ≤ a ∧ a ≤ 2147483647) (kt : 0 < a → W p l e R s m args below meth c H locs cells slots Q (F0 m tgt ls rest)) (kf : a ≤ 0 → W p l e R s m args below meth c H locs cells slots Q (F0 m (pc + 3) ls rest)) : W p l e R s m args below meth c H locs cells slots Q (F0 m pc ls (.int (iI a) :: rest)) :=
  lv_if_gt hx hb d ht (fun h => kt ((iI_zgt ha).mp h)) (fun h => kf (by have q := mt (iI_zgt ha).mpr h; omega))
theorem j_icmp_le (hx : p.tables.exec = Jvm.exec) (hb : c.code = cc) {a b : Int} {off : Int} {tgt : Nat} (d : decode cc pc = .ok (.if_icmp .le off, 3)) (ht : (pc : Int) + off = (tgt : Int)) (ha : -2147483648 ≤ a ∧ a ≤ 2147483647) (hb2 : -2147483648 ≤ b ∧ b ≤ 2147483647) (kt : a ≤ b → W p l e R s m args below meth c H locs cells slots Q (F0 m tgt ls rest)) (kf : b < a → W p l e R s m args below meth c H locs cells slots Q (F0 m (pc + 3) ls rest)) : W p l e R s m args below meth c H locs cells slots Q (F0 m pc ls (.int (iI b) :: .int (iI a) :: rest)) :=
  lv_icmp_le hx hb d ht (fun h => kt ((iI_le ha hb2).mp h)) (fun h => kf (by have q := mt (iI_le ha hb2).mpr h; omega))
theorem j_if_le (hx : p.tables.exec = Jvm.exec) (hb : c.code = cc) {a : Int} {off : Int} {tgt : Nat} (d : decode cc pc = .ok (.ifCond .le off, 3)) (ht : (pc : Int) + off = (tgt : Int)) (ha : -2147483648 ≤ a ∧ a ≤ 2147483647) (kt : a ≤ 0 → W p l e R s m args below meth c H locs cells slots Q (F0 m tgt ls rest)) (kf : 0 < a → W p l e R s m args below meth c H locs cells slots Q (F0 m (pc + 3) ls rest)) : W p l e R s m args below meth c H locs cells slots Q (F0 m pc ls (.int (iI a) :: rest)) :=
  lv_if_le hx hb d ht (fun h => kt ((iI_zle ha).mp h)) (fun h => kf (by have q := mt (iI_zle ha).mpr h; omega))
/-- a boolean on the stack -/
theorem j_ifeq_b (hx : p.tables.exec = Jvm.exec) (hb : c.code = cc) {q : Prop} {off : Int} {tgt : Nat} (d : decode cc pc = .ok (.ifCond .eq off, 3)) (ht : (pc : Int) + off = (tgt : Int)) (kt : ¬ q → W p l e R s m args below meth c H locs cells slots Q (F0 m tgt ls rest)) (kf : q → W p l e R s m args below meth c H locs cells slots Q (F0 m (pc + 3) ls rest)) : W p l e R s m args below meth c H locs cells slots Q (F0 m pc ls (.int (iI (bI q)) :: rest)) :=
  lv_if_eq hx hb d ht (fun h => kt (fun hq => by rw [bI_t hq] at h; exact absurd h (by decide))) (fun h => kf (Classical.byContradiction fun hq => h (by rw [bI_f hq]; exact iI_0)))
theorem j_ifne_b (hx : p.tables.exec = Jvm.exec) (hb : c.code = cc) {q : Prop} {off : Int} {tgt : Nat} (d : decode cc pc = .ok (.ifCond .ne off, 3)) (ht : (pc : Int) + off = (tgt : Int)) (kt : q → W p l e R s m args below meth c H locs cells slots Q (F0 m tgt ls rest)) (kf : ¬ q → W p l e R s m args below meth c H locs cells slots Q (F0 m (pc + 3) ls rest)) : W p l e R s m args below meth c H locs cells slots Q (F0 m pc ls (.int (iI (bI q)) :: rest)) :=
  lv_if_ne hx hb d ht (fun h => kt (Classical.byContradiction fun hq => h (by rw [bI_f hq]; exact iI_0))) (fun h => kf (fun hq => by rw [bI_t hq] at h; exact absurd h (by decide)))
theorem j_lstore_n (hx : p.tables.exec = Jvm.exec) (hb : c.code = cc) {k : Fin 4} {i nL : Nat} {a : Int} {lv : List (Nat × Value)} {lv' : Int → List (Nat × Value)} (d : decode cc pc = .ok (.lstore_n k, 1)) (hi : (k : Nat) = i) (h : lv_has ls nL lv) (hn : i + 1 < nL) (hl : ∀ z : Int, (i, Value.long (lL z)) :: lv.filter (fun q => !(q.1 == i) && (!(q.1 == i + 1) && !(q.1 + 1 == i && q.2.category == 2))) = lv' z)
    (kk : ∀ z : Int, z = a → ∀ ls' : Array Slot, lv_has ls' nL (lv' z) → W p l e R s m args below meth c H locs cells slots Q (F0 m (pc + 1) ls' rest)) : W p l e R s m args below meth c H locs cells slots Q (F0 m pc ls (.long (lL a) :: rest)) :=
  lv_lstore_n hx hb d hi h hn (hl a) (kk a rfl)
theorem j_lstore (hx : p.tables.exec = Jvm.exec) (hb : c.code = cc) {i nL : Nat} {a : Int} {lv : List (Nat × Value)} {lv' : Int → List (Nat × Value)} (d : decode cc pc = .ok (.lstore i, 2)) (h : lv_has ls nL lv) (hn : i + 1 < nL) (hl : ∀ z : Int, (i, Value.long (lL z)) :: lv.filter (fun q => !(q.1 == i) && (!(q.1 == i + 1) && !(q.1 + 1 == i && q.2.category == 2))) = lv' z)
    (kk : ∀ z : Int, z = a → ∀ ls' : Array Slot, lv_has ls' nL (lv' z) → W p l e R s m args below meth c H locs cells slots Q (F0 m (pc + 2) ls' rest)) : W p l e R s m args below meth c H locs cells slots Q (F0 m pc ls (.long (lL a) :: rest)) :=
  lv_lstore hx hb d h hn (hl a) (kk a rfl)
theorem j_lcmp (hx : p.tables.exec = Jvm.exec) (hb : c.code = cc) {a b : Int} (d : decode cc pc = .ok (.lcmp, 1)) (ha : -9223372036854775808 ≤ a ∧ a ≤ 9223372036854775807) (hb2 : -9223372036854775808 ≤ b ∧ b ≤ 9223372036854775807) (k : W p l e R s m args below meth c H locs cells slots Q (F0 m (pc + 1) ls (.int (iI (cmpI a b)) :: rest))) : W p l e R s m args below meth c H locs cells slots Q (F0 m pc ls (.long (lL b) :: .long (lL a) :: rest)) := by
  refine W.lcmp hx hb d ?_
  have h : lg_cmp (lL a) (lL b) = iI (cmpI a b) := by
    unfold lg_cmp cmpI
    by_cases h1 : b < a
    · rw [if_pos ((lL_lt hb2 ha).mpr h1), if_pos h1]; decide
    · rw [if_neg (mt (lL_lt hb2 ha).mp h1), if_neg h1]
      by_cases h2 : a = b
      · rw [if_pos ((lL_eq ha hb2).mpr h2), if_pos h2]; decide
      · rw [if_neg (mt (lL_eq ha hb2).mp h2), if_neg h2]; decide
  rw [h]
  exact k
theorem j_ifc_eq (hx : p.tables.exec = Jvm.exec) (hb : c.code = cc) {a b : Int} {off : Int} {tgt : Nat} (d : decode cc pc = .ok (.ifCond .eq off, 3)) (ht : (pc : Int) + off = (tgt : Int)) (kt : a = b → W p l e R s m args below meth c H locs cells slots Q (F0 m tgt ls rest)) (kf : a ≠ b → W p l e R s m args below meth c H locs cells slots Q (F0 m (pc + 3) ls rest)) : W p l e R s m args below meth c H locs cells slots Q (F0 m pc ls (.int (iI (cmpI a b)) :: rest)) :=
  j_if_eq hx hb d ht (cmpI_b a b) (fun h => kt (by have := cmpI_s a b; omega)) (fun h => kf (by have := cmpI_s a b; omega))
theorem j_ifc_ne (hx : p.tables.exec = Jvm.exec) (hb : c.code = cc) {a b : Int} {off : Int} {tgt : Nat} (d : decode cc pc = .ok (.ifCond .ne off, 3)) (ht : (pc : Int) + off = (tgt : Int)) (kt : a ≠ b → W p l e R s m args below meth c H locs cells slots Q (F0 m tgt ls rest)) (kf : a = b → W p l e R s m args below meth c H locs cells slots Q (F0 m (pc + 3) ls rest)) : W p l e R s m args below meth c H locs cells slots Q (F0 m pc ls (.int (iI (cmpI a b)) :: rest)) :=
  j_if_ne hx hb d ht (cmpI_b a b) (fun h => kt (by have := cmpI_s a b; omega)) (fun h => kf (by have := cmpI_s a b; omega))
theorem j_ifc_lt (hx : p.tables.exec = Jvm.exec) (hb : c.code = cc) {a b : Int} {off : Int} {tgt : Nat} (d : decode cc pc = .ok (.ifCond .lt off, 3)) (ht : (pc : Int) + off = (tgt : Int)) (kt : a < b → W p l e R s m args below meth c H locs cells slots Q (F0 m tgt ls rest)) (kf : b ≤ a → W p l e R s m args below meth c H locs cells slots Q (F0 m (pc + 3) ls rest)) : W p l e R s m args below meth c H locs cells slots Q (F0 m pc ls (.int (iI (cmpI a b)) :: rest)) :=
  j_if_lt hx hb d ht (cmpI_b a b) (fun h => kt (by have := cmpI_s a b; omega)) (fun h => kf (by have := cmpI_s a b; omega))
theorem j_ifc_ge (hx : p.tables.exec = Jvm.exec) (hb : c.code = cc) {a b : Int} {off : Int} {tgt : Nat} (d : decode cc pc = .ok (.ifCond .ge off, 3)) (ht : (pc : Int) + off = (tgt : Int)) (kt : b ≤ a → W p l e R s m args below meth c H locs cells slots Q (F0 m tgt ls rest)) (kf : a < b → W p l e R s m args below meth c H locs cells slots Q (F0 m (pc + 3) ls rest)) : W p l e R s m args below meth c H locs cells slots Q (F0 m pc ls (.int (iI (cmpI a b)) :: rest)) :=
  j_if_ge hx hb d ht (cmpI_b a b) (fun h => kt (by have := cmpI_s a b; omega)) (fun h => kf (by have := cmpI_s a b; omega))
theorem j_ifc_gt (hx : p.tables.exec = Jvm.exec) (hb : c.code = cc) {a b : Int} {off : Int} {tgt : Nat} (d : decode cc pc = .ok (.ifCond .gt off, 3)) (ht : (pc : Int) + off = (tgt : Int)) (kt : b < a → W p l e R s m args below meth c H locs cells slots Q (F0 m tgt ls rest)) (kf : a ≤ b → W p l e R s m args below meth c H locs cells slots Q (F0 m (pc + 3) ls rest)) : W p l e R s m args below meth c H locs cells slots Q (F0 m pc ls (.int (iI (cmpI a b)) :: rest)) :=
  j_if_gt hx hb d ht (cmpI_b a b) (fun h => kt (by have := cmpI_s a b; omega)) (fun h => kf (by have := cmpI_s a b; omega))
theorem j_ifc_le (hx : p.tables.exec = Jvm.exec) (hb : c.code = cc) {a b : Int} {off : Int} {tgt : Nat} (d : decode cc pc = .ok (.ifCond .le off, 3)) (ht : (pc : Int) + off = (tgt : Int)) (kt : a ≤ b → W p l e R s m args below meth c H locs cells slots Q (F0 m tgt ls rest)) (kf : b < a → W p l e R s m args below meth c H locs cells slots Q (F0 m (pc + 3) ls rest)) : W p l e R s m args below meth c H locs cells slots Q (F0 m pc ls (.int (iI (cmpI a b)) :: rest)) :=
  j_if_le hx hb d ht (cmpI_b a b) (fun h => kt (by have := cmpI_s a b; omega)) (fun h => kf (by have := cmpI_s a b; omega))
theorem j_tableOut (hx : p.tables.exec = Jvm.exec) (hb : c.code = cc) {dflt lo hi : Int} {offs : Array Int} {len : Nat} {z : Int} {tgt : Nat} (d : decode cc pc = .ok (.tableswitch dflt lo hi offs, len)) (hz : -2147483648 ≤ z ∧ z ≤ 2147483647) (h : z < lo ∨ hi < z) (ht : (pc : Int) + dflt = (tgt : Int)) (k : W p l e R s m args below meth c H locs cells slots Q (F0 m tgt ls rest)) : W p l e R s m args below meth c H locs cells slots Q (F0 m pc ls (.int (iI z) :: rest)) := lv_tableOut hx hb d (by rw [iI_T hz]; exact h) ht k
theorem j_tableIn (hx : p.tables.exec = Jvm.exec) (hb : c.code = cc) {dflt lo hi : Int} {offs : Array Int} {len : Nat} {z0 : Int} (i : Nat) {z : Int} {off : Int} {tgt : Nat} (d : decode cc pc = .ok (.tableswitch dflt lo hi offs, len)) (h0 : z0 = z) (hz : -2147483648 ≤ z ∧ z ≤ 2147483647 ∧ lo ≤ z ∧ z ≤ hi) (hi2 : (z - lo).toNat = i) (ho : offs[i]? = some off) (ht : (pc : Int) + off = (tgt : Int)) (k : W p l e R s m args below meth c H locs cells slots Q (F0 m tgt ls rest)) : W p l e R s m args below meth c H locs cells slots Q (F0 m pc ls (.int (iI z0) :: rest)) := by
  subst h0
  refine lv_tableIn hx hb d (off := off) ?_ ?_ ?_ ht k
  · rw [iI_T (by omega)]; omega
  · rw [iI_T (by omega)]; omega
  · rw [iI_T (by omega), hi2]; exact ho
theorem j_aload_n (hx : p.tables.exec = Jvm.exec) (hb : c.code = cc) {k : Fin 4} {i : Nat} {x : Option Nat} (d : decode cc pc = .ok (.aload_n k, 1)) (hi : (k : Nat) = i) (hl : ls[i]? = some (.val (va_rf x))) (kk : W p l e R s m args below meth c H locs cells slots Q (F0 m (pc + 1) ls (va_rf x :: rest))) : W p l e R s m args below meth c H locs cells slots Q (F0 m pc ls rest) := by
  cases x with
  | none => exact lv_aload_nN hx hb d hi hl kk
  | some x => exact lv_aload_n hx hb d hi hl kk
theorem j_aload (hx : p.tables.exec = Jvm.exec) (hb : c.code = cc) {i : Nat} {x : Option Nat} (d : decode cc pc = .ok (.aload i, 2)) (hl : ls[i]? = some (.val (va_rf x))) (kk : W p l e R s m args below meth c H locs cells slots Q (F0 m (pc + 2) ls (va_rf x :: rest))) : W p l e R s m args below meth c H locs cells slots Q (F0 m pc ls rest) := by
  cases x with
  | none => exact lv_aloadN hx hb d hl kk
  | some x => exact lv_aload hx hb d hl kk
/-- fields -/
theorem j_get {a0 t ci index : Nat} {fs : List Value} {C own ref : String} {T : u_T} {N : Nat} (hx : p.tables.exec = Jvm.exec) (hb : c.code = cc) (hts : ∀ w ∈ lw_all, w.before args s = true) (hown : s.vm.findClass own = some m.cls) (hV : jV E s) (hH : jH E H0 w H locs) (hw : w a0 = some (t, .inr (ci, fs))) (hc : vwCl[ci]? = some (C, T, N)) (hin : ∀ w ∈ u_ws C T N, w ∈ lw_all) (k : Nat) (hk : k < N) (hlink : Cond.fieldLink own index ref (T k).2.1 (T k).2.2.1 ∈ lw_all) (hsame : ∀ x, s.fieldFound? (T k).1 (T k).2.1 (T k).2.2.1 = some x → s.fieldFound? ref (T k).2.1 (T k).2.2.1 = some x) {v : Value} (hv : fs[k]? = some v) (d : decode cc pc = .ok (.getfield index, 3))
    (kk : W p l e R s m args below meth c H locs cells slots Q (F0 m (pc + 3) ls (v :: rest))) : W p l e R s m args below meth c H locs cells slots Q (F0 m pc ls (.ref a0 :: rest)) := by
  obtain ⟨r, h1, cell, q1, q2, q3, q4⟩ := (hH.1.1 a0 t _ hw).1
  have hr : r = (C, T, N) := Option.some.inj (h1.symm.trans hc)
  subst hr
  obtain ⟨hS, hfc, kC, hkC, hkind⟩ := hV.1.1 ci _ hc
  obtain ⟨cf, kf, fi, f, hi, hsl⟩ := hS k hk
  refine W.getf hx hb hown (hts _ hlink) (hsame _ hi) (u_facts hfc hkC (u_lays hts hin hk) hi).1 q1 (by rw [q3]; exact fun h => by cases h) (v := v) ?_ rfl rfl d kk
  rw [hsl, q4 k hk]
  simp [vp_V, hv]
theorem j_put {a0 t ci index : Nat} {fs : List Value} {C own ref : String} {T : u_T} {N : Nat} (hx : p.tables.exec = Jvm.exec) (hb : c.code = cc) (hts : ∀ w ∈ lw_all, w.before args s = true) (hown : s.vm.findClass own = some m.cls) (hV : jV E s) (hH : jH E H0 w H locs) (hw : w a0 = some (t, .inr (ci, fs))) (hc : vwCl[ci]? = some (C, T, N)) (hin : ∀ w ∈ u_ws C T N, w ∈ lw_all) (ty0 : Nat → FieldType) (hty : ∀ k, k < N → parseFieldDescriptor (T k).2.2.1 = some (ty0 k)) (hnm : ∀ a, a < N → ∀ b, b < N → a ≠ b → (T a).2.1 ≠ (T b).2.1) (k : Nat) (hk : k < N) (hlink : Cond.fieldLink own index ref (T k).2.1 (T k).2.2.1 ∈ lw_all) (hsame : ∀ x, s.fieldFound? (T k).1 (T k).2.1 (T k).2.2.1 = some x → s.fieldFound? ref (T k).2.1 (T k).2.2.1 = some x) (hfin : (T k).2.2.2 = false) {v : Value} (hn : narrow (ty0 k) v = v) (hfit : fits (ty0 k) v = true) (hl : k < fs.length) (d : decode cc pc = .ok (.putfield index, 3))
    (kk : ∀ (H1 : Heap) (locs1 : List Loc), jH E H0 (up w a0 (t, .inr (ci, fs.set k v))) H1 locs1 → W p l e R s m args below meth c H1 locs1 cells slots Q (F0 m (pc + 3) ls rest)) : W p l e R s m args below meth c H locs cells slots Q (F0 m pc ls (v :: .ref a0 :: rest)) := by
  have hap := va_apart (own := own) hts hin ty0 hty hnm hV.1 hc
  obtain ⟨r, h1, cell, q1, q2, q3, q4⟩ := (hH.1.1 a0 t _ hw).1
  have hr : r = (C, T, N) := Option.some.inj (h1.symm.trans hc)
  subst hr
  obtain ⟨hS, hfc, kC, hkC, hkind⟩ := hV.1.1 ci _ hc
  obtain ⟨cf, kf, fi, f, hi, hsl⟩ := hS k hk
  have hlay := hts _ (hin _ (u_in_lay hk))
  unfold u_lay at hlay
  rw [if_neg (by rw [hfin]; decide)] at hlay
  have hst := (u_facts hfc hkC (u_lays hts hin hk) hi).1
  have h6 := u_store hfc hkC hkind hlay hi (hty k hk) hn hfit
  refine W.putK hx hb (f := f) ⟨hown, hts _ hlink, ⟨_, _, _, hsame _ hi⟩, hst⟩ (by rw [q2]; exact h6) q1 q3 (by rw [hsl]; exact k2_hasslot (q4 k hk)) rfl rfl d fun H' e1 e2 e3 => ?_
  rw [hsl] at e1 ⊢
  exact kk H' _ (hH.put e2 e3 hw ⟨_, hc, t_OB.to (V := updV (vp_V fs) k v) ⟨_, e1, q2, q3, t_set q4 hap hk v⟩ (fun j _ => vp_updV_set hl v j)⟩)
theorem j_putF {a0 t ci index : Nat} {fs : List Value} {C own ref : String} {T : u_T} {N : Nat} (hx : p.tables.exec = Jvm.exec) (hb : c.code = cc) (hts : ∀ w ∈ lw_all, w.before args s = true) (hown : s.vm.findClass own = some m.cls) (hV : jV E s) (hH : jH E H0 w H locs) (hw : w a0 = some (t, .inr (ci, fs))) (hc : vwCl[ci]? = some (C, T, N)) (hin : ∀ w ∈ u_ws C T N, w ∈ lw_all) (ty0 : Nat → FieldType) (hty : ∀ k, k < N → parseFieldDescriptor (T k).2.2.1 = some (ty0 k)) (hnm : ∀ a, a < N → ∀ b, b < N → a ≠ b → (T a).2.1 ≠ (T b).2.1) (k : Nat) (hk : k < N) (hlink : Cond.fieldLink own index ref (T k).2.1 (T k).2.2.1 ∈ lw_all) (hsame : ∀ x, s.fieldFound? (T k).1 (T k).2.1 (T k).2.2.1 = some x → s.fieldFound? ref (T k).2.1 (T k).2.2.1 = some x) (hfin : (T k).2.2.2 = true) (hin2 : meth.name = "<init>") (hdecl : (T k).1 = own) {v : Value} (hn : narrow (ty0 k) v = v) (hfit : fits (ty0 k) v = true) (hl : k < fs.length) (d : decode cc pc = .ok (.putfield index, 3))
    (kk : ∀ (H1 : Heap) (locs1 : List Loc), jH E H0 (up w a0 (t, .inr (ci, fs.set k v))) H1 locs1 → W p l e R s m args below meth c H1 locs1 cells slots Q (F0 m (pc + 3) ls rest)) : W p l e R s m args below meth c H locs cells slots Q (F0 m pc ls (v :: .ref a0 :: rest)) := by
  have hap := va_apart (own := own) hts hin ty0 hty hnm hV.1 hc
  obtain ⟨r, h1, cell, q1, q2, q3, q4⟩ := (hH.1.1 a0 t _ hw).1
  have hr : r = (C, T, N) := Option.some.inj (h1.symm.trans hc)
  subst hr
  obtain ⟨hS, hfc, kC, hkC, hkind⟩ := hV.1.1 ci _ hc
  obtain ⟨cf, kf, fi, f, hi, hsl⟩ := hS k hk
  have hlay := hts _ (hin _ (u_in_lay hk))
  unfold u_lay at hlay
  rw [if_pos hfin] at hlay
  have hst := (u_facts hfc hkC (u_lays hts hin hk) hi).1
  have hcf : m.cls = cf := by
    obtain ⟨_, _, c', _, _, _, -, -, hf', -, -, -, hown2, -⟩ := Cond.laysFinal_spec hlay
    have e1 : c' = cf := by have := hi.symm.trans hf'; simp at this; exact this.1.symm
    rw [hdecl] at hown2
    rw [← e1]; exact Option.some.inj (hown.symm.trans hown2)
  have h6 := u_fits hfc hkC hkind (Or.inr hlay) hi (hty k hk) hn hfit
  refine W.putFinK hx hb hown (hts _ hlink) (hsame _ hi) hst hcf hin2 (by rw [q2]; exact h6) q1 q3 (by rw [hsl]; exact k2_hasslot (q4 k hk)) rfl rfl d fun H' e1 e2 e3 => ?_
  rw [hsl] at e1 ⊢
  exact kk H' _ (hH.put e2 e3 hw ⟨_, hc, t_OB.to (V := updV (vp_V fs) k v) ⟨_, e1, q2, q3, t_set q4 hap hk v⟩ (fun j _ => vp_updV_set hl v j)⟩)
/-- new -/
theorem j_new {C own : String} {T : u_T} {N ci index : Nat} (hx : p.tables.exec = Jvm.exec) (hb : c.code = cc) (hts : ∀ w ∈ lw_all, w.before args s = true) (hown : s.vm.findClass own = some m.cls) (hV : jV E s) (hH : jH E H0 w H locs) (hc : vwCl[ci]? = some (C, T, N)) (hin : ∀ w ∈ u_ws C T N, w ∈ lw_all) (ty : Nat → FieldType) (hty : ∀ k, k < N → parseFieldDescriptor (T k).2.2.1 = some (ty k)) (hcl : Cond.classLink own index C ∈ lw_all) (hinst : Cond.instantiable C N ∈ lw_all) (hini : Cond.initialized C ∈ lw_all) (fs : List Value) (hfs : ∀ j, j < N → defaultValue (ty j) = vp_V fs j) (hcells : cells + 1 ≤ R.cells) (hslots : slots + N ≤ R.slots) (d : decode cc pc = .ok (.new index, 3))
    (kk : ∀ (q : Nat) (H1 : Heap), q = H.size → H1.size = q + 1 → w q = none → (∀ t : Nat, jH E H0 (up w q (t, .inr (ci, fs))) H1 locs) → W p l e R s m args below meth c H1 locs (cells + 1) (slots + N) Q (F0 m (pc + 3) ls (.ref q :: rest))) : W p l e R s m args below meth c H locs cells slots Q (F0 m pc ls rest) := by
  have hKn := hV.1.1 ci _ hc
  refine W.newcK hx hb hown (hts _ hcl) (hts _ hinst) (hts _ hini) rfl d hcells hslots hKn.2.1 rfl fun H1 kC hkC e1 z1 o1 => ?_
  exact kk H.size H1 rfl z1 (hH.1.fresh (Nat.le_refl _)) (fun t => hH.new z1 o1 ⟨_, hc, (u_born ty hts hin hKn hkC e1 hty).to hfs⟩)
/-- Object's constructor -/
theorem j_oinit (hx : p.tables.exec = Jvm.exec) (hb : c.code = cc) {own : String} {idx nL : Nat} {a0 : Nat} (hts : ∀ w ∈ lw_all, w.before args s = true) (hown : s.vm.findClass own = some m.cls) (hml : c.maxLocals = nL) (hlink : Cond.methodLink own idx Lib.objectInit ∈ lw_all) (h1 : Cond.instanceMethod Lib.objectInit ∈ lw_all) (h2 : Cond.code Lib.objectInit ⟨#[0xb1]⟩ 1 none ∈ lw_all) (hsize : ls.size = nL) (d : decode cc pc = .ok (.invokespecial idx, 3)) (hf : 1 ≤ R.frames) (hlo : (rest.map fun v => v.category).sum + 12 ≤ R.locals)
    (kk : W p l e R s m args below meth c H locs cells slots Q (F0 m (pc + 3) ls rest)) : W p l e R s m args below meth c H locs cells slots Q (F0 m pc ls (.ref a0 :: rest)) :=
  W.objInit hx hb hown (hts _ hlink) (hts _ h1) (hts _ h2) rfl (by rw [hml]; exact hsize) rfl d hf (by show 2 * 0 + _ + 12 ≤ _; omega) kk
theorem j_iald {a0 t n : Nat} {g : Int → Int} {z : Int} (hx : p.tables.exec = Jvm.exec) (hb : c.code = cc) (hV : jV E s) (hH : jH E H0 w H locs) (hw : w a0 = some (t, arI E n g)) (hz : 0 ≤ z ∧ z < (n : Int)) (hn : z ≤ 2147483647) (d : decode cc pc = .ok (.iaload, 1)) (kk : W p l e R s m args below meth c H locs cells slots Q (F0 m (pc + 1) ls (.int (iI (g z)) :: rest))) : W p l e R s m args below meth c H locs cells slots Q (F0 m pc ls (.int (iI z) :: .ref a0 :: rest)) := by
  have h : H[a0]? = some (vp_cell _ _) := (hH.1.1 a0 t _ hw).1
  have hA := (hV.1.2 0 (E.2.1 0, .int) rfl).1
  have hlt : (iI z).toNatClampNeg < n := by rw [iI_clN hz.1 hn]; omega
  have hc : g (((iI z).toNatClampNeg : Nat) : Int) = g z := by rw [iI_cl hz.1 hn]
  refine W.iald (v := .int (iI (g z))) hx hb h (hA n (fun j => .int (iI (g (j : Int))))) (fun q => by cases q) (by show ¬ (iI z < 0 ∨ (arrV _ _ _).slots.size ≤ _); rw [arrV_size]; exact iI_in hz hn) (by show (arrV _ _ _).slots[_]? = _; rw [arrV_read _ _ hlt]; exact congrArg (fun x => some (Value.int (iI x))) hc) rfl rfl d kk
theorem j_bald {a0 t n : Nat} {g : Int → Int} {z : Int} (hx : p.tables.exec = Jvm.exec) (hb : c.code = cc) (hV : jV E s) (hH : jH E H0 w H locs) (hw : w a0 = some (t, arB E n g)) (hz : 0 ≤ z ∧ z < (n : Int)) (hn : z ≤ 2147483647) (d : decode cc pc = .ok (.baload, 1)) (kk : W p l e R s m args below meth c H locs cells slots Q (F0 m (pc + 1) ls (.int (iI (g z)) :: rest))) : W p l e R s m args below meth c H locs cells slots Q (F0 m pc ls (.int (iI z) :: .ref a0 :: rest)) := by
  have h : H[a0]? = some (vp_cell _ _) := (hH.1.1 a0 t _ hw).1
  have hA := (hV.1.2 1 (E.2.1 1, .byte) rfl).1
  have hlt : (iI z).toNatClampNeg < n := by rw [iI_clN hz.1 hn]; omega
  have hc : g (((iI z).toNatClampNeg : Nat) : Int) = g z := by rw [iI_cl hz.1 hn]
  refine W.bald (v := .int (iI (g z))) hx hb h (hA n (fun j => .int (iI (g (j : Int))))) (fun q => by cases q) (by show ¬ (iI z < 0 ∨ (arrV _ _ _).slots.size ≤ _); rw [arrV_size]; exact iI_in hz hn) (by show (arrV _ _ _).slots[_]? = _; rw [arrV_read _ _ hlt]; exact congrArg (fun x => some (Value.int (iI x))) hc) rfl rfl d kk
theorem j_lald {a0 t n : Nat} {g : Int → Int} {z : Int} (hx : p.tables.exec = Jvm.exec) (hb : c.code = cc) (hV : jV E s) (hH : jH E H0 w H locs) (hw : w a0 = some (t, arL E n g)) (hz : 0 ≤ z ∧ z < (n : Int)) (hn : z ≤ 2147483647) (d : decode cc pc = .ok (.laload, 1)) (kk : W p l e R s m args below meth c H locs cells slots Q (F0 m (pc + 1) ls (.long (lL (g z)) :: rest))) : W p l e R s m args below meth c H locs cells slots Q (F0 m pc ls (.int (iI z) :: .ref a0 :: rest)) := by
  have h : H[a0]? = some (vp_cell _ _) := (hH.1.1 a0 t _ hw).1
  have hA := (hV.1.2 2 (E.2.1 2, .long) rfl).1
  have hlt : (iI z).toNatClampNeg < n := by rw [iI_clN hz.1 hn]; omega
  have hc : g (((iI z).toNatClampNeg : Nat) : Int) = g z := by rw [iI_cl hz.1 hn]
  refine W.lald (v := .long (lL (g z))) hx hb h (hA n (fun j => .long (lL (g (j : Int))))) (fun q => by cases q) (by show ¬ (iI z < 0 ∨ (arrV _ _ _).slots.size ≤ _); rw [arrV_size]; exact iI_in hz hn) (by show (arrV _ _ _).slots[_]? = _; rw [arrV_read _ _ hlt]; exact congrArg (fun x => some (Value.long (lL x))) hc) rfl rfl d kk
theorem j_aald {a0 t n : Nat} {g : Int → Option Nat} {z : Int} (hx : p.tables.exec = Jvm.exec) (hb : c.code = cc) (hV : jV E s) (hH : jH E H0 w H locs) (hw : w a0 = some (t, arQ E n g)) (hz : 0 ≤ z ∧ z < (n : Int)) (hn : z ≤ 2147483647) (d : decode cc pc = .ok (.aaload, 1)) (kk : W p l e R s m args below meth c H locs cells slots Q (F0 m (pc + 1) ls (va_rf (g z) :: rest))) : W p l e R s m args below meth c H locs cells slots Q (F0 m pc ls (.int (iI z) :: .ref a0 :: rest)) := by
  have h : H[a0]? = some (vp_cell _ _) := (hH.1.1 a0 t _ hw).1
  have hA := (hV.1.2 3 (E.2.1 3, .object "java/lang/Object") rfl).1
  have hlt : (iI z).toNatClampNeg < n := by rw [iI_clN hz.1 hn]; omega
  have hc : g (((iI z).toNatClampNeg : Nat) : Int) = g z := by rw [iI_cl hz.1 hn]
  refine W.aald (ty := .object "java/lang/Object") (v := va_rf (g z)) hx hb h (hA n (fun j => va_rf (g (j : Int)))) rfl (fun q => by cases q) (by show ¬ (iI z < 0 ∨ (arrV _ _ _).slots.size ≤ _); rw [arrV_size]; exact iI_in hz hn) (by show (arrV _ _ _).slots[_]? = _; rw [arrV_read _ _ hlt]; exact congrArg (fun x => some (va_rf x)) hc) rfl rfl d kk
theorem j_dald {a0 t n : Nat} {g : Int → UInt64} {z : Int} (hx : p.tables.exec = Jvm.exec) (hb : c.code = cc) (hV : jV E s) (hH : jH E H0 w H locs) (hw : w a0 = some (t, arD E n g)) (hz : 0 ≤ z ∧ z < (n : Int)) (hn : z ≤ 2147483647) (d : decode cc pc = .ok (.daload, 1)) (kk : W p l e R s m args below meth c H locs cells slots Q (F0 m (pc + 1) ls (.double (g z) :: rest))) : W p l e R s m args below meth c H locs cells slots Q (F0 m pc ls (.int (iI z) :: .ref a0 :: rest)) := by
  have h : H[a0]? = some (vp_cell _ _) := (hH.1.1 a0 t _ hw).1
  have hA := (hV.1.2 4 (E.2.1 4, .double) rfl).1
  have hlt : (iI z).toNatClampNeg < n := by rw [iI_clN hz.1 hn]; omega
  have hc : g (((iI z).toNatClampNeg : Nat) : Int) = g z := by rw [iI_cl hz.1 hn]
  refine W.dald (v := .double (g z)) hx hb h (hA n (fun j => .double (g (j : Int)))) (fun q => by cases q) (by show ¬ (iI z < 0 ∨ (arrV _ _ _).slots.size ≤ _); rw [arrV_size]; exact iI_in hz hn) (by show (arrV _ _ _).slots[_]? = _; rw [arrV_read _ _ hlt]; exact congrArg (fun x => some (Value.double x)) hc) rfl rfl d kk
theorem j_iast {a0 t n : Nat} {g : Int → Int} {z : Int} {x : Int} (hx : p.tables.exec = Jvm.exec) (hb : c.code = cc) (hV : jV E s) (hH : jH E H0 w H locs) (hw : w a0 = some (t, arI E n g)) (hz : 0 ≤ z ∧ z < (n : Int)) (hn : z ≤ 2147483647) (d : decode cc pc = .ok (.iastore, 1)) (kk : ∀ (H1 : Heap) (locs1 : List Loc), jH E H0 (up w a0 (t, arI E n (upz g z x))) H1 locs1 → W p l e R s m args below meth c H1 locs1 cells slots Q (F0 m (pc + 1) ls rest)) : W p l e R s m args below meth c H locs cells slots Q (F0 m pc ls (.int (iI x) :: .int (iI z) :: .ref a0 :: rest)) := by
  have h : H[a0]? = some (vp_cell _ _) := (hH.1.1 a0 t _ hw).1
  have hA := (hV.1.2 0 (E.2.1 0, .int) rfl).1
  refine W.iast hx hb h (hA n (fun j => .int (iI (g (j : Int))))) (fun q => by cases q) (by show ¬ (iI z < 0 ∨ (arrV _ _ _).slots.size ≤ _); rw [arrV_size]; exact iI_in hz hn) rfl rfl d fun H1 e1 z1 oq => ?_
  refine kk H1 _ (hH.put z1 oq hw ?_)
  show H1[a0]? = some (vp_cell _ _)
  rw [e1, vp_cell_i, vp_cell_i, arrV_store]
  congr 2
  funext q
  by_cases hq : q = (iI z).toNatClampNeg
  · have hq2 : (q : Int) = z := by rw [hq, iI_cl hz.1 hn]
    subst hq
    simp [updV, upz, hq2]
  · have hq2 : (q : Int) ≠ z := by
      intro h2
      have h3 := iI_cl hz.1 hn
      omega
    simp [updV, upz, hq, hq2]
theorem j_bast {a0 t n : Nat} {g : Int → Int} {z : Int} {x : Int} (hx : p.tables.exec = Jvm.exec) (hb : c.code = cc) (hV : jV E s) (hH : jH E H0 w H locs) (hw : w a0 = some (t, arB E n g)) (hz : 0 ≤ z ∧ z < (n : Int)) (hn : z ≤ 2147483647) (hx8 : -128 ≤ x ∧ x ≤ 127) (d : decode cc pc = .ok (.bastore, 1)) (kk : ∀ (H1 : Heap) (locs1 : List Loc), jH E H0 (up w a0 (t, arB E n (upz g z x))) H1 locs1 → W p l e R s m args below meth c H1 locs1 cells slots Q (F0 m (pc + 1) ls rest)) : W p l e R s m args below meth c H locs cells slots Q (F0 m pc ls (.int (iI x) :: .int (iI z) :: .ref a0 :: rest)) := by
  have h : H[a0]? = some (vp_cell _ _) := (hH.1.1 a0 t _ hw).1
  have hA := (hV.1.2 1 (E.2.1 1, .byte) rfl).1
  refine W.bast hx hb h (hA n (fun j => .int (iI (g (j : Int))))) (fun q => by cases q) (by show ¬ (iI z < 0 ∨ (arrV _ _ _).slots.size ≤ _); rw [arrV_size]; exact iI_in hz hn) rfl rfl d fun H1 e1 z1 oq => ?_
  refine kk H1 _ (hH.put z1 oq hw ?_)
  show H1[a0]? = some (vp_cell _ _)
  rw [e1, vp_cell_i, vp_cell_i, arrV_store]
  congr 2
  funext q
  by_cases hq : q = (iI z).toNatClampNeg
  · have hq2 : (q : Int) = z := by rw [hq, iI_cl hz.1 hn]
    subst hq
    simp [updV, upz, hq2, nar_b8 hx8]
  · have hq2 : (q : Int) ≠ z := by
      intro h2
      have h3 := iI_cl hz.1 hn
      omega
    simp [updV, upz, hq, hq2]
theorem j_last {a0 t n : Nat} {g : Int → Int} {z : Int} {x : Int} (hx : p.tables.exec = Jvm.exec) (hb : c.code = cc) (hV : jV E s) (hH : jH E H0 w H locs) (hw : w a0 = some (t, arL E n g)) (hz : 0 ≤ z ∧ z < (n : Int)) (hn : z ≤ 2147483647) (d : decode cc pc = .ok (.lastore, 1)) (kk : ∀ (H1 : Heap) (locs1 : List Loc), jH E H0 (up w a0 (t, arL E n (upz g z x))) H1 locs1 → W p l e R s m args below meth c H1 locs1 cells slots Q (F0 m (pc + 1) ls rest)) : W p l e R s m args below meth c H locs cells slots Q (F0 m pc ls (.long (lL x) :: .int (iI z) :: .ref a0 :: rest)) := by
  have h : H[a0]? = some (vp_cell _ _) := (hH.1.1 a0 t _ hw).1
  have hA := (hV.1.2 2 (E.2.1 2, .long) rfl).1
  refine W.last hx hb h (hA n (fun j => .long (lL (g (j : Int))))) (fun q => by cases q) (by show ¬ (iI z < 0 ∨ (arrV _ _ _).slots.size ≤ _); rw [arrV_size]; exact iI_in hz hn) rfl rfl d fun H1 e1 z1 oq => ?_
  refine kk H1 _ (hH.put z1 oq hw ?_)
  show H1[a0]? = some (vp_cell _ _)
  rw [e1, vp_cell_l, vp_cell_l, arrV_store]
  congr 2
  funext q
  by_cases hq : q = (iI z).toNatClampNeg
  · have hq2 : (q : Int) = z := by rw [hq, iI_cl hz.1 hn]
    subst hq
    simp [updV, upz, hq2]
  · have hq2 : (q : Int) ≠ z := by
      intro h2
      have h3 := iI_cl hz.1 hn
      omega
    simp [updV, upz, hq, hq2]
theorem j_dast {a0 t n : Nat} {g : Int → UInt64} {z : Int} {x : UInt64} (hx : p.tables.exec = Jvm.exec) (hb : c.code = cc) (hV : jV E s) (hH : jH E H0 w H locs) (hw : w a0 = some (t, arD E n g)) (hz : 0 ≤ z ∧ z < (n : Int)) (hn : z ≤ 2147483647) (d : decode cc pc = .ok (.dastore, 1)) (kk : ∀ (H1 : Heap) (locs1 : List Loc), jH E H0 (up w a0 (t, arD E n (upz g z x))) H1 locs1 → W p l e R s m args below meth c H1 locs1 cells slots Q (F0 m (pc + 1) ls rest)) : W p l e R s m args below meth c H locs cells slots Q (F0 m pc ls (.double x :: .int (iI z) :: .ref a0 :: rest)) := by
  have h : H[a0]? = some (vp_cell _ _) := (hH.1.1 a0 t _ hw).1
  have hA := (hV.1.2 4 (E.2.1 4, .double) rfl).1
  refine W.dast hx hb h (hA n (fun j => .double (g (j : Int)))) (fun q => by cases q) (by show ¬ (iI z < 0 ∨ (arrV _ _ _).slots.size ≤ _); rw [arrV_size]; exact iI_in hz hn) rfl rfl d fun H1 e1 z1 oq => ?_
  refine kk H1 _ (hH.put z1 oq hw ?_)
  show H1[a0]? = some (vp_cell _ _)
  rw [e1, vp_cell_d, vp_cell_d, arrV_store]
  congr 2
  funext q
  by_cases hq : q = (iI z).toNatClampNeg
  · have hq2 : (q : Int) = z := by rw [hq, iI_cl hz.1 hn]
    subst hq
    simp [updV, upz, hq2]
  · have hq2 : (q : Int) ≠ z := by
      intro h2
      have h3 := iI_cl hz.1 hn
      omega
    simp [updV, upz, hq, hq2]
theorem j_alen {a0 t t0 : Nat} {cA : ClassId} {x : vp_A} {ty : FieldType} (hx : p.tables.exec = Jvm.exec) (hb : c.code = cc) (hV : jV E s) (hH : jH E H0 w H locs) (hw : w a0 = some (t, .inl (cA, x))) (ht : (jTys E)[t0]? = some (cA, ty)) (d : decode cc pc = .ok (.arraylength, 1)) (kk : W p l e R s m args below meth c H locs cells slots Q (F0 m (pc + 1) ls (.int (iI (x.1 : Int)) :: rest))) : W p l e R s m args below meth c H locs cells slots Q (F0 m pc ls (.ref a0 :: rest)) := by
  have h := (hH.1.1 a0 t _ hw).1
  have hP : va_P E.1 vwCl [(a0, .inl (cA, x))] H := by
    intro k q hk
    cases k with
    | zero => cases hk; exact h
    | succ k => simp at hk
  exact va_alen hx hb hV.1 hP 0 t0 rfl ht (iI_nat _).symm d kk
theorem j_newi {n : Int} (hx : p.tables.exec = Jvm.exec) (hb : c.code = cc) (hts : ∀ w ∈ lw_all, w.before args s = true) (hV : jV E s) (hH : jH E H0 w H locs) (harr : Cond.arrayClass .int ∈ lw_all) (hn : 0 ≤ n ∧ n ≤ 1000000) (hcells : cells + 1 ≤ R.cells) (hslots : slots + n.toNat ≤ R.slots) (d : decode cc pc = .ok (.newarray .int, 2))
    (kk : ∀ (q : Nat) (H1 : Heap), q = H.size → H1.size = q + 1 → w q = none → (∀ t : Nat, jH E H0 (up w q (t, arI E n.toNat (fun _ => 0))) H1 locs) → W p l e R s m args below meth c H1 locs (cells + 1) (slots + n.toNat) Q (F0 m (pc + 2) ls (.ref q :: rest))) : W p l e R s m args below meth c H locs cells slots Q (F0 m pc ls (.int (iI n) :: rest)) := by
  refine va_newaK (atype := .int) hx hb (hts _ harr) rfl d rfl (by rw [← iI_0, iI_lt (by omega) (by omega)]; omega) (iI_clN hn.1 (by omega)) (by show n.toNat * 4 ≤ _; omega) hcells hslots rfl fun H1 cA e1 z1 o1 hAr hNm => ?_
  have hcA : cA = E.2.1 0 := Option.some.inj (hNm.symm.trans (hV.1.2 0 (E.2.1 0, .int) rfl).2)
  subst hcA
  refine kk H.size H1 rfl z1 (hH.1.fresh (Nat.le_refl _)) (fun t => hH.new z1 o1 ?_)
  show H1[H.size]? = some (vp_cell _ _)
  rw [e1, vp_cell_i]
  rfl
theorem j_newb {n : Int} (hx : p.tables.exec = Jvm.exec) (hb : c.code = cc) (hts : ∀ w ∈ lw_all, w.before args s = true) (hV : jV E s) (hH : jH E H0 w H locs) (harr : Cond.arrayClass .byte ∈ lw_all) (hn : 0 ≤ n ∧ n ≤ 1000000) (hcells : cells + 1 ≤ R.cells) (hslots : slots + n.toNat ≤ R.slots) (d : decode cc pc = .ok (.newarray .byte, 2))
    (kk : ∀ (q : Nat) (H1 : Heap), q = H.size → H1.size = q + 1 → w q = none → (∀ t : Nat, jH E H0 (up w q (t, arB E n.toNat (fun _ => 0))) H1 locs) → W p l e R s m args below meth c H1 locs (cells + 1) (slots + n.toNat) Q (F0 m (pc + 2) ls (.ref q :: rest))) : W p l e R s m args below meth c H locs cells slots Q (F0 m pc ls (.int (iI n) :: rest)) := by
  refine va_newaK (atype := .byte) hx hb (hts _ harr) rfl d rfl (by rw [← iI_0, iI_lt (by omega) (by omega)]; omega) (iI_clN hn.1 (by omega)) (by show n.toNat * 1 ≤ _; omega) hcells hslots rfl fun H1 cA e1 z1 o1 hAr hNm => ?_
  have hcA : cA = E.2.1 1 := Option.some.inj (hNm.symm.trans (hV.1.2 1 (E.2.1 1, .byte) rfl).2)
  subst hcA
  refine kk H.size H1 rfl z1 (hH.1.fresh (Nat.le_refl _)) (fun t => hH.new z1 o1 ?_)
  show H1[H.size]? = some (vp_cell _ _)
  rw [e1, vp_cell_i]
  rfl
theorem j_newl {n : Int} (hx : p.tables.exec = Jvm.exec) (hb : c.code = cc) (hts : ∀ w ∈ lw_all, w.before args s = true) (hV : jV E s) (hH : jH E H0 w H locs) (harr : Cond.arrayClass .long ∈ lw_all) (hn : 0 ≤ n ∧ n ≤ 1000000) (hcells : cells + 1 ≤ R.cells) (hslots : slots + n.toNat ≤ R.slots) (d : decode cc pc = .ok (.newarray .long, 2))
    (kk : ∀ (q : Nat) (H1 : Heap), q = H.size → H1.size = q + 1 → w q = none → (∀ t : Nat, jH E H0 (up w q (t, arL E n.toNat (fun _ => 0))) H1 locs) → W p l e R s m args below meth c H1 locs (cells + 1) (slots + n.toNat) Q (F0 m (pc + 2) ls (.ref q :: rest))) : W p l e R s m args below meth c H locs cells slots Q (F0 m pc ls (.int (iI n) :: rest)) := by
  refine va_newaK (atype := .long) hx hb (hts _ harr) rfl d rfl (by rw [← iI_0, iI_lt (by omega) (by omega)]; omega) (iI_clN hn.1 (by omega)) (by show n.toNat * 8 ≤ _; omega) hcells hslots rfl fun H1 cA e1 z1 o1 hAr hNm => ?_
  have hcA : cA = E.2.1 2 := Option.some.inj (hNm.symm.trans (hV.1.2 2 (E.2.1 2, .long) rfl).2)
  subst hcA
  refine kk H.size H1 rfl z1 (hH.1.fresh (Nat.le_refl _)) (fun t => hH.new z1 o1 ?_)
  show H1[H.size]? = some (vp_cell _ _)
  rw [e1, vp_cell_l]
  rfl
theorem j_newd {n : Int} (hx : p.tables.exec = Jvm.exec) (hb : c.code = cc) (hts : ∀ w ∈ lw_all, w.before args s = true) (hV : jV E s) (hH : jH E H0 w H locs) (harr : Cond.arrayClass .double ∈ lw_all) (hn : 0 ≤ n ∧ n ≤ 1000000) (hcells : cells + 1 ≤ R.cells) (hslots : slots + n.toNat ≤ R.slots) (d : decode cc pc = .ok (.newarray .double, 2))
    (kk : ∀ (q : Nat) (H1 : Heap), q = H.size → H1.size = q + 1 → w q = none → (∀ t : Nat, jH E H0 (up w q (t, arD E n.toNat (fun _ => 0))) H1 locs) → W p l e R s m args below meth c H1 locs (cells + 1) (slots + n.toNat) Q (F0 m (pc + 2) ls (.ref q :: rest))) : W p l e R s m args below meth c H locs cells slots Q (F0 m pc ls (.int (iI n) :: rest)) := by
  refine va_newaK (atype := .double) hx hb (hts _ harr) rfl d rfl (by rw [← iI_0, iI_lt (by omega) (by omega)]; omega) (iI_clN hn.1 (by omega)) (by show n.toNat * 8 ≤ _; omega) hcells hslots rfl fun H1 cA e1 z1 o1 hAr hNm => ?_
  have hcA : cA = E.2.1 4 := Option.some.inj (hNm.symm.trans (hV.1.2 4 (E.2.1 4, .double) rfl).2)
  subst hcA
  refine kk H.size H1 rfl z1 (hH.1.fresh (Nat.le_refl _)) (fun t => hH.new z1 o1 ?_)
  show H1[H.size]? = some (vp_cell _ _)
  rw [e1, vp_cell_d]
  rfl
end JROWS
