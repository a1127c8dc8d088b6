/-! z: ints by their mathematical value -/
set_option maxRecDepth 100000
def rng (z : Int) : Prop := -2147483648 ≤ z ∧ z ≤ 2147483647
def iI (z : Int) : Int32 := Int32.ofInt z
theorem iI_add (a b : Int) : iI a + iI b = iI (a + b) := (Int32.ofInt_add a b).symm
theorem iI_sub (a b : Int) : iI a - iI b = iI (a - b) := (Int32.ofInt_sub a b).symm
theorem iI_mul (a b : Int) : iI a * iI b = iI (a * b) := (Int32.ofInt_mul a b).symm
theorem iI_neg (a : Int) : -iI a = iI (-a) := (Int32.ofInt_neg a).symm
theorem iI_nat (n : Nat) : iI (n : Int) = nI n := rfl
theorem iI_toInt {z : Int} (h : rng z) : (iI z).toInt = z := Int32.toInt_ofInt_of_le h.1 (by have := h.2; omega)
theorem iI_ex (x : Int32) : ∃ z, rng z ∧ x = iI z := ⟨x.toInt, ⟨Int32.le_toInt x, by have := Int32.toInt_lt x; omega⟩, (Int32.ofInt_toInt x).symm⟩
theorem iI_le {a b : Int} (ha : rng a) (hb : rng b) : iI a ≤ iI b ↔ a ≤ b := by
  rw [Int32.le_iff_toInt_le, iI_toInt ha, iI_toInt hb]
theorem iI_lt {a b : Int} (ha : rng a) (hb : rng b) : iI a < iI b ↔ a < b := by
  rw [Int32.lt_iff_toInt_lt, iI_toInt ha, iI_toInt hb]
theorem iI_eq {a b : Int} (ha : rng a) (hb : rng b) : iI a = iI b ↔ a = b := by
  rw [← Int32.toInt_inj, iI_toInt ha, iI_toInt hb]
theorem rng_0 : rng 0 := by unfold rng; omega
theorem rng_n {n : Nat} (h : n < 2 ^ 31) : rng (n : Int) := by unfold rng; omega
theorem iI_cl {E : Int} (n : Nat) (h : E = (n : Int)) (hn : n < 2 ^ 31) : (iI E).toNatClampNeg = n := by
  rw [h, iI_nat]; exact nI_clamp hn
theorem iI_in {E : Int} (n : Nat) {N : Nat} (h : E = (n : Int)) (hn : n < N) (hN : N < 2 ^ 31) : vp_in (iI E) N := by
  rw [h, iI_nat]; exact vp_in_nI hn hN
theorem iI_div {a b : Int} (ha : 0 ≤ a) (ha2 : a ≤ 2147483647) (hb : 0 < b) (hb2 : b ≤ 2147483647) : iI a / iI b = iI (a / b) := by
  obtain ⟨x, rfl⟩ := Int.eq_ofNat_of_zero_le ha
  obtain ⟨y, rfl⟩ := Int.eq_ofNat_of_zero_le (Int.le_of_lt hb)
  rw [iI_nat, iI_nat, pk_div (by omega) (by omega) (by omega)]
  rfl
theorem iI_rem {a b : Int} (ha : 0 ≤ a) (ha2 : a ≤ 2147483647) (hb : 0 < b) (hb2 : b ≤ 2147483647) : iI a - iI a / iI b * iI b = iI (a % b) := by
  obtain ⟨x, rfl⟩ := Int.eq_ofNat_of_zero_le ha
  obtain ⟨y, rfl⟩ := Int.eq_ofNat_of_zero_le (Int.le_of_lt hb)
  rw [iI_nat, iI_nat, pk_rem (by omega) (by omega) (by omega)]
  rfl
/-- a Boolean's number -/
def bI (P : Prop) [Decidable P] : Int := if P then 1 else 0
theorem bI_t {P : Prop} [Decidable P] (h : P) : bI P = 1 := if_pos h
theorem bI_f {P : Prop} [Decidable P] (h : ¬ P) : bI P = 0 := if_neg h
theorem bI_01 {P : Prop} [Decidable P] : bI P = 0 ∨ bI P = 1 := by
  unfold bI; split
  · exact Or.inr rfl
  · exact Or.inl rfl
theorem rng_bI {P : Prop} [Decidable P] : rng (bI P) := by
  rcases bI_01 (P := P) with h | h <;> rw [h] <;> unfold rng <;> omega
/-- contents of several rows -/
abbrev zT : Type := Nat → Nat → Int
def uA (x : zT) (j k : Nat) (v : Int) : zT := fun i => if i = j then (fun k' => if k' = k then v else x j k') else x i
def sA (x : zT) (j : Nat) (f : Nat → Int) : zT := fun i => if i = j then f else x i
theorem uA_eq (x : zT) (j k : Nat) (v : Int) : uA x j k v j k = v := by simp [uA]
theorem uA_nj {x : zT} {j k i k' : Nat} {v : Int} (h : i ≠ j) : uA x j k v i k' = x i k' := by simp [uA, h]
theorem uA_nk {x : zT} {j k i k' : Nat} {v : Int} (h : k' ≠ k) : uA x j k v i k' = x i k' := by
  unfold uA; split
  · next e =>
    show (if k' = k then v else x j k') = _
    rw [if_neg h, e]
  · rfl
theorem upd_iI (x : zT) (j k : Nat) (v : Int) : upd (fun k' => iI (x j k')) k (iI v) = fun k' => iI (uA x j k v j k') := by
  funext k'
  unfold upd uA
  by_cases h : k' = k
  · simp [h]
  · simp [h]
/-- sums -/
def sg (f : Nat → Int) : Nat → Int
  | 0 => 0
  | n + 1 => sg f n + f n
theorem sg_succ (f : Nat → Int) (n : Nat) : sg f (n + 1) = sg f n + f n := rfl
theorem sg_bd {f : Nat → Int} {n : Nat} {M : Int} (h : ∀ k, k < n → 0 ≤ f k ∧ f k ≤ M) : 0 ≤ sg f n ∧ sg f n ≤ n * M := by
  induction n with
  | zero => simp [sg]
  | succ n ih =>
    have h1 := ih (fun k hk => h k (by omega))
    have h2 := h n (by omega)
    rw [sg_succ, Int.natCast_add, Int.add_mul]
    omega
theorem sg_congr {f g : Nat → Int} {n : Nat} (h : ∀ k, k < n → f k = g k) : sg f n = sg g n := by
  induction n with
  | zero => rfl
  | succ n ih => rw [sg_succ, sg_succ, ih (fun k hk => h k (by omega)), h n (by omega)]
/-- what stands fast in a method's walk -/
def zX (p : Program) (s : State) (m : MethodId) (args : Array Value) (meth : Method) (c : Code) (cc : ByteArray) (own : String) (nL : Nat) (ret : Option FieldType) : Prop :=
  p.tables.exec = Jvm.exec ∧ c.code = cc ∧ c.maxLocals = nL ∧ s.vm.findClass own = some m.cls ∧ (∀ w ∈ lw_all, w.before args s = true) ∧ meth.sig.returnType = ret ∧ meth.locks = false
section
variable {p : Program} {l : Launch} {e : Env} {R : Room} {s : State} {m : MethodId} {args : Array Value} {below : List Frame} {meth : Method} {c : Code} {H : Heap} {locs : List Loc} {cells slots : Nat} {Q : State → Prop}
variable {cc : ByteArray} {pc : Nat} {ls : Array Slot} {rest : List Value} {D : va_G} {cl : List vw_C} {A : Nat → Prop} {a : Nat} {tys : List (ClassId × FieldType)} {H0 : Heap} {own : String} {nL : Nat} {ret : Option FieldType}
theorem zX.fix (h : zX p s m args meth c cc own nL ret) : CallFix p m c cc nL s args lw_all own := ⟨h.1, h.2.1, h.2.2.1, h.2.2.2.1, h.2.2.2.2.1⟩
theorem zX.ow (h : zX p s m args meth c cc own nL ret) : s.vm.findClass own = some m.cls := h.2.2.2.1
theorem zX.hts (h : zX p s m args meth c cc own nL ret) : ∀ w ∈ lw_all, w.before args s = true := h.2.2.2.2.1
theorem z_top {x y : Int} (h : x = y) (k : W p l e R s m args below meth c H locs cells slots Q (F0 m pc ls (.int (iI y) :: rest))) : W p l e R s m args below meth c H locs cells slots Q (F0 m pc ls (.int (iI x) :: rest)) := by
  rw [h]; exact k
theorem z_iconst (hX : zX p s m args meth c cc own nL ret) {n : Int} (hdg : decode cc pc = .ok (.iconst n, 1)) (k : W p l e R s m args below meth c H locs cells slots Q (F0 m (pc + 1) ls (.int (iI n) :: rest))) : W p l e R s m args below meth c H locs cells slots Q (F0 m pc ls rest) :=
  lv_iconst hX.1 hX.2.1 hdg rfl k
theorem z_bipush (hX : zX p s m args meth c cc own nL ret) {n : Int} (hdg : decode cc pc = .ok (.bipush n, 2)) (hv : (Int8.ofInt n).toInt32 = iI n) (k : W p l e R s m args below meth c H locs cells slots Q (F0 m (pc + 2) ls (.int (iI n) :: rest))) : W p l e R s m args below meth c H locs cells slots Q (F0 m pc ls rest) :=
  lv_bipush hX.1 hX.2.1 hdg hv k
theorem z_sipush (hX : zX p s m args meth c cc own nL ret) {n : Int} (hdg : decode cc pc = .ok (.sipush n, 3)) (hv : (Int16.ofInt n).toInt32 = iI n) (k : W p l e R s m args below meth c H locs cells slots Q (F0 m (pc + 3) ls (.int (iI n) :: rest))) : W p l e R s m args below meth c H locs cells slots Q (F0 m pc ls rest) :=
  lv_sipush hX.1 hX.2.1 hdg hv k
theorem z_iadd (hX : zX p s m args meth c cc own nL ret) {x y : Int} (hdg : decode cc pc = .ok (.iadd, 1)) (k : W p l e R s m args below meth c H locs cells slots Q (F0 m (pc + 1) ls (.int (iI (x + y)) :: rest))) : W p l e R s m args below meth c H locs cells slots Q (F0 m pc ls (.int (iI y) :: .int (iI x) :: rest)) :=
  lv_iadd hX.1 hX.2.1 hdg (by rw [iI_add]; exact k)
theorem z_isub (hX : zX p s m args meth c cc own nL ret) {x y : Int} (hdg : decode cc pc = .ok (.isub, 1)) (k : W p l e R s m args below meth c H locs cells slots Q (F0 m (pc + 1) ls (.int (iI (x - y)) :: rest))) : W p l e R s m args below meth c H locs cells slots Q (F0 m pc ls (.int (iI y) :: .int (iI x) :: rest)) :=
  lv_isub hX.1 hX.2.1 hdg (by rw [iI_sub]; exact k)
theorem z_imul (hX : zX p s m args meth c cc own nL ret) {x y : Int} (hdg : decode cc pc = .ok (.imul, 1)) (k : W p l e R s m args below meth c H locs cells slots Q (F0 m (pc + 1) ls (.int (iI (x * y)) :: rest))) : W p l e R s m args below meth c H locs cells slots Q (F0 m pc ls (.int (iI y) :: .int (iI x) :: rest)) :=
  lv_imul hX.1 hX.2.1 hdg (by rw [iI_mul]; exact k)
theorem z_ineg (hX : zX p s m args meth c cc own nL ret) {x : Int} (hdg : decode cc pc = .ok (.ineg, 1)) (k : W p l e R s m args below meth c H locs cells slots Q (F0 m (pc + 1) ls (.int (iI (-x)) :: rest))) : W p l e R s m args below meth c H locs cells slots Q (F0 m pc ls (.int (iI x) :: rest)) :=
  lv_ineg hX.1 hX.2.1 hdg (by rw [iI_neg]; exact k)
theorem iI_ne0 {b : Int} (hb : 0 < b) (hb2 : b ≤ 2147483647) : ¬ iI b = 0 := fun q => by
  have := (iI_eq (a := b) (b := 0) ⟨by omega, by omega⟩ rng_0).mp q
  omega
theorem z_idiv (hX : zX p s m args meth c cc own nL ret) {x y : Int} (hdg : decode cc pc = .ok (.idiv, 1)) (h : (0 ≤ x ∧ x ≤ 2147483647) ∧ 0 < y ∧ y ≤ 2147483647) (k : W p l e R s m args below meth c H locs cells slots Q (F0 m (pc + 1) ls (.int (iI (x / y)) :: rest))) : W p l e R s m args below meth c H locs cells slots Q (F0 m pc ls (.int (iI y) :: .int (iI x) :: rest)) :=
  lv_idiv hX.1 hX.2.1 hdg (iI_ne0 h.2.1 h.2.2) (by rw [iI_div h.1.1 h.1.2 h.2.1 h.2.2]; exact k)
theorem z_irem (hX : zX p s m args meth c cc own nL ret) {x y : Int} (hdg : decode cc pc = .ok (.irem, 1)) (h : (0 ≤ x ∧ x ≤ 2147483647) ∧ 0 < y ∧ y ≤ 2147483647) (k : W p l e R s m args below meth c H locs cells slots Q (F0 m (pc + 1) ls (.int (iI (x % y)) :: rest))) : W p l e R s m args below meth c H locs cells slots Q (F0 m pc ls (.int (iI y) :: .int (iI x) :: rest)) :=
  lv_irem hX.1 hX.2.1 hdg (iI_ne0 h.2.1 h.2.2) (by rw [iI_rem h.1.1 h.1.2 h.2.1 h.2.2]; exact k)
end
