/-! strings that stand outside what a method writes: constants, and texts that are only read -/
set_option maxRecDepth 100000
abbrev jC (A : Nat → Prop) (U : State) (H : Heap) : Prop := va_Z "java/lang/String" "COMPACT_STRINGS" "Z" (.int (iI 1)) A U H
abbrev jI (A : Nat → Prop) (U : State) (H : Heap) : Prop := va_Zq "jdk/internal/util/Preconditions" "SIOOBE_FORMATTER" "Ljava/util/function/BiFunction;" A U H
abbrev jU (A : Nat → Prop) (U : State) (H : Heap) : Prop := va_Z "java/lang/StringUTF16" "$assertionsDisabled" "Z" (.int (iI 1)) A U H ∧ va_Z "java/lang/StringUTF16" "HI_BYTE_SHIFT" "I" (.int (iI 0)) A U H ∧ va_Z "java/lang/StringUTF16" "LO_BYTE_SHIFT" "I" (.int (iI 8)) A U H
def jJ (A : Nat → Prop) (U : State) (H : Heap) : Prop := jC A U H ∧ jI A U H ∧ jU A U H
/-- a byte array that is only read -/
abbrev zBt (v n : Nat) (f : Nat → Int) (A : Nat → Prop) (U : State) (H : Heap) : Prop := va_T .byte v n (fun j => .int (iI (f j))) A U H
/-- a String that is only read: its coder, its bytes -/
def zSt (a : Nat) (cod : Int) (v n : Nat) (f : Nat → Int) (A : Nat → Prop) (U : State) (H : Heap) : Prop := va_O "java/lang/String" a A U H ∧ va_OF "java/lang/String" "coder" "B" (.int (iI cod)) a A U H ∧ va_OF "java/lang/String" "value" "[B" (.ref v) a A U H ∧ zBt v n f A U H
/-- a byte as it is kept -/
def sB (c : Nat) : Int := if c < 128 then c else (c : Int) - 256
theorem sB_and {c : Nat} (h : c < 256) : iI (sB c) &&& iI 255 = iI (c : Int) := by
  have h9 : ∀ c, c < 256 → iI (sB c) &&& iI 255 = iI (c : Int) := by decide +kernel
  exact h9 c h
theorem bytN {E : Int} (h : E = 0 ∨ E = 1) : narrow .byte (.int (iI E)) = .int (iI E) := by
  rcases h with rfl | rfl <;> rfl
section
variable {p : Program} {l : Launch} {e : Env} {R : Room} {s : State} {m : MethodId} {args : Array Value} {below : List Frame} {meth : Method} {c : Code} {H : Heap} {locs : List Loc} {cells slots : Nat} {Q : State → Prop}
variable {cc : ByteArray} {pc : Nat} {ls : Array Slot} {rest st0 : List Value} {D : va_G} {cl : List vw_C} {A : Nat → Prop} {nL : Nat} {ret : Option FieldType} {cA : Nat → ClassId} {x : zT} {Z : zZ} {own : String} {tys : List (ClassId × FieldType)}
theorem z_ishr (hX : zX p s m args meth c cc own nL ret) {v k : Nat} (hv : v < 2 ^ 31) (hk : k < 31) (hdg : decode cc pc = .ok (.ishr, 1)) (kk : W p l e R s m args below meth c H locs cells slots Q (F0 m (pc + 1) ls (.int (iI ((v / 2 ^ k : Nat) : Int)) :: rest))) : W p l e R s m args below meth c H locs cells slots Q (F0 m pc ls (.int (iI (k : Int)) :: .int (iI (v : Int)) :: rest)) := z_ibit hX v k hv hk hdg kk
theorem z_iand255 (hX : zX p s m args meth c cc own nL ret) {ch : Nat} (h : ch < 256) (hdg : decode cc pc = .ok (.iand, 1)) (kk : W p l e R s m args below meth c H locs cells slots Q (F0 m (pc + 1) ls (.int (iI (ch : Int)) :: rest))) : W p l e R s m args below meth c H locs cells slots Q (F0 m pc ls (.int (iI 255) :: .int (iI (sB ch)) :: rest)) := by
  refine lv_iand hX.1 hX.2.1 hdg ?_
  rw [sB_and h]; exact kk
/-- a callee that touches nothing, called with what stands outside it given anew -/
theorem j_preV {Z : zZ} (hZ : zOk Z) {wr : va_W} {C : String} {b : Addr} {As : List Value} (hK : va_K D cl tys s) (hE : Z (wA w0 H.size) s H) (hR : va_P D cl wr H) (hr : ∃ cellB : Cell, H[b]? = some cellB ∧ cellB.vm.isStatics = false ∧ s.vm.findClass C = some cellB.cls) : PreV s H C b (wPc D cl tys Z w0 wr (.ref b :: As) H.size zO) As :=
  ⟨wPc_blind hZ, hr, fun U hU hW => ⟨rfl, by rw [hU], (fun k q h => by cases h), va_K.moved hW.alike hK, fun y => ⟨(fun i j p q h => by cases h), fun k q h => trivial⟩, by rw [hU]; exact hZ.2.1 _ _ _ _ hW hE, by rw [hU]; exact hR, fun (k : Nat) (q : Nat × va_E) h z => by have := w0_A.mp z; have := (hR k q h).lt; omega⟩⟩
theorem j_preS {Z : zZ} (hZ : zOk Z) {wr : va_W} {As : List Value} (hK : va_K D cl tys s) (hE : Z (wA w0 H.size) s H) (hR : va_P D cl wr H) : PreS s H (wPc D cl tys Z w0 wr As H.size zO) As :=
  ⟨wPc_blind hZ, fun U hU hW => ⟨rfl, by rw [hU], (fun k q h => by cases h), va_K.moved hW.alike hK, fun y => ⟨(fun i j p q h => by cases h), fun k q h => trivial⟩, by rw [hU]; exact hZ.2.1 _ _ _ _ hW hE, by rw [hU]; exact hR, fun (k : Nat) (q : Nat × va_E) h z => by have := w0_A.mp z; have := (hR k q h).lt; omega⟩⟩
/-- what stands outside, as a callee that touches nothing sees it now -/
theorem zE_now (hZ : zOk Z) (hA : ∀ q, s.heap.size ≤ q → A q) (hE : Z A s s.heap) (hS : va_S A s.heap H locs) : Z (wA w0 H.size) s H :=
  hZ.2.2.2 A _ _ _ (hZ.2.2.1 _ _ _ _ hE hS.2.1) (fun q h => hA q (by have := w0_A.mp h; have := hS.1; omega))
theorem zSt_recv {a v n : Nat} {cod : Int} {f : Nat → Int} (h : zSt a cod v n f A s s.heap) (hS : va_S A s.heap H locs) : ∃ cellB : Cell, H[a]? = some cellB ∧ cellB.vm.isStatics = false ∧ s.vm.findClass "java/lang/String" = some cellB.cls := by
  obtain ⟨cell, h1, h2, h3, h4⟩ := va_O.kept h.1 hS.2.1
  exact ⟨cell, h1, h2, h3⟩
end
