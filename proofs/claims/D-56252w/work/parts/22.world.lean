/-! the classes and arrays of the worlds; the twin's world -/
set_option maxRecDepth 100000
def vwCl : List vw_C := [(RX1, TX1, 7), (RX2, TX2, 6), (RX3, TX3, 5), (RX4, TX4, 22), (RX5, TX5, 3), (RX6, TX6, 4), (RX7, TX7, 2), (RX8, TX8, 4), (RX9, TX9, 1), (RX10, TX10, 3), (RX11, TX11, 7), (RJ1, TJ1, 3), (RJ3, TJ3, 4), (RJ4, TJ4, 4), (RJ14, TJ14, 1), (RJ26, TJ26, 3), (RJ27, TJ27, 4)]
theorem vw_X1 : vwCl[0]? = some (RX1, TX1, 7) := rfl
theorem vw_X2 : vwCl[1]? = some (RX2, TX2, 6) := rfl
theorem vw_X3 : vwCl[2]? = some (RX3, TX3, 5) := rfl
theorem vw_X4 : vwCl[3]? = some (RX4, TX4, 22) := rfl
theorem vw_X5 : vwCl[4]? = some (RX5, TX5, 3) := rfl
theorem vw_X6 : vwCl[5]? = some (RX6, TX6, 4) := rfl
theorem vw_X7 : vwCl[6]? = some (RX7, TX7, 2) := rfl
theorem vw_X8 : vwCl[7]? = some (RX8, TX8, 4) := rfl
theorem vw_X9 : vwCl[8]? = some (RX9, TX9, 1) := rfl
theorem vw_X10 : vwCl[9]? = some (RX10, TX10, 3) := rfl
theorem vw_X11 : vwCl[10]? = some (RX11, TX11, 7) := rfl
theorem vw_J1 : vwCl[11]? = some (RJ1, TJ1, 3) := rfl
theorem vw_J3 : vwCl[12]? = some (RJ3, TJ3, 4) := rfl
theorem vw_J4 : vwCl[13]? = some (RJ4, TJ4, 4) := rfl
theorem vw_J14 : vwCl[14]? = some (RJ14, TJ14, 1) := rfl
theorem vw_J26 : vwCl[15]? = some (RJ26, TJ26, 3) := rfl
theorem vw_J27 : vwCl[16]? = some (RJ27, TJ27, 4) := rfl
def tyL (cA : Nat → ClassId) : List (ClassId × FieldType) := [(cA 0, .int), (cA 1, .char), (cA 2, .boolean), (cA 3, .array .int), (cA 4, .byte), (cA 5, .long), (cA 6, .double), (cA 7, .object "java/lang/Object"), (cA 8, .object "ClearingHouse$Mark")]
theorem ty_0 {cA : Nat → ClassId} : (tyL cA)[0]? = some (cA 0, .int) := rfl
theorem ty_1 {cA : Nat → ClassId} : (tyL cA)[1]? = some (cA 1, .char) := rfl
theorem ty_2 {cA : Nat → ClassId} : (tyL cA)[2]? = some (cA 2, .boolean) := rfl
theorem ty_3 {cA : Nat → ClassId} : (tyL cA)[3]? = some (cA 3, .array .int) := rfl
theorem ty_4 {cA : Nat → ClassId} : (tyL cA)[4]? = some (cA 4, .byte) := rfl
theorem ty_5 {cA : Nat → ClassId} : (tyL cA)[5]? = some (cA 5, .long) := rfl
theorem ty_6 {cA : Nat → ClassId} : (tyL cA)[6]? = some (cA 6, .double) := rfl
theorem ty_7 {cA : Nat → ClassId} : (tyL cA)[7]? = some (cA 7, .object "java/lang/Object") := rfl
theorem ty_8 {cA : Nat → ClassId} : (tyL cA)[8]? = some (cA 8, .object "ClearingHouse$Mark") := rfl
def mF (ad : Nat → Nat) (x : zT) : List Value := [.ref (ad 0), .ref (ad 1), .ref (ad 2), .ref (ad 3), .ref (ad 4), .int (iI (x 5 0)), .int (iI (x 6 0)), .int (iI (x 7 0)), .int (iI (x 8 0)), .ref (ad 9), .int (iI (x 10 0)), .int (iI (x 11 0)), .int (iI (x 12 0)), .ref (ad 13), .int (iI (x 14 0)), .ref (ad 15), .ref (ad 16), .ref (ad 17), .ref (ad 18), .int (iI (x 19 0)), .ref (ad 20), .int (iI (x 21 0))]
def mW (o : Nat) (ad : Nat → Nat) (cA : Nat → ClassId) (x : zT) : va_W := [(o, .inr (3, mF ad x)), (ad 0, .inl (cA 0, 61, .inl (fun k => iI (x 0 k)))), (ad 1, .inl (cA 0, 488, .inl (fun k => iI (x 1 k)))), (ad 2, .inl (cA 0, 61, .inl (fun k => iI (x 2 k)))), (ad 3, .inl (cA 0, 61, .inl (fun k => iI (x 3 k)))), (ad 4, .inl (cA 0, 61, .inl (fun k => iI (x 4 k)))), (ad 9, .inl (cA 0, 60, .inl (fun k => iI (x 9 k)))), (ad 13, .inl (cA 1, 80, .inl (fun k => iI (x 13 k)))), (ad 15, .inl (cA 0, 7, .inl (fun k => iI (x 15 k)))), (ad 16, .inl (cA 0, 7, .inl (fun k => iI (x 16 k)))), (ad 17, .inl (cA 0, 128, .inl (fun k => iI (x 17 k)))), (ad 18, .inl (cA 0, 128, .inl (fun k => iI (x 18 k)))), (ad 20, .inl (cA 0, 124, .inl (fun k => iI (x 20 k))))]
theorem mW_ok {o : Nat} {ad : Nat → Nat} {cA : Nat → ClassId} : wOk (mW o ad cA) := fun _ _ => rfl
section
variable {o : Nat} {ad : Nat → Nat} {cA : Nat → ClassId} {x : zT}
theorem mW_o : (mW o ad cA x)[0]? = some (o, .inr (3, mF ad x)) := rfl
theorem mW_e0 : (mW o ad cA x)[1]? = some (ad 0, .inl (cA 0, 61, .inl (fun k => iI (x 0 k)))) := rfl
theorem mW_s0 {k : Nat} {v : Int} : (mW o ad cA x).set 1 (ad 0, .inl (cA 0, 61, .inl (fun k' => iI (uA x 0 k v 0 k')))) = mW o ad cA (uA x 0 k v) := rfl
theorem mW_e1 : (mW o ad cA x)[2]? = some (ad 1, .inl (cA 0, 488, .inl (fun k => iI (x 1 k)))) := rfl
theorem mW_s1 {k : Nat} {v : Int} : (mW o ad cA x).set 2 (ad 1, .inl (cA 0, 488, .inl (fun k' => iI (uA x 1 k v 1 k')))) = mW o ad cA (uA x 1 k v) := rfl
theorem mW_e2 : (mW o ad cA x)[3]? = some (ad 2, .inl (cA 0, 61, .inl (fun k => iI (x 2 k)))) := rfl
theorem mW_s2 {k : Nat} {v : Int} : (mW o ad cA x).set 3 (ad 2, .inl (cA 0, 61, .inl (fun k' => iI (uA x 2 k v 2 k')))) = mW o ad cA (uA x 2 k v) := rfl
theorem mW_e3 : (mW o ad cA x)[4]? = some (ad 3, .inl (cA 0, 61, .inl (fun k => iI (x 3 k)))) := rfl
theorem mW_s3 {k : Nat} {v : Int} : (mW o ad cA x).set 4 (ad 3, .inl (cA 0, 61, .inl (fun k' => iI (uA x 3 k v 3 k')))) = mW o ad cA (uA x 3 k v) := rfl
theorem mW_e4 : (mW o ad cA x)[5]? = some (ad 4, .inl (cA 0, 61, .inl (fun k => iI (x 4 k)))) := rfl
theorem mW_s4 {k : Nat} {v : Int} : (mW o ad cA x).set 5 (ad 4, .inl (cA 0, 61, .inl (fun k' => iI (uA x 4 k v 4 k')))) = mW o ad cA (uA x 4 k v) := rfl
theorem mW_f5 {v : Int} : (mW o ad cA x).set 0 (o, .inr (3, (mF ad x).set 5 (.int (iI v)))) = mW o ad cA (uA x 5 0 v) := rfl
theorem mW_f6 {v : Int} : (mW o ad cA x).set 0 (o, .inr (3, (mF ad x).set 6 (.int (iI v)))) = mW o ad cA (uA x 6 0 v) := rfl
theorem mW_f7 {v : Int} : (mW o ad cA x).set 0 (o, .inr (3, (mF ad x).set 7 (.int (iI v)))) = mW o ad cA (uA x 7 0 v) := rfl
theorem mW_f8 {v : Int} : (mW o ad cA x).set 0 (o, .inr (3, (mF ad x).set 8 (.int (iI v)))) = mW o ad cA (uA x 8 0 v) := rfl
theorem mW_e9 : (mW o ad cA x)[6]? = some (ad 9, .inl (cA 0, 60, .inl (fun k => iI (x 9 k)))) := rfl
theorem mW_s9 {k : Nat} {v : Int} : (mW o ad cA x).set 6 (ad 9, .inl (cA 0, 60, .inl (fun k' => iI (uA x 9 k v 9 k')))) = mW o ad cA (uA x 9 k v) := rfl
theorem mW_f10 {v : Int} : (mW o ad cA x).set 0 (o, .inr (3, (mF ad x).set 10 (.int (iI v)))) = mW o ad cA (uA x 10 0 v) := rfl
theorem mW_f11 {v : Int} : (mW o ad cA x).set 0 (o, .inr (3, (mF ad x).set 11 (.int (iI v)))) = mW o ad cA (uA x 11 0 v) := rfl
theorem mW_f12 {v : Int} : (mW o ad cA x).set 0 (o, .inr (3, (mF ad x).set 12 (.int (iI v)))) = mW o ad cA (uA x 12 0 v) := rfl
theorem mW_e13 : (mW o ad cA x)[7]? = some (ad 13, .inl (cA 1, 80, .inl (fun k => iI (x 13 k)))) := rfl
theorem mW_s13 {k : Nat} {v : Int} : (mW o ad cA x).set 7 (ad 13, .inl (cA 1, 80, .inl (fun k' => iI (uA x 13 k v 13 k')))) = mW o ad cA (uA x 13 k v) := rfl
theorem mW_f14 {v : Int} : (mW o ad cA x).set 0 (o, .inr (3, (mF ad x).set 14 (.int (iI v)))) = mW o ad cA (uA x 14 0 v) := rfl
theorem mW_e15 : (mW o ad cA x)[8]? = some (ad 15, .inl (cA 0, 7, .inl (fun k => iI (x 15 k)))) := rfl
theorem mW_s15 {k : Nat} {v : Int} : (mW o ad cA x).set 8 (ad 15, .inl (cA 0, 7, .inl (fun k' => iI (uA x 15 k v 15 k')))) = mW o ad cA (uA x 15 k v) := rfl
theorem mW_e16 : (mW o ad cA x)[9]? = some (ad 16, .inl (cA 0, 7, .inl (fun k => iI (x 16 k)))) := rfl
theorem mW_s16 {k : Nat} {v : Int} : (mW o ad cA x).set 9 (ad 16, .inl (cA 0, 7, .inl (fun k' => iI (uA x 16 k v 16 k')))) = mW o ad cA (uA x 16 k v) := rfl
theorem mW_e17 : (mW o ad cA x)[10]? = some (ad 17, .inl (cA 0, 128, .inl (fun k => iI (x 17 k)))) := rfl
theorem mW_s17 {k : Nat} {v : Int} : (mW o ad cA x).set 10 (ad 17, .inl (cA 0, 128, .inl (fun k' => iI (uA x 17 k v 17 k')))) = mW o ad cA (uA x 17 k v) := rfl
theorem mW_e18 : (mW o ad cA x)[11]? = some (ad 18, .inl (cA 0, 128, .inl (fun k => iI (x 18 k)))) := rfl
theorem mW_s18 {k : Nat} {v : Int} : (mW o ad cA x).set 11 (ad 18, .inl (cA 0, 128, .inl (fun k' => iI (uA x 18 k v 18 k')))) = mW o ad cA (uA x 18 k v) := rfl
theorem mW_f19 {v : Int} : (mW o ad cA x).set 0 (o, .inr (3, (mF ad x).set 19 (.int (iI v)))) = mW o ad cA (uA x 19 0 v) := rfl
theorem mW_e20 : (mW o ad cA x)[12]? = some (ad 20, .inl (cA 0, 124, .inl (fun k => iI (x 20 k)))) := rfl
theorem mW_s20 {k : Nat} {v : Int} : (mW o ad cA x).set 12 (ad 20, .inl (cA 0, 124, .inl (fun k' => iI (uA x 20 k v 20 k')))) = mW o ad cA (uA x 20 k v) := rfl
theorem mW_f21 {v : Int} : (mW o ad cA x).set 0 (o, .inr (3, (mF ad x).set 21 (.int (iI v)))) = mW o ad cA (uA x 21 0 v) := rfl
end
section
variable {p : Program} {l : Launch} {e : Env} {R : Room} {s : State} {m : MethodId} {args : Array Value} {below : List Frame} {meth : Method} {c : Code} {H : Heap} {locs : List Loc} {cells slots : Nat} {Q : State → Prop}
variable {cc : ByteArray} {pc : Nat} {ls : Array Slot} {rest st0 : List Value} {D : va_G} {A : Nat → Prop} {nL : Nat} {ret : Option FieldType} {o : Nat} {ad : Nat → Nat} {cA : Nat → ClassId} {x : zT} {Z : zZ}
theorem m_get (hX : zX p s m args meth c cc RX4 nL ret) (hK : va_K D vwCl (tyL cA) s) (hP : va_P D vwCl (mW o ad cA x) H) (j : Nat) (hj : j < 22) {index : Nat} (hlink : Cond.fieldLink RX4 index (TX4 j).1 (TX4 j).2.1 (TX4 j).2.2.1 ∈ lw_all) {v : Value} (hv : (mF ad x)[j]? = some v) (hdg : decode cc pc = .ok (.getfield index, 3)) (kk : W p l e R s m args below meth c H locs cells slots Q (F0 m (pc + 3) ls (v :: rest))) : W p l e R s m args below meth c H locs cells slots Q (F0 m pc ls (.ref o :: rest)) :=
  w_get hX hK hP in_X4 0 mW_o vw_X4 j hj hlink hv hdg kk
theorem m_put (hX : zX p s m args meth c cc RX4 nL ret) (hK : va_K D vwCl (tyL cA) s) (hD : ∀ y, va_D A (mW o ad cA y)) (hP : va_P D vwCl (mW o ad cA x) H) (hS : va_S A s.heap H locs) (j : Nat) (hj : j < 22) {index : Nat} (hlink : Cond.fieldLink RX4 index (TX4 j).1 (TX4 j).2.1 (TX4 j).2.2.1 ∈ lw_all) (hfin : (TX4 j).2.2.2 = false) {v : Int} (hn : narrow (tyX4 j) (.int (iI v)) = .int (iI v)) (hfit : fits (tyX4 j) (.int (iI v)) = true) (hs : (mW o ad cA x).set 0 (o, .inr (3, (mF ad x).set j (.int (iI v)))) = mW o ad cA (uA x j 0 v)) (hdg : decode cc pc = .ok (.putfield index, 3)) (kk : ∀ (H1 : Heap) (locs1 : List Loc), va_P D vwCl (mW o ad cA (uA x j 0 v)) H1 → va_S A s.heap H1 locs1 → W p l e R s m args below meth c H1 locs1 cells slots Q (F0 m (pc + 3) ls rest)) : W p l e R s m args below meth c H locs cells slots Q (F0 m pc ls (.int (iI v) :: .ref o :: rest)) :=
  w_put hX hK hD hP hS in_X4 tyX4 tyX4_ok nmX4 0 mW_o vw_X4 j hj hlink hfin hn hfit hj hs hdg kk
theorem m_ld (hX : zX p s m args meth c cc RX4 nL ret) (hK : va_K D vwCl (tyL cA) s) (hP : va_P D vwCl (mW o ad cA x) H) {a q j n : Nat} (he : (mW o ad cA x)[q]? = some (a, .inl (cA 0, n, .inl (fun k => iI (x j k))))) {E : Int} (idx : Nat) (hi : E = (idx : Int) ∧ idx < n) (hn : n < 2 ^ 31) (hdg : decode cc pc = .ok (.iaload, 1)) (kk : W p l e R s m args below meth c H locs cells slots Q (F0 m (pc + 1) ls (.int (iI (x j idx)) :: rest))) : W p l e R s m args below meth c H locs cells slots Q (F0 m pc ls (.int (iI E) :: .ref a :: rest)) :=
  w_iald hX hK hP q 0 he ty_0 idx hi hn hdg kk
theorem m_st (hX : zX p s m args meth c cc RX4 nL ret) (hK : va_K D vwCl (tyL cA) s) (hD : ∀ y, va_D A (mW o ad cA y)) (hP : va_P D vwCl (mW o ad cA x) H) (hS : va_S A s.heap H locs) {a q j n : Nat} (he : (mW o ad cA x)[q]? = some (a, .inl (cA 0, n, .inl (fun k => iI (x j k))))) {E v : Int} (idx : Nat) (hs : (mW o ad cA x).set q (a, .inl (cA 0, n, .inl (fun k' => iI (uA x j idx v j k')))) = mW o ad cA (uA x j idx v)) (hi : E = (idx : Int) ∧ idx < n) (hn : n < 2 ^ 31) (hdg : decode cc pc = .ok (.iastore, 1)) (kk : ∀ (H1 : Heap) (locs1 : List Loc), va_P D vwCl (mW o ad cA (uA x j idx v)) H1 → va_S A s.heap H1 locs1 → W p l e R s m args below meth c H1 locs1 cells slots Q (F0 m (pc + 1) ls rest)) : W p l e R s m args below meth c H locs cells slots Q (F0 m pc ls (.int (iI v) :: .int (iI E) :: .ref a :: rest)) :=
  w_iast hX hK hD hP hS q 0 he idx hs ty_0 hi hn hdg kk
/-- a contract of the twin's: it answers and leaves the twin's world -/
abbrev MI (l : Launch) (D : va_G) (Z : zZ) (o : Nat) (ad : Nat → Nat) (cA : Nat → ClassId) (y : MethodName) (ws : List Cond) (rm : Room) (av : List Value) (sz : Nat) (x : zT) (post : Int32 → zT → Prop) : Prop := Met l y ws rm (wPc D vwCl (tyL cA) Z (mW o ad cA) [] av sz x) (wQi D vwCl (mW o ad cA) post sz) 0 0 (wA (mW o ad cA) sz)
abbrev MV (l : Launch) (D : va_G) (Z : zZ) (o : Nat) (ad : Nat → Nat) (cA : Nat → ClassId) (y : MethodName) (ws : List Cond) (rm : Room) (av : List Value) (sz : Nat) (x : zT) (post : zT → Prop) : Prop := Met l y ws rm (wPc D vwCl (tyL cA) Z (mW o ad cA) [] av sz x) (wQv D vwCl (mW o ad cA) post sz) 0 0 (wA (mW o ad cA) sz)
/-- a contract that touches nothing -/
abbrev PI (l : Launch) (D : va_G) (Z : zZ) (cA : Nat → ClassId) (y : MethodName) (ws : List Cond) (rm : Room) (av : List Value) (sz : Nat) (post : Int32 → zT → Prop) : Prop := Met l y ws rm (wPc D vwCl (tyL cA) Z w0 [] av sz zO) (wQi D vwCl w0 post sz) 0 0 (wA w0 sz)
abbrev fI (E : Int) (x' : zT) : Int32 → zT → Prop := fun r y => r = iI E ∧ y = x'
abbrev fR (P : Int → zT → Prop) : Int32 → zT → Prop := fun r y => ∃ z, r = iI z ∧ P z y
abbrev fV (x' : zT) : zT → Prop := fun y => y = x'
theorem m_callR {y : MethodName} {bytes : ByteArray} {maxL n index : Nat} {rt : Option FieldType} {ws : List Cond} {rm : Room} {As : List Value} {P : Int → zT → Prop} (hZ : zOk Z) (hX : zX p s m args meth c cc RX4 nL ret) (hK : va_K D vwCl (tyL cA) s) (hD : ∀ y, va_D A (mW o ad cA y)) (hA : ∀ q, s.heap.size ≤ q → A q) (hE : Z A s s.heap) (hP : va_P D vwCl (mW o ad cA x) H) (hS : va_S A s.heap H locs) (hM : MI l D Z o ad cA y ws rm (.ref o :: As) H.size x (fR P)) (cw : CallW R s args RX4 RX4 index y bytes maxL rt ws rm 0 0 n) (hn : As.length = n) (hl : ls.size = nL) (hW : 2 * (F0 m pc ls rest).monitorRoom + (rest.map fun v => v.category).sum ≤ 8) (hdg : decode cc pc = .ok (.invokevirtual index, 3)) (hc : cells ≤ R.cells ∧ slots ≤ R.slots) (hst : st0 = As.reverse ++ .ref o :: rest) (kk : ∀ (z : Int) (y : zT) (H1 : Heap) (locs1 : List Loc), P z y → va_P D vwCl (mW o ad cA y) H1 → va_S A s.heap H1 locs1 → W p l e R s m args below meth c H1 locs1 cells slots Q (F0 m (pc + 3) ls (.int (iI z) :: rest))) : W p l e R s m args below meth c H locs cells slots Q (F0 m pc ls st0) := by
  refine w_calli hD hA hS (va_runV (As := As) (rest := rest) hX.fix hM cw (w_preV hZ hK hD hA hE hP hS (va_recv hK hP (ci := 3) (q0 := 0) vw_X4 mW_o)) rfl hn hl hst hW hdg hc) (fun r y H1 locs1 hq hP hS => ?_)
  obtain ⟨z, rfl, hq⟩ := hq
  exact kk z y H1 locs1 hq hP hS
theorem m_calli {y : MethodName} {bytes : ByteArray} {maxL n index : Nat} {rt : Option FieldType} {ws : List Cond} {rm : Room} {As : List Value} {E : Int} {x' : zT} (hZ : zOk Z) (hX : zX p s m args meth c cc RX4 nL ret) (hK : va_K D vwCl (tyL cA) s) (hD : ∀ y, va_D A (mW o ad cA y)) (hA : ∀ q, s.heap.size ≤ q → A q) (hE : Z A s s.heap) (hP : va_P D vwCl (mW o ad cA x) H) (hS : va_S A s.heap H locs) (hM : MI l D Z o ad cA y ws rm (.ref o :: As) H.size x (fI E x')) (cw : CallW R s args RX4 RX4 index y bytes maxL rt ws rm 0 0 n) (hn : As.length = n) (hl : ls.size = nL) (hW : 2 * (F0 m pc ls rest).monitorRoom + (rest.map fun v => v.category).sum ≤ 8) (hdg : decode cc pc = .ok (.invokevirtual index, 3)) (hc : cells ≤ R.cells ∧ slots ≤ R.slots) (hst : st0 = As.reverse ++ .ref o :: rest) (kk : ∀ (H1 : Heap) (locs1 : List Loc), va_P D vwCl (mW o ad cA x') H1 → va_S A s.heap H1 locs1 → W p l e R s m args below meth c H1 locs1 cells slots Q (F0 m (pc + 3) ls (.int (iI E) :: rest))) : W p l e R s m args below meth c H locs cells slots Q (F0 m pc ls st0) := by
  refine w_calli hD hA hS (va_runV (As := As) (rest := rest) hX.fix hM cw (w_preV hZ hK hD hA hE hP hS (va_recv hK hP (ci := 3) (q0 := 0) vw_X4 mW_o)) rfl hn hl hst hW hdg hc) (fun r y H1 locs1 hq hP hS => ?_)
  obtain ⟨rfl, hy⟩ := hq
  rw [hy] at hP
  exact kk H1 locs1 hP hS
theorem m_callv {y : MethodName} {bytes : ByteArray} {maxL n index : Nat} {rt : Option FieldType} {ws : List Cond} {rm : Room} {As : List Value} {x' : zT} (hZ : zOk Z) (hX : zX p s m args meth c cc RX4 nL ret) (hK : va_K D vwCl (tyL cA) s) (hD : ∀ y, va_D A (mW o ad cA y)) (hA : ∀ q, s.heap.size ≤ q → A q) (hE : Z A s s.heap) (hP : va_P D vwCl (mW o ad cA x) H) (hS : va_S A s.heap H locs) (hM : MV l D Z o ad cA y ws rm (.ref o :: As) H.size x (fV x')) (cw : CallW R s args RX4 RX4 index y bytes maxL rt ws rm 0 0 n) (hn : As.length = n) (hl : ls.size = nL) (hW : 2 * (F0 m pc ls rest).monitorRoom + (rest.map fun v => v.category).sum ≤ 8) (hdg : decode cc pc = .ok (.invokevirtual index, 3)) (hc : cells ≤ R.cells ∧ slots ≤ R.slots) (hst : st0 = As.reverse ++ .ref o :: rest) (kk : ∀ (H1 : Heap) (locs1 : List Loc), va_P D vwCl (mW o ad cA x') H1 → va_S A s.heap H1 locs1 → W p l e R s m args below meth c H1 locs1 cells slots Q (F0 m (pc + 3) ls rest)) : W p l e R s m args below meth c H locs cells slots Q (F0 m pc ls st0) := by
  refine w_callv (Z := Z) hD hA hS (va_runV (As := As) (rest := rest) hX.fix hM cw (w_preV hZ hK hD hA hE hP hS (va_recv hK hP (ci := 3) (q0 := 0) vw_X4 mW_o)) rfl hn hl hst hW hdg hc) (fun y H1 locs1 hy hP hS => ?_)
  rw [show y = x' from hy] at hP
  exact kk H1 locs1 hP hS
theorem m_callSv {y : MethodName} {bytes : ByteArray} {maxL n index : Nat} {rt : Option FieldType} {ws : List Cond} {rm : Room} {As : List Value} {x' : zT} (hZ : zOk Z) (hX : zX p s m args meth c cc RX4 nL ret) (hK : va_K D vwCl (tyL cA) s) (hD : ∀ y, va_D A (mW o ad cA y)) (hA : ∀ q, s.heap.size ≤ q → A q) (hE : Z A s s.heap) (hP : va_P D vwCl (mW o ad cA x) H) (hS : va_S A s.heap H locs) (hM : MV l D Z o ad cA y ws rm As H.size x (fV x')) (cw : CallB R s args RX4 index y bytes maxL rt ws rm 0 0 n ∧ (Cond.static y).before args s = true) (hn : As.length = n) (hl : ls.size = nL) (hW : 2 * (F0 m pc ls rest).monitorRoom + (rest.map fun v => v.category).sum ≤ 8) (hdg : decode cc pc = .ok (.invokestatic index, 3)) (hc : cells ≤ R.cells ∧ slots ≤ R.slots) (hst : st0 = As.reverse ++ rest) (kk : ∀ (H1 : Heap) (locs1 : List Loc), va_P D vwCl (mW o ad cA x') H1 → va_S A s.heap H1 locs1 → W p l e R s m args below meth c H1 locs1 cells slots Q (F0 m (pc + 3) ls rest)) : W p l e R s m args below meth c H locs cells slots Q (F0 m pc ls st0) := by
  refine w_callv (Z := Z) hD hA hS (va_runS (As := As) (rest := rest) hX.fix hM cw (w_preS hZ hK hD hA hE hP hS) rfl hn hl hst hW hdg hc) (fun y H1 locs1 hy hP hS => ?_)
  rw [show y = x' from hy] at hP
  exact kk H1 locs1 hP hS
theorem p_callSi {w : zT → va_W} {y : MethodName} {bytes : ByteArray} {maxL n index : Nat} {rt : Option FieldType} {ws : List Cond} {rm : Room} {As : List Value} {E : Int} {own : String} (hZ : zOk Z) (hX : zX p s m args meth c cc own nL ret) (hK : va_K D vwCl (tyL cA) s) (hA : ∀ q, s.heap.size ≤ q → A q) (hE : Z A s s.heap) (hP : va_P D vwCl (w x) H) (hS : va_S A s.heap H locs) (hM : PI l D Z cA y ws rm As H.size (fun r _ => r = iI E)) (cw : CallB R s args own index y bytes maxL rt ws rm 0 0 n ∧ (Cond.static y).before args s = true) (hn : As.length = n) (hl : ls.size = nL) (hW : 2 * (F0 m pc ls rest).monitorRoom + (rest.map fun v => v.category).sum ≤ 8) (hdg : decode cc pc = .ok (.invokestatic index, 3)) (hc : cells ≤ R.cells ∧ slots ≤ R.slots) (hst : st0 = As.reverse ++ rest) (kk : ∀ (H1 : Heap) (locs1 : List Loc), va_P D vwCl (w x) H1 → va_S A s.heap H1 locs1 → W p l e R s m args below meth c H1 locs1 cells slots Q (F0 m (pc + 3) ls (.int (iI E) :: rest))) : W p l e R s m args below meth c H locs cells slots Q (F0 m pc ls st0) := by
  refine r_calli hA hP hS (va_runS (As := As) (rest := rest) hX.fix hM cw (r_preS hZ hK hA hE (fun k q h => by cases h) hS) rfl hn hl hst hW hdg hc) (fun r y H1 locs1 hq hP hS => ?_)
  rw [hq]
  exact kk H1 locs1 hP hS
theorem z_iinc {i k : Nat} {n : Int} {E y : Int} {own : String} {lv lv' : List (Nat × Value)} (hX : zX p s m args meth c cc own nL ret) (hdg : decode cc pc = .ok (.iinc i n, 3)) (h : lv_has ls nL lv) (hk : lv[k]? = some (i, .int (iI E))) (hv : E + n = y) (hn : i < nL) (hl : (i, Value.int (iI y)) :: lv.filter (fun q => !(q.1 == i) && !(q.1 + 1 == i && q.2.category == 2)) = lv') (kk : ∀ ls' : Array Slot, lv_has ls' nL lv' → W p l e R s m args below meth c H locs cells slots Q (F0 m (pc + 3) ls' rest)) : W p l e R s m args below meth c H locs cells slots Q (F0 m pc ls rest) :=
  lv_iinc hX.1 hX.2.1 hdg h hk (by rw [← hv, ← iI_add]; rfl) hn hl kk
end
