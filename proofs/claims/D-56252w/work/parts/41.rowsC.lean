/-! rows on signs -/
set_option maxRecDepth 100000
theorem c16 {c : Nat} (hc : c < 65536) : ((iI (c : Int)).toUInt32 % 65536).toInt32 = iI (c : Int) := by
  rw [pk_char, iI_nat, pk_tn (by omega), Nat.mod_eq_of_lt hc]
theorem vp_char {c : Nat} (hc : c < 65536) : vp_nar .char (iI (c : Int)) = iI (c : Int) := by
  have := (pk_charN hc).1
  unfold vp_nar
  rw [iI_nat, this]
theorem narC {c : Nat} (hc : c < 65536) : narrow .char (.int (iI (c : Int))) = .int (iI (c : Int)) := (pk_charN hc).1
section
variable {p : Program} {l : Launch} {e : Env} {R : Room} {s : State} {m : MethodId} {args : Array Value} {below : List Frame} {meth : Method} {c : Code} {H : Heap} {locs : List Loc} {cells slots : Nat} {Q : State → Prop}
variable {cc : ByteArray} {pc : Nat} {ls : Array Slot} {rest st0 : List Value} {D : va_G} {cl : List vw_C} {A : Nat → Prop} {nL : Nat} {ret : Option FieldType} {o : Nat} {ad : Nat → Nat} {cA : Nat → ClassId} {x : zT} {Z : zZ} {own : String}
theorem z_i2c (hX : zX p s m args meth c cc own nL ret) {ch : Nat} (hc : ch < 65536) (hdg : decode cc pc = .ok (.i2c, 1)) (k : W p l e R s m args below meth c H locs cells slots Q (F0 m (pc + 1) ls (.int (iI (ch : Int)) :: rest))) : W p l e R s m args below meth c H locs cells slots Q (F0 m pc ls (.int (iI (ch : Int)) :: rest)) :=
  lv_i2c hX.1 hX.2.1 hdg (c16 hc) k
theorem m_cst (hX : zX p s m args meth c cc RX4 nL ret) (hK : va_K D vwCl (tyL cA) s) (hD : ∀ y, va_D A (mW o ad cA y)) (hP : va_P D vwCl (mW o ad cA x) H) (hS : va_S A s.heap H locs) {E : Int} (idx : Nat) {ch : Nat} (hc : ch < 65536) (hi : E = (idx : Int) ∧ idx < 80) (hdg : decode cc pc = .ok (.castore, 1)) (kk : ∀ (H1 : Heap) (locs1 : List Loc), va_P D vwCl (mW o ad cA (uA x 13 idx ch)) H1 → va_S A s.heap H1 locs1 → W p l e R s m args below meth c H1 locs1 cells slots Q (F0 m (pc + 1) ls rest)) : W p l e R s m args below meth c H locs cells slots Q (F0 m pc ls (.int (iI ch) :: .int (iI E) :: .ref (ad 13) :: rest)) :=
  va_cast hX.1 hX.2.1 hK hP (hD x) hS _ 1 mW_e13 ty_1 (iI_in idx hi.1 hi.2 (by decide)) hdg (fun H1 locs1 hP1 _ hS1 => kk H1 locs1 (by rw [iI_cl idx hi.1 (by omega), vp_char hc, upd_iI, mW_s13] at hP1; exact hP1) hS1)
theorem m_cld (hX : zX p s m args meth c cc RX4 nL ret) (hK : va_K D vwCl (tyL cA) s) (hP : va_P D vwCl (mW o ad cA x) H) {E : Int} (idx : Nat) (hi : E = (idx : Int) ∧ idx < 80) (hdg : decode cc pc = .ok (.caload, 1)) (kk : W p l e R s m args below meth c H locs cells slots Q (F0 m (pc + 1) ls (.int (iI (x 13 idx)) :: rest))) : W p l e R s m args below meth c H locs cells slots Q (F0 m pc ls (.int (iI E) :: .ref (ad 13) :: rest)) :=
  va_cald hX.1 hX.2.1 hK hP _ 1 mW_e13 ty_1 (iI_in idx hi.1 hi.2 (by decide)) hdg (by rw [iI_cl idx hi.1 (by omega)]; exact kk)
theorem w_cret {w : zT → va_W} {x : zT} {post : Int32 → zT → Prop} {sz : Nat} {E : Int} (hX : zX p s m args meth c cc own nL (some .char)) (hP : va_P D cl (w x) H) (hS : va_S (wA w sz) s.heap H locs) (h01 : 0 ≤ E ∧ E < 65536) (hq : post (iI E) x) (hdg : decode cc pc = .ok (.ireturn, 1)) : W p l e R s m args below meth c H locs cells slots (MQ below (wQi D cl w post sz) args s cells slots (wA w sz)) (F0 m pc ls [.int (iI E)]) := by
  obtain ⟨n, rfl⟩ := Int.eq_ofNat_of_zero_le h01.1
  exact W.zret hX.1 hX.2.1 hX.2.2.2.2.2.1 (narC (by omega)) (fun t ht _ => ⟨⟨_, x, rfl, hq, by subst ht; exact hP⟩, hS.F ht⟩) hS.2.2 hdg hX.2.2.2.2.2.2
end
