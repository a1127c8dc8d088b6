/-! a cycle as an object: its size and its parties -/
set_option maxRecDepth 100000
/-- a cycle made: the object, its parties -/
def cyW (cy ar : Nat) (cA : Nat → ClassId) (q : List Nat) (am : Int) : va_W := [(cy, .inr (6, [.ref ar, .int (iI am)])), (ar, .inl (cA 0, q.length, .inl (fun k => iI (qk q k : Int))))]
section
variable {p : Program} {l : Launch} {e : Env} {R : Room} {s : State} {m : MethodId} {args : Array Value} {below : List Frame} {meth : Method} {c : Code} {H : Heap} {locs : List Loc} {cells slots : Nat} {Q : State → Prop}
variable {cc : ByteArray} {pc : Nat} {ls : Array Slot} {rest : List Value} {D : va_G} {nL : Nat} {ret : Option FieldType} {own : String} {cA : Nat → ClassId} {cy ar : Nat} {am : Int} {q : List Nat}
theorem cy_ald (hX : zX p s m args meth c cc own nL ret) (hK : va_K D vwCl (tyL cA) s) (hP : va_P D vwCl (cyW cy ar cA q am) H) (hq : q.length ≤ 7) {E : Int} (k : Nat) (hi : E = (k : Int) ∧ k < q.length) (hdg : decode cc pc = .ok (.iaload, 1)) (kk : W p l e R s m args below meth c H locs cells slots Q (F0 m (pc + 1) ls (.int (iI (qk q k : Int)) :: rest))) : W p l e R s m args below meth c H locs cells slots Q (F0 m pc ls (.int (iI E) :: .ref ar :: rest)) :=
  va_iald hX.1 hX.2.1 hK hP 1 0 rfl ty_0 (iI_in k hi.1 hi.2 (by omega)) hdg (by rw [iI_cl k hi.1 (by omega)]; exact kk)
end
set_option maxHeartbeats 4000000 in
theorem c_X7_size {l : Launch} {D : va_G} {Z : zZ} {cA : Nat → ClassId} (hZ : zOk Z) (sz : Nat) {cy ar : Nat} {am : Int} (q : List Nat) (hq7 : 1 ≤ q.length ∧ q.length ≤ 7)  : Met l yX7_size (ws_ yX7_size cX7_size 1 (some .int)) { frames := 0, cells := 0, slots := 0, locals := 0 } (wPc D vwCl (tyL cA) Z w0 (cyW cy ar cA q am) [.ref cy] sz zO) (wQi D vwCl w0 (fun r _ => r = iI ((q.length : Nat))) sz) 0 0 (wA w0 sz) := by
  refine w_met (cc := cX7_size) (maxL := 1) (ret := some .int) (own := RX7) (by decide) rfl rfl w0_ok (Nat.le_of_ble_eq_true rfl) ?_
  intro p e s m below meth c hX hsz hK hP hD hA hE hS hR ls hl
  have hx := hX.1
  have hb := hX.2.1
  have hl : lv_has ls 1 [(0, .ref cy)] := hl
  refine lv_aload_n hx hb dX7_size_0 rfl (lv_at hl 0 rfl) ?_
  refine w_get (w := fun _ => cyW cy ar cA q am) (x := zO) hX hK (hR _ _ hS) in_X7 0 rfl vw_X7 0 (by decide) q614 rfl dX7_size_1 ?_
  refine va_alen hX.1 hX.2.1 hK (hR _ _ hS) 1 0 rfl ty_0 (v := iI ((q.length : Nat) : Int)) rfl dX7_size_4 ?_
  exact w_iret hX hP hS (rfl) dX7_size_5
set_option maxHeartbeats 4000000 in
theorem c_X7_party {l : Launch} {D : va_G} {Z : zZ} {cA : Nat → ClassId} (hZ : zOk Z) (sz : Nat) {cy ar : Nat} {am : Int} (q : List Nat) (hq7 : 1 ≤ q.length ∧ q.length ≤ 7) (k : Nat) (E1 : Int) (h1 : E1 = (k : Int) ∧ k < q.length) : Met l yX7_party (ws_ yX7_party cX7_party 2 (some .int)) { frames := 0, cells := 0, slots := 0, locals := 0 } (wPc D vwCl (tyL cA) Z w0 (cyW cy ar cA q am) [.ref cy, .int (iI (E1))] sz zO) (wQi D vwCl w0 (fun r _ => r = iI ((qk q k : Nat))) sz) 0 0 (wA w0 sz) := by
  obtain ⟨rfl, h1⟩ := h1
  refine w_met (cc := cX7_party) (maxL := 2) (ret := some .int) (own := RX7) (by decide) rfl rfl w0_ok (Nat.le_of_ble_eq_true rfl) ?_
  intro p e s m below meth c hX hsz hK hP hD hA hE hS hR ls hl
  have hx := hX.1
  have hb := hX.2.1
  have hl : lv_has ls 2 [(0, .ref cy), (1, .int (iI (↑k)))] := hl
  refine lv_aload_n hx hb dX7_party_0 rfl (lv_at hl 0 rfl) ?_
  refine w_get (w := fun _ => cyW cy ar cA q am) (x := zO) hX hK (hR _ _ hS) in_X7 0 rfl vw_X7 0 (by decide) q614 rfl dX7_party_1 ?_
  refine lv_iload_n hx hb dX7_party_4 rfl (lv_at hl 1 rfl) ?_
  refine cy_ald hX hK (hR _ _ hS) hq7.2 k ((⟨rfl, by omega⟩ : (k : Int) = (k : Int) ∧ k < q.length)) dX7_party_5 ?_
  exact w_iret hX hP hS (rfl) dX7_party_6
set_option maxHeartbeats 4000000 in
theorem c_X7_after {l : Launch} {D : va_G} {Z : zZ} {cA : Nat → ClassId} (hZ : zOk Z) (sz : Nat) {cy ar : Nat} {am : Int} (q : List Nat) (hq7 : 1 ≤ q.length ∧ q.length ≤ 7) (k : Nat) (E1 : Int) (h1 : E1 = (k : Int) ∧ k < q.length) : Met l yX7_after (ws_ yX7_after cX7_after 2 (some .int)) { frames := 0, cells := 0, slots := 0, locals := 0 } (wPc D vwCl (tyL cA) Z w0 (cyW cy ar cA q am) [.ref cy, .int (iI (E1))] sz zO) (wQi D vwCl w0 (fun r _ => r = iI ((qk q ((k + 1) % q.length) : Nat))) sz) 0 0 (wA w0 sz) := by
  obtain ⟨rfl, h1⟩ := h1
  refine w_met (cc := cX7_after) (maxL := 2) (ret := some .int) (own := RX7) (by decide) rfl rfl w0_ok (Nat.le_of_ble_eq_true rfl) ?_
  intro p e s m below meth c hX hsz hK hP hD hA hE hS hR ls hl
  have hx := hX.1
  have hb := hX.2.1
  have hl : lv_has ls 2 [(0, .ref cy), (1, .int (iI (↑k)))] := hl
  refine lv_aload_n hx hb dX7_after_0 rfl (lv_at hl 0 rfl) ?_
  refine w_get (w := fun _ => cyW cy ar cA q am) (x := zO) hX hK (hR _ _ hS) in_X7 0 rfl vw_X7 0 (by decide) q614 rfl dX7_after_1 ?_
  refine lv_iload_n hx hb dX7_after_4 rfl (lv_at hl 1 rfl) ?_
  refine z_iconst hX dX7_after_5 ?_
  refine z_iadd hX dX7_after_6 ?_
  refine lv_aload_n hx hb dX7_after_7 rfl (lv_at hl 0 rfl) ?_
  refine w_get (w := fun _ => cyW cy ar cA q am) (x := zO) hX hK (hR _ _ hS) in_X7 0 rfl vw_X7 0 (by decide) q614 rfl dX7_after_8 ?_
  refine va_alen hX.1 hX.2.1 hK (hR _ _ hS) 1 0 rfl ty_0 (v := iI ((q.length : Nat) : Int)) rfl dX7_after_11 ?_
  refine z_irem hX dX7_after_12 (by omega) ?_
  refine z_top (y := ↑((k + 1) % q.length)) (by rw [Int.natCast_emod]; rfl) ?_
  refine W.eq (g2 := F0 m 13 ls [.int (iI (↑((k + 1) % q.length))), .ref ar]) rfl ?_
  refine cy_ald hX hK (hR _ _ hS) hq7.2 (((k + 1) % q.length)) ((⟨rfl, Nat.mod_lt _ (by omega)⟩ : (((k + 1) % q.length : Nat) : Int) = (((k + 1) % q.length : Nat) : Int) ∧ (k + 1) % q.length < q.length)) dX7_after_13 ?_
  exact w_iret hX hP hS (rfl) dX7_after_14
