/-! Optional; a cycle is made -/
set_option maxRecDepth 100000
theorem wL_nil {sz q : Nat} (h : wA (wL []) sz q) : sz ≤ q := by
  rcases h with ⟨k, e, h⟩ | h
  · cases h
  · exact h
/-- Optional.EMPTY -/
def zOp (D : va_G) (em : Nat) (A : Nat → Prop) (U : State) (H : Heap) : Prop := va_Z "java/util/Optional" "EMPTY" "Ljava/util/Optional;" (.ref em) A U H ∧ va_P D vwCl [enO em 14 [.null]] H ∧ ¬ A em
def tkF (f : Nat → Int) (i : Nat) : Nat → Int := fun k => if k < i then f k else 0
theorem tkF_0 {f : Nat → Int} : (fun _ => 0) = tkF f 0 := by
  funext k
  exact (if_neg (by omega)).symm
theorem tkF_s {f : Nat → Int} {i : Nat} : gU (tkF f i) i (f i) = tkF f (i + 1) := by
  funext k
  unfold gU tkF
  by_cases h : k = i
  · rw [if_pos h, if_pos (by omega), h]
  · rw [if_neg h]
    by_cases h2 : k < i
    · rw [if_pos h2, if_pos (by omega)]
    · rw [if_neg h2, if_neg (by omega)]
theorem tkF_q {f : Nat → Int} {q : List Nat} (h : agr f q) : tkF f q.length = fun k => (qk q k : Int) := by
  funext k
  unfold tkF
  by_cases h2 : k < q.length
  · rw [if_pos h2]; exact h k h2
  · rw [if_neg h2]
    unfold qk
    rw [List.getD_eq_getElem?_getD, List.getElem?_eq_none (by omega)]
    rfl
set_option maxHeartbeats 4000000 in
theorem c_J15_requireNonNull {l : Launch} {D : va_G} {Z : zZ} {cA : Nat → ClassId} (hZ : zOk Z) (hfl : l.stackTraces = false) (hz : ∀ A U H, Z A U H → zT9 A U H) (sz : Nat) (v : Nat) : Met l yJ15_requireNonNull (ws_ yJ15_requireNonNull cJ15_requireNonNull 1 (some (.object "java/lang/Object"))) { frames := 0, cells := 0, slots := 0, locals := 0 } (wPc D vwCl (tyL cA) Z (wL []) [] [.ref v] sz zO) (nQq D (fun r ws => r = some v ∧ ws = []) (wA (wL []) sz)) 0 0 (wA (wL []) sz) := by
  refine l_met (cc := cJ15_requireNonNull) (maxL := 1) (ret := some (.object "java/lang/Object")) (own := RJ15) (by decide) rfl rfl (Nat.le_of_ble_eq_true rfl) ?_
  intro p e s m below meth c hX hnm hsz hK hP hD hA hE hS hR hN ls hl
  have hx := hX.1
  have hb := hX.2.1
  have hz0 := hz _ _ _ hE
  have hl : lv_has ls 1 [(0, .ref v)] := hl
  refine lv_aload_n hx hb dJ15_requireNonNull_0 rfl (lv_at hl 0 rfl) ?_
  refine lv_ifnonnull (tgt := 12) hx hb dJ15_requireNonNull_1 (by decide) ?_
  refine lv_aload_n hx hb dJ15_requireNonNull_12 rfl (lv_at hl 0 rfl) ?_
  exact n_aret hX (Or.inl ⟨_, rfl⟩) hP hS (⟨rfl, rfl⟩) dJ15_requireNonNull_13
set_option maxHeartbeats 4000000 in
theorem c_J14_init {l : Launch} {D : va_G} {Z : zZ} {cA : Nat → ClassId} (hZ : zOk Z) (hfl : l.stackTraces = false) (hz : ∀ A U H, Z A U H → zT9 A U H) (sz : Nat) {op : Nat} (v : Nat) : Met l yJ14_init (ws_ yJ14_init cJ14_init 2 (none)) { frames := 1, cells := 0, slots := 0, locals := 20 } (wPc D vwCl (tyL cA) Z (wL [enO op 14 [.null]]) [] [.ref op, .ref v] sz zO) (nQv D (fun ws => ws = [enO op 14 [.ref v]] ∧ va_D (wA (wL [enO op 14 [.null]]) sz) ws) (wA (wL [enO op 14 [.null]]) sz)) 0 0 (wA (wL [enO op 14 [.null]]) sz) := by
  refine l_met (cc := cJ14_init) (maxL := 2) (ret := none) (own := RJ14) (by decide) rfl rfl (Nat.le_of_ble_eq_true rfl) ?_
  intro p e s m below meth c hX hnm hsz hK hP hD hA hE hS hR hN ls hl
  have hx := hX.1
  have hb := hX.2.1
  have hz0 := hz _ _ _ hE
  have hl : lv_has ls 2 [(0, .ref op), (1, .ref v)] := hl
  refine lv_aload_n hx hb dJ14_init_0 rfl (lv_at hl 0 rfl) ?_
  refine W.objInit hx hb hX.ow (hX.hts _ q634) (hX.hts _ q131) (hX.hts _ q132) rfl (by rw [hX.2.2.1]; exact hl.1) rfl dJ14_init_1 (Nat.le_of_ble_eq_true rfl) (Nat.le_of_ble_eq_true rfl) ?_
  refine lv_aload_n hx hb dJ14_init_4 rfl (lv_at hl 0 rfl) ?_
  refine lv_aload_n hx hb dJ14_init_5 rfl (lv_at hl 1 rfl) ?_
  refine va_putF (C := RJ14) (T := TJ14) (N := 1) (ci := 14) (v := .ref v) (ty := tyJ14 0) hx hb hX.hts in_J14 tyJ14 tyJ14_ok nmJ14 hX.ow hK hP hD hS 0 rfl vw_J14 0 (by decide) (hX.hts _ q635) (fun _ h9 => h9) rfl hnm rfl (by decide +kernel) rfl rfl (Nat.le_of_ble_eq_true rfl) dJ14_init_6 (fun H locs hP hD hS => ?_)
  have hP : va_P D vwCl [enO op 14 [.ref v]] H := hP
  have hD : va_D _ [enO op 14 [.ref v]] := hD
  exact n_vret hX hP hS (⟨rfl, hD⟩) dJ14_init_9
set_option maxHeartbeats 4000000 in
theorem c_J14_of {l : Launch} {D : va_G} {Z : zZ} {cA : Nat → ClassId} (hZ : zOk Z) (hfl : l.stackTraces = false) (hz : ∀ A U H, Z A U H → zT9 A U H) (sz : Nat) (v : Nat) : Met l yJ14_of (ws_ yJ14_of cJ14_of 1 (some (.object "java/util/Optional"))) { frames := 2, cells := 1, slots := 1, locals := 41 } (wPc D vwCl (tyL cA) Z (wL []) [] [.ref v] sz zO) (nQq D (fun r ws => ∃ op, r = some op ∧ ws = [enO op 14 [.ref v]] ∧ va_D (wA (wL []) sz) ws) (wA (wL []) sz)) 1 1 (wA (wL []) sz) := by
  refine l_met (cc := cJ14_of) (maxL := 1) (ret := some (.object "java/util/Optional")) (own := RJ14) (by decide) rfl rfl (Nat.le_of_ble_eq_true rfl) ?_
  intro p e s m below meth c hX hnm hsz hK hP hD hA hE hS hR hN ls hl
  have hx := hX.1
  have hb := hX.2.1
  have hz0 := hz _ _ _ hE
  have hl : lv_has ls 1 [(0, .ref v)] := hl
  refine va_new (C := RJ14) (T := TJ14) (N := 1) (ci := 14) (fs := [.null]) hx hb hX.hts in_J14 tyJ14 tyJ14_ok hX.ow (hX.hts _ q626) (hX.hts _ q627) (hX.hts _ q101) hK hP hD hS hA vw_J14 (by decide) (Nat.le_of_ble_eq_true rfl) (Nat.le_of_ble_eq_true rfl) dJ14_of_0 (fun op H hP hD hS => ?_)
  have hP : va_P D vwCl [enO op 14 [.null]] H := hP
  have hD : va_D _ [enO op 14 [.null]] := hD
  refine lv_dup hx hb dJ14_of_3 rfl ?_
  refine lv_aload_n hx hb dJ14_of_4 rfl (lv_at hl 0 rfl) ?_
  refine l_callQ hP hA hS (va_runS (As := [.ref v]) (rest := [.ref op, .ref op]) hX.fix (c_J15_requireNonNull hZ hfl hz _ v) (va_cwS 1 hX.hts (lw_S q628 q629 q102 q630) rfl rfl rfl (by decide +kernel) ⟨Nat.le_of_ble_eq_true rfl, Nat.le_of_ble_eq_true rfl⟩) (r_preS hZ hK hA hE (fun k q h => by cases h) hS) rfl rfl hl.1 rfl (lv_room (Nat.le_of_ble_eq_true rfl)) dJ14_of_5 ⟨Nat.le_of_ble_eq_true rfl, Nat.le_of_ble_eq_true rfl⟩) (fun r9 w1 H locs hq hP1 hP hz9 hS => ?_)
  obtain ⟨rfl, rfl⟩ := hq
  refine W.eq (g2 := F0 m 8 ls [.ref v, .ref op, .ref op]) rfl ?_
  have hP9 : va_P D vwCl ([enO op 14 [.null]] ++ []) H := hP
  have hD9 : va_D _ ([enO op 14 [.null]] ++ []) := hD
  refine l_callv hP9 hD9 hA hS (va_runI (As := [.ref v]) (rest := [.ref op]) hX.fix (c_J14_init hZ hfl hz _ v) (cwI 1 hX.hts (lw_meth q633) rfl rfl rfl (hX.hts _ q101) (hX.hts _ q631) (hX.hts _ q632) rfl (by decide +kernel) ⟨Nat.le_of_ble_eq_true rfl, Nat.le_of_ble_eq_true rfl⟩) (l_preS hZ hK (D_l hD9) hA hE (P_l hP9) (fun k q h => by cases h) (fun k q h => by cases h) hS) rfl rfl hl.1 rfl (lv_room (Nat.le_of_ble_eq_true rfl)) dJ14_of_8 ⟨Nat.le_of_ble_eq_true rfl, Nat.le_of_ble_eq_true rfl⟩) (fun w1 h => h.2) (fun w1 H locs hq hP hD hS => ?_)
  obtain ⟨rfl, -⟩ := hq
  have hP : va_P D vwCl [enO op 14 [.ref v]] H := hP
  have hD : va_D _ [enO op 14 [.ref v]] := hD
  exact n_aret hX (Or.inl ⟨_, rfl⟩) hP hS (⟨op, rfl, rfl, hD⟩) dJ14_of_11
set_option maxHeartbeats 4000000 in
theorem c_J14_empty {l : Launch} {D : va_G} {Z : zZ} {cA : Nat → ClassId} (hZ : zOk Z) (hfl : l.stackTraces = false) (hz : ∀ A U H, Z A U H → zT9 A U H) (sz : Nat) {em : Nat} (hem : ∀ A U H, Z A U H → zOp D em A U H) : Met l yJ14_empty (ws_ yJ14_empty cJ14_empty 1 (some (.object "java/util/Optional"))) { frames := 0, cells := 0, slots := 0, locals := 0 } (wPc D vwCl (tyL cA) Z (wL []) [] [] sz zO) (nQq D (fun r ws => r = some em ∧ ws = [enO em 14 [.null]]) (wA (wL []) sz)) 0 0 (wA (wL []) sz) := by
  refine l_met (cc := cJ14_empty) (maxL := 1) (ret := some (.object "java/util/Optional")) (own := RJ14) (by decide) rfl rfl (Nat.le_of_ble_eq_true rfl) ?_
  intro p e s m below meth c hX hnm hsz hK hP hD hA hE hS hR hN ls hl
  have hx := hX.1
  have hb := hX.2.1
  have hz0 := hz _ _ _ hE
  have hl : lv_has ls 1 [] := hl
  have hem0 := hem _ _ _ hE
  refine va_gets hx hb hem0.1 hS hX.ow (hX.hts _ q642) (fun _ h => h) dJ14_empty_0 ?_
  refine lv_astore_n (lv' := [(0, .ref em)]) hx hb dJ14_empty_3 rfl hl (by decide) rfl (fun ls hl => ?_)
  refine lv_aload_n hx hb dJ14_empty_4 rfl (lv_at hl 0 rfl) ?_
  have hP := hem0.2.1
  exact n_aret hX (Or.inl ⟨_, rfl⟩) hP hS (⟨rfl, rfl⟩) dJ14_empty_5
set_option maxHeartbeats 4000000 in
theorem c_J14_isPresent_y {l : Launch} {D : va_G} {Z : zZ} {cA : Nat → ClassId} (hZ : zOk Z) (sz : Nat) {op v : Nat} : Met l yJ14_isPresent (ws_ yJ14_isPresent cJ14_isPresent 1 (some .boolean)) { frames := 0, cells := 0, slots := 0, locals := 0 } (wPc D vwCl (tyL cA) Z w0 [enO op 14 [.ref v]] [.ref op] sz zO) (wQi D vwCl w0 (fun r _ => r = iI 1) sz) 0 0 (wA w0 sz) := by
  refine w_met (cc := cJ14_isPresent) (maxL := 1) (ret := some .boolean) (own := RJ14) (by decide) rfl rfl w0_ok (Nat.le_of_ble_eq_true rfl) ?_
  intro p e s m below meth c hX hsz hK hP hD hA hE hS hR ls hl
  have hx := hX.1
  have hb := hX.2.1
  have hl : lv_has ls 1 [(0, .ref op)] := hl
  refine lv_aload_n hx hb dJ14_isPresent_0 rfl (lv_at hl 0 rfl) ?_
  refine w_get (w := fun _ => [enO op 14 [.ref v]]) (x := zO) hX hK (hR _ _ hS) in_J14 0 rfl vw_J14 0 (by decide) q635 rfl dJ14_isPresent_1 ?_
  refine lv_ifnull hx hb dJ14_isPresent_4 ?_
  refine z_iconst hX dJ14_isPresent_7 ?_
  refine lv_goto (tgt := 12) hx hb dJ14_isPresent_8 (by decide) ?_
  exact w_zret hX hP hS (by decide) (rfl) dJ14_isPresent_12
set_option maxHeartbeats 4000000 in
theorem c_J14_isPresent_n {l : Launch} {D : va_G} {Z : zZ} {cA : Nat → ClassId} (hZ : zOk Z) (sz : Nat) {op : Nat} : Met l yJ14_isPresent (ws_ yJ14_isPresent cJ14_isPresent 1 (some .boolean)) { frames := 0, cells := 0, slots := 0, locals := 0 } (wPc D vwCl (tyL cA) Z w0 [enO op 14 [.null]] [.ref op] sz zO) (wQi D vwCl w0 (fun r _ => r = iI 0) sz) 0 0 (wA w0 sz) := by
  refine w_met (cc := cJ14_isPresent) (maxL := 1) (ret := some .boolean) (own := RJ14) (by decide) rfl rfl w0_ok (Nat.le_of_ble_eq_true rfl) ?_
  intro p e s m below meth c hX hsz hK hP hD hA hE hS hR ls hl
  have hx := hX.1
  have hb := hX.2.1
  have hl : lv_has ls 1 [(0, .ref op)] := hl
  refine lv_aload_n hx hb dJ14_isPresent_0 rfl (lv_at hl 0 rfl) ?_
  refine w_get (w := fun _ => [enO op 14 [.null]]) (x := zO) hX hK (hR _ _ hS) in_J14 0 rfl vw_J14 0 (by decide) q635 rfl dJ14_isPresent_1 ?_
  refine lv_ifnullN (tgt := 11) hx hb dJ14_isPresent_4 (by decide) ?_
  refine z_iconst hX dJ14_isPresent_11 ?_
  exact w_zret hX hP hS (by decide) (rfl) dJ14_isPresent_12
set_option maxHeartbeats 4000000 in
theorem c_J14_get {l : Launch} {D : va_G} {Z : zZ} {cA : Nat → ClassId} (hZ : zOk Z) (hfl : l.stackTraces = false) (hz : ∀ A U H, Z A U H → zT9 A U H) (sz : Nat) {op v : Nat} : Met l yJ14_get (ws_ yJ14_get cJ14_get 1 (some (.object "java/lang/Object"))) { frames := 0, cells := 0, slots := 0, locals := 0 } (wPc D vwCl (tyL cA) Z (wL []) [enO op 14 [.ref v]] [.ref op] sz zO) (nQq D (fun r ws => r = some v ∧ ws = []) (wA (wL []) sz)) 0 0 (wA (wL []) sz) := by
  refine l_met (cc := cJ14_get) (maxL := 1) (ret := some (.object "java/lang/Object")) (own := RJ14) (by decide) rfl rfl (Nat.le_of_ble_eq_true rfl) ?_
  intro p e s m below meth c hX hnm hsz hK hP hD hA hE hS hR hN ls hl
  have hx := hX.1
  have hb := hX.2.1
  have hz0 := hz _ _ _ hE
  have hl : lv_has ls 1 [(0, .ref op)] := hl
  refine lv_aload_n hx hb dJ14_get_0 rfl (lv_at hl 0 rfl) ?_
  refine w_get (w := fun _ => [enO op 14 [.ref v]]) (x := zO) hX hK (hR _ _ hS) in_J14 0 rfl vw_J14 0 (by decide) q635 rfl dJ14_get_1 ?_
  refine lv_ifnonnull (tgt := 17) hx hb dJ14_get_4 (by decide) ?_
  refine lv_aload_n hx hb dJ14_get_17 rfl (lv_at hl 0 rfl) ?_
  refine w_get (w := fun _ => [enO op 14 [.ref v]]) (x := zO) hX hK (hR _ _ hS) in_J14 0 rfl vw_J14 0 (by decide) q635 rfl dJ14_get_18 ?_
  exact n_aret hX (Or.inl ⟨_, rfl⟩) hP hS (⟨rfl, rfl⟩) dJ14_get_21
set_option maxHeartbeats 4000000 in
theorem c_X7_init {l : Launch} {D : va_G} {Z : zZ} {cA : Nat → ClassId} (hZ : zOk Z) (hfl : l.stackTraces = false) (hz : ∀ A U H, Z A U H → zT9 A U H) (sz : Nat) {cy qa : Nat} (χ : zT) (q : List Nat) (hq7 : q.length ≤ 7) (hag : agr (χ 0) q) (am E1 : Int) (h1 : E1 = (q.length : Int)) : Met l yX7_init (ws_ yX7_init cX7_init 5 (none)) { frames := 1, cells := 1, slots := 7, locals := 20 } (wPc D vwCl (tyL cA) Z (wL [enO cy 6 [.null, .int (iI (0))]]) (pW qa cA χ) [.ref cy, .ref qa, .int (iI E1), .int (iI am)] sz zO) (nQv D (fun ws => ∃ ar, ws = cyW cy ar cA q am ∧ va_D (wA (wL [enO cy 6 [.null, .int (iI (0))]]) sz) ws) (wA (wL [enO cy 6 [.null, .int (iI (0))]]) sz)) 1 7 (wA (wL [enO cy 6 [.null, .int (iI (0))]]) sz) := by
  subst h1
  refine l_met (cc := cX7_init) (maxL := 5) (ret := none) (own := RX7) (by decide) rfl rfl (Nat.le_of_ble_eq_true rfl) ?_
  intro p e s m below meth c hX hnm hsz hK hP hD hA hE hS hR hN ls hl
  have hx := hX.1
  have hb := hX.2.1
  have hz0 := hz _ _ _ hE
  have hl : lv_has ls 5 [(0, .ref cy), (1, .ref qa), (2, .int (iI (↑(q.length)))), (3, .int (iI (am)))] := hl
  refine lv_aload_n hx hb dX7_init_0 rfl (lv_at hl 0 rfl) ?_
  refine W.objInit hx hb hX.ow (hX.hts _ q613) (hX.hts _ q131) (hX.hts _ q132) rfl (by rw [hX.2.2.1]; exact hl.1) rfl dX7_init_1 (Nat.le_of_ble_eq_true rfl) (Nat.le_of_ble_eq_true rfl) ?_
  refine lv_aload_n hx hb dX7_init_4 rfl (lv_at hl 0 rfl) ?_
  refine lv_iload_n hx hb dX7_init_5 rfl (lv_at hl 2 rfl) ?_
  refine z_newa hX hK hP hD hS hA .int 0 (ty := .int) rfl (q165) rfl (q.length, .inl (fun _ => iI 0)) (q.length) (fun _ => rfl) (rfl) (by omega) (by show q.length * 4 ≤ 536870912; omega) (Nat.le_of_ble_eq_true rfl) (by show 0 + q.length ≤ 7; omega) dX7_init_6 (fun ar H hP hD hS => ?_)
  have hP : va_P D vwCl [enO cy 6 [.null, .int (iI (0))], enI cA ar (q.length) (fun _ => 0)] H := hP
  have hD : va_D _ [enO cy 6 [.null, .int (iI (0))], enI cA ar (q.length) (fun _ => 0)] := hD
  refine va_putF (C := RX7) (T := TX7) (N := 2) (ci := 6) (v := .ref ar) (ty := tyX7 0) hx hb hX.hts in_X7 tyX7 tyX7_ok nmX7 hX.ow hK hP hD hS 0 rfl vw_X7 0 (by decide) (hX.hts _ q614) (fun _ h9 => h9) rfl hnm rfl (by decide +kernel) rfl rfl (Nat.le_of_ble_eq_true rfl) dX7_init_8 (fun H locs hP hD hS => ?_)
  have hP : va_P D vwCl [enO cy 6 [.ref ar, .int (iI (0))], enI cA ar (q.length) (fun _ => 0)] H := hP
  have hD : va_D _ [enO cy 6 [.ref ar, .int (iI (0))], enI cA ar (q.length) (fun _ => 0)] := hD
  refine z_iconst hX dX7_init_11 ?_
  refine z_top (y := ↑(0 : Nat)) (rfl) ?_
  refine lv_istore (lv' := [(4, .int (iI (↑(0 : Nat)))), (0, .ref cy), (1, .ref qa), (2, .int (iI (↑(q.length)))), (3, .int (iI (am)))]) hx hb dX7_init_12 hl (by decide) rfl (fun ls hl => ?_)
  have L14 : ∀ (n : Nat) (i : Nat), (q.length < i + n) → (i ≤ q.length) → ∀ (H : Heap) (locs : List Loc) (ls : Array Slot), va_P D vwCl [enO cy 6 [.ref ar, .int (iI (0))], enI cA ar (q.length) (tkF (χ 0) i)] H → va_D (wA (wL [enO cy 6 [.null, .int (iI (0))]]) sz) [enO cy 6 [.ref ar, .int (iI (0))], enI cA ar (q.length) (tkF (χ 0) i)] → va_S (wA (wL [enO cy 6 [.null, .int (iI (0))]]) sz) s.heap H locs → lv_has ls 5 [(0, .ref cy), (1, .ref qa), (2, .int (iI (↑(q.length)))), (3, .int (iI (am))), (4, .int (iI (↑i)))] → W p l e (headSpec (ws_ yX7_init cX7_init 5 (none)) { frames := 1, cells := 1, slots := 7, locals := 20 }).room s m ([.ref cy, .ref qa, .int (iI (↑(q.length))), .int (iI (am))] : List Value).toArray below meth c H locs 1 (q.length) (MQ below (nQv D (fun ws => ∃ ar, ws = cyW cy ar cA q am ∧ va_D (wA (wL [enO cy 6 [.null, .int (iI (0))]]) sz) ws) (wA (wL [enO cy 6 [.null, .int (iI (0))]]) sz)) ([.ref cy, .ref qa, .int (iI (↑(q.length))), .int (iI (am))] : List Value).toArray s 1 7 (wA (wL [enO cy 6 [.null, .int (iI (0))]]) sz)) (F0 m 14 ls []) := by
    intro n
    induction n with
    | zero =>
      intro i hf hi H locs ls hP hD hS hl
      exact absurd hf (by omega)
    | succ n ih14 =>
      intro i hf hi H locs ls hP hD hS hl
      refine lv_iload hx hb dX7_init_14 (lv_at hl 4 rfl) ?_
      refine W.eq (g2 := F0 m 16 ls [.int (iI (↑i))]) rfl ?_
      refine lv_iload_n hx hb dX7_init_16 rfl (lv_at hl 2 rfl) ?_
      refine z_icmp_ge (tgt := 37) hX (by omega) dX7_init_17 (by decide) (fun c_17 => ?_) (fun c_17 => ?_)
      · skip
        obtain rfl : i = q.length := by omega
        rw [tkF_q hag] at hP hD
        refine lv_aload_n hx hb dX7_init_37 rfl (lv_at hl 0 rfl) ?_
        refine lv_iload_n hx hb dX7_init_38 rfl (lv_at hl 3 rfl) ?_
        refine va_putF (C := RX7) (T := TX7) (N := 2) (ci := 6) (v := .int (iI (am))) (ty := tyX7 1) hx hb hX.hts in_X7 tyX7 tyX7_ok nmX7 hX.ow hK hP hD hS 0 rfl vw_X7 1 (by decide) (hX.hts _ q615) (fun _ h9 => h9) rfl hnm rfl (by decide +kernel) rfl rfl (Nat.le_of_ble_eq_true rfl) dX7_init_39 (fun H locs hP hD hS => ?_)
        have hP : va_P D vwCl [enO cy 6 [.ref ar, .int (iI (am))], enI cA ar (q.length) (fun k => (qk q k : Int))] H := hP
        have hD : va_D _ [enO cy 6 [.ref ar, .int (iI (am))], enI cA ar (q.length) (fun k => (qk q k : Int))] := hD
        refine W.widen (k := 1) (n := 7) (Nat.le_of_ble_eq_true rfl) (by omega) ?_
        exact n_vret hX hP hS (⟨ar, rfl, hD⟩) dX7_init_42
      · skip
        refine lv_aload_n hx hb dX7_init_20 rfl (lv_at hl 0 rfl) ?_
        refine n_get hX hK hP in_X7 0 rfl vw_X7 0 (by decide) q614 rfl dX7_init_21 ?_
        refine lv_iload hx hb dX7_init_24 (lv_at hl 4 rfl) ?_
        refine lv_aload_n hx hb dX7_init_26 rfl (lv_at hl 1 rfl) ?_
        refine W.eq (g2 := F0 m 27 ls [.ref qa, .int (iI (↑i)), .ref ar]) rfl ?_
        refine lv_iload hx hb dX7_init_27 (lv_at hl 4 rfl) ?_
        refine w_iald (w := pW qa cA) (x := χ) hX hK (hR _ _ hS) 0 0 rfl ty_0 i (⟨rfl, by omega⟩) (by decide) dX7_init_29 ?_
        refine n_ast hX hK hP hD hS 1 rfl (v := χ 0 i) i (⟨rfl, by omega⟩) (by omega) dX7_init_30 (fun H locs hP hD hS => ?_)
        have hP : va_P D vwCl [enO cy 6 [.ref ar, .int (iI (0))], enI cA ar (q.length) (gU (tkF (χ 0) i) i (χ 0 i))] H := hP
        have hD : va_D _ [enO cy 6 [.ref ar, .int (iI (0))], enI cA ar (q.length) (gU (tkF (χ 0) i) i (χ 0 i))] := hD
        rw [show (gU (tkF (χ 0) i) i (χ 0 i)) = tkF (χ 0) (i + 1) from tkF_s] at hP hD
        refine z_iinc (y := ↑(i + 1)) (lv' := [(4, .int (iI (↑(i + 1)))), (0, .ref cy), (1, .ref qa), (2, .int (iI (↑(q.length)))), (3, .int (iI (am)))]) hX dX7_init_31 hl (k := 4) rfl (by omega) (by decide) rfl (fun ls hl => ?_)
        refine lv_goto (tgt := 14) hx hb dX7_init_34 (by decide) ?_
        exact ih14 (i + 1) (by omega) (by omega) _ _ _ hP hD hS (lv_sub hl [1, 2, 3, 4, 0] rfl)
  refine W.widen (k := 1) (n := q.length) (by omega) (by omega) ?_
  rw [show (fun _ => (0 : Int)) = tkF (χ 0) 0 from tkF_0] at hP hD
  exact L14 (q.length + 1) (0) (by omega) (by omega) _ _ _ hP hD hS (lv_sub hl [1, 2, 3, 4, 0] rfl)
