/-! String.length, charAt of texts that are only read -/
set_option maxRecDepth 100000
section
variable {p : Program} {l : Launch} {e : Env} {R : Room} {s : State} {m : MethodId} {args : Array Value} {below : List Frame} {meth : Method} {c : Code} {H : Heap} {locs : List Loc} {cells slots : Nat} {Q : State → Prop}
variable {cc : ByteArray} {pc : Nat} {ls : Array Slot} {D : va_G} {cl : List vw_C} {nL : Nat} {own : String}
theorem w_bret {w : zT → va_W} {x : zT} {post : Int32 → zT → Prop} {sz : Nat} {E : Int} (hX : zX p s m args meth c cc own nL (some .byte)) (hP : va_P D cl (w x) H) (hS : va_S (wA w sz) s.heap H locs) (h01 : E = 0 ∨ E = 1) (hq : post (iI E) x) (hdg : decode cc pc = .ok (.ireturn, 1)) : W p l e R s m args below meth c H locs cells slots (MQ below (wQi D cl w post sz) args s cells slots (wA w sz)) (F0 m pc ls [.int (iI E)]) :=
  W.zret hX.1 hX.2.1 hX.2.2.2.2.2.1 (bytN h01) (fun t ht _ => ⟨⟨_, x, rfl, hq, by subst ht; exact hP⟩, hS.F ht⟩) hS.2.2 hdg hX.2.2.2.2.2.2
end
set_option maxHeartbeats 4000000 in
theorem c_J4_coder {l : Launch} {D : va_G} {Z : zZ} {cA : Nat → ClassId} (hZ : zOk Z) (sz : Nat) {a v n : Nat} {cod : Int} {f : Nat → Int} (hs : ∀ A U H, Z A U H → zSt a cod v n f A U H) (hj : ∀ A U H, Z A U H → jJ A U H) (hcod : cod = 0 ∨ cod = 1) : Met l yJ4_coder (ws_ yJ4_coder cJ4_coder 1 (some .byte)) { frames := 0, cells := 0, slots := 0, locals := 0 } (wPc D vwCl (tyL cA) Z w0 [] [.ref a] sz zO) (wQi D vwCl w0 (fun r _ => r = iI cod) sz) 0 0 (wA w0 sz) := by
  refine w_met (cc := cJ4_coder) (maxL := 1) (ret := some .byte) (own := RJ4) (by decide) rfl rfl w0_ok (Nat.le_of_ble_eq_true rfl) ?_
  intro p e s m below meth c hX hsz hK hP hD hA hE hS hR ls hl
  have hx := hX.1
  have hb := hX.2.1
  have hl : lv_has ls 1 [(0, .ref a)] := hl
  have hs0 := hs _ _ _ hE
  have hj0 := hj _ _ _ hE
  refine va_gets hx hb hj0.1 hS hX.ow (hX.hts _ q1461) (fun _ h => h) dJ4_coder_0 ?_
  refine z_if_eq (tgt := 13) hX (by decide) dJ4_coder_3 (by decide) (fun h9 => absurd h9 (by decide)) (fun h9 => ?_)
  refine lv_aload_n hx hb dJ4_coder_6 rfl (lv_at hl 0 rfl) ?_
  refine vk_getf hx hb hs0.2.1 hS hX.ow (hX.hts _ q1496) (fun _ h => h) dJ4_coder_7 ?_
  refine lv_goto (tgt := 14) hx hb dJ4_coder_10 (by decide) ?_
  exact w_bret hX hP hS (hcod) (rfl) dJ4_coder_14
set_option maxHeartbeats 4000000 in
theorem c_J4_isLatin1 {l : Launch} {D : va_G} {Z : zZ} {cA : Nat → ClassId} (hZ : zOk Z) (sz : Nat) {a v n : Nat} {cod : Int} {f : Nat → Int} (hs : ∀ A U H, Z A U H → zSt a cod v n f A U H) (hj : ∀ A U H, Z A U H → jJ A U H) (hcod : cod = 0 ∨ cod = 1) : Met l yJ4_isLatin1 (ws_ yJ4_isLatin1 cJ4_isLatin1 1 (some .boolean)) { frames := 0, cells := 0, slots := 0, locals := 0 } (wPc D vwCl (tyL cA) Z w0 [] [.ref a] sz zO) (wQi D vwCl w0 (fun r _ => r = iI (bI (cod = 0))) sz) 0 0 (wA w0 sz) := by
  refine w_met (cc := cJ4_isLatin1) (maxL := 1) (ret := some .boolean) (own := RJ4) (by decide) rfl rfl w0_ok (Nat.le_of_ble_eq_true rfl) ?_
  intro p e s m below meth c hX hsz hK hP hD hA hE hS hR ls hl
  have hx := hX.1
  have hb := hX.2.1
  have hl : lv_has ls 1 [(0, .ref a)] := hl
  have hs0 := hs _ _ _ hE
  have hj0 := hj _ _ _ hE
  refine va_gets hx hb hj0.1 hS hX.ow (hX.hts _ q1461) (fun _ h => h) dJ4_isLatin1_0 ?_
  refine z_if_eq (tgt := 17) hX (by decide) dJ4_isLatin1_3 (by decide) (fun h9 => absurd h9 (by decide)) (fun h9 => ?_)
  refine lv_aload_n hx hb dJ4_isLatin1_6 rfl (lv_at hl 0 rfl) ?_
  refine vk_getf hx hb hs0.2.1 hS hX.ow (hX.hts _ q1496) (fun _ h => h) dJ4_isLatin1_7 ?_
  refine z_if_ne (tgt := 17) hX (by omega) dJ4_isLatin1_10 (by decide) (fun c_10 => ?_) (fun c_10 => ?_)
  · skip
    refine z_iconst hX dJ4_isLatin1_17 ?_
    exact w_zret hX hP hS (by decide) (by rw [bI_f (by omega)]) dJ4_isLatin1_18
  · skip
    refine z_iconst hX dJ4_isLatin1_13 ?_
    refine lv_goto (tgt := 18) hx hb dJ4_isLatin1_14 (by decide) ?_
    refine W.eq (g2 := F0 m 18 ls [.int (iI (1))]) rfl ?_
    exact w_zret hX hP hS (by decide) (by rw [bI_t (by omega)]) dJ4_isLatin1_18
set_option maxHeartbeats 4000000 in
theorem c_J4_length {l : Launch} {D : va_G} {Z : zZ} {cA : Nat → ClassId} (hZ : zOk Z) (sz : Nat) {a v n : Nat} {cod : Int} {f : Nat → Int} (hs : ∀ A U H, Z A U H → zSt a cod v n f A U H) (hj : ∀ A U H, Z A U H → jJ A U H) (hcod : cod = 0 ∨ cod = 1) (L : Nat) (hn : n = L * 2 ^ cod.toNat ∧ n < 2147483648) : Met l yJ4_length (ws_ yJ4_length cJ4_length 1 (some .int)) { frames := 1, cells := 0, slots := 0, locals := 20 } (wPc D vwCl (tyL cA) Z w0 [] [.ref a] sz zO) (wQi D vwCl w0 (fun r _ => r = iI (L : Int)) sz) 0 0 (wA w0 sz) := by
  refine w_met (cc := cJ4_length) (maxL := 1) (ret := some .int) (own := RJ4) (by decide) rfl rfl w0_ok (Nat.le_of_ble_eq_true rfl) ?_
  intro p e s m below meth c hX hsz hK hP hD hA hE hS hR ls hl
  have hx := hX.1
  have hb := hX.2.1
  have hl : lv_has ls 1 [(0, .ref a)] := hl
  have hs0 := hs _ _ _ hE
  have hj0 := hj _ _ _ hE
  refine lv_aload_n hx hb dJ4_length_0 rfl (lv_at hl 0 rfl) ?_
  refine vk_getf hx hb hs0.2.2.1 hS hX.ow (hX.hts _ q1495) (fun _ h => h) dJ4_length_1 ?_
  refine va_tlen (v := iI (↑n)) hx hb hs0.2.2.2 hS rfl dJ4_length_4 ?_
  refine lv_aload_n hx hb dJ4_length_5 rfl (lv_at hl 0 rfl) ?_
  refine r_calli hA hP hS (va_runV (As := []) (rest := [.int (iI (↑n))]) hX.fix (c_J4_coder hZ _ hs hj hcod) (cwV 0 hX.hts (lw_V q1457 q1458 q1459 q87 q1460) rfl rfl rfl (by decide +kernel) ⟨Nat.le_of_ble_eq_true rfl, Nat.le_of_ble_eq_true rfl⟩) (r_preV hZ hK hA hE (fun k q h => by cases h) hS (zSt_recv hs0 hS)) rfl rfl hl.1 rfl (lv_room (Nat.le_of_ble_eq_true rfl)) dJ4_length_6 ⟨Nat.le_of_ble_eq_true rfl, Nat.le_of_ble_eq_true rfl⟩) (fun r y H locs hq hP hS => ?_)
  rw [show r = iI (cod) from hq]
  refine z_top (y := ((cod.toNat : Nat) : Int)) (by omega) ?_
  refine z_ibit hX (n) cod.toNat (by omega) (by omega) dJ4_length_9 ?_
  refine z_top (y := (L : Int)) (by rw [hn.1, Nat.mul_div_cancel _ (Nat.two_pow_pos _)]) ?_
  exact w_iret hX hP hS (rfl) dJ4_length_10
set_option maxHeartbeats 4000000 in
theorem c_J22_checkIndex {l : Launch} {D : va_G} {Z : zZ} {cA : Nat → ClassId} (hZ : zOk Z) (sz : Nat) (i n : Nat) (hi : i < n ∧ n < 2147483648) (fv : Value) (hfv : fv = .null ∨ ∃ t, fv = .ref t) : Met l yJ22_checkIndex (ws_ yJ22_checkIndex cJ22_checkIndex 3 (some .int)) { frames := 0, cells := 0, slots := 0, locals := 0 } (wPc D vwCl (tyL cA) Z w0 [] [.int (iI i), .int (iI n), fv] sz zO) (wQi D vwCl w0 (fun r _ => r = iI (i : Int)) sz) 0 0 (wA w0 sz) := by
  refine w_met (cc := cJ22_checkIndex) (maxL := 3) (ret := some .int) (own := RJ22) (by decide) rfl rfl w0_ok (by rcases hfv with rfl | ⟨t, rfl⟩ <;> exact Nat.le_of_ble_eq_true rfl) ?_
  intro p e s m below meth c hX hsz hK hP hD hA hE hS hR ls hl
  have hx := hX.1
  have hb := hX.2.1
  have hl : lv_has ls 3 [(0, .int (iI ((i : Int)))), (1, .int (iI ((n : Int)))), (2, fv)] := hl
  refine lv_iload_n hx hb dJ22_checkIndex_0 rfl (lv_at hl 0 rfl) ?_
  refine z_if_lt (tgt := 9) hX (by omega) dJ22_checkIndex_1 (by decide) (fun c_1 => ?_) (fun c_1 => ?_)
  · exact absurd c_1 (by omega)
  · skip
    refine lv_iload_n hx hb dJ22_checkIndex_4 rfl (lv_at hl 0 rfl) ?_
    refine lv_iload_n hx hb dJ22_checkIndex_5 rfl (lv_at hl 1 rfl) ?_
    refine z_icmp_lt (tgt := 16) hX (by omega) dJ22_checkIndex_6 (by decide) (fun c_6 => ?_) (fun c_6 => ?_)
    · skip
      refine lv_iload_n hx hb dJ22_checkIndex_16 rfl (lv_at hl 0 rfl) ?_
      exact w_iret hX hP hS (rfl) dJ22_checkIndex_17
    · exact absurd c_6 (by omega)
set_option maxHeartbeats 4000000 in
theorem c_J4_checkIndex {l : Launch} {D : va_G} {Z : zZ} {cA : Nat → ClassId} (hZ : zOk Z) (sz : Nat) (hj : ∀ A U H, Z A U H → jJ A U H) (i n : Nat) (hi : i < n ∧ n < 2147483648) : Met l yJ4_checkIndex (ws_ yJ4_checkIndex cJ4_checkIndex 2 (none)) { frames := 1, cells := 0, slots := 0, locals := 22 } (wPc D vwCl (tyL cA) Z w0 [] [.int (iI i), .int (iI n)] sz zO) (wQv D vwCl w0 (fun _ => True) sz) 0 0 (wA w0 sz) := by
  refine w_met (cc := cJ4_checkIndex) (maxL := 2) (ret := none) (own := RJ4) (by decide) rfl rfl w0_ok (Nat.le_of_ble_eq_true rfl) ?_
  intro p e s m below meth c hX hsz hK hP hD hA hE hS hR ls hl
  have hx := hX.1
  have hb := hX.2.1
  have hl : lv_has ls 2 [(0, .int (iI ((i : Int)))), (1, .int (iI ((n : Int))))] := hl
  have hj0 := hj _ _ _ hE
  refine lv_iload_n hx hb dJ4_checkIndex_0 rfl (lv_at hl 0 rfl) ?_
  refine lv_iload_n hx hb dJ4_checkIndex_1 rfl (lv_at hl 1 rfl) ?_
  obtain ⟨fv, hfv2, hfv⟩ : ∃ fv, (fv = .null ∨ ∃ t, fv = .ref t) ∧ va_Z "jdk/internal/util/Preconditions" "SIOOBE_FORMATTER" "Ljava/util/function/BiFunction;" fv _ s s.heap := by
    rcases hj0.2.1 with h | ⟨t, h⟩
    · exact ⟨_, Or.inl rfl, h⟩
    · exact ⟨_, Or.inr ⟨_, rfl⟩, h⟩
  refine va_gets hx hb hfv hS hX.ow (hX.hts _ q1329) (fun _ h => h) dJ4_checkIndex_2 ?_
  refine r_calli hA hP hS (va_runS (As := [.int (iI ((i : Int))), .int (iI ((n : Int))), fv]) (rest := []) hX.fix (c_J22_checkIndex hZ _ i n hi fv hfv2) (va_cwS 3 hX.hts (lw_S q1352 q1353 q116 q1354) rfl rfl rfl (by decide +kernel) ⟨Nat.le_of_ble_eq_true rfl, Nat.le_of_ble_eq_true rfl⟩) (r_preS hZ hK hA hE (fun k q h => by cases h) hS) rfl rfl hl.1 rfl (lv_room (Nat.le_of_ble_eq_true rfl)) dJ4_checkIndex_5 ⟨Nat.le_of_ble_eq_true rfl, Nat.le_of_ble_eq_true rfl⟩) (fun r y H locs hq hP hS => ?_)
  rw [show r = iI ((i : Int)) from hq]
  refine lv_pop hx hb dJ4_checkIndex_8 rfl ?_
  exact w_vret hX hP hS (trivial) dJ4_checkIndex_9
set_option maxHeartbeats 4000000 in
theorem c_J21_charAt {l : Launch} {D : va_G} {Z : zZ} {cA : Nat → ClassId} (hZ : zOk Z) (sz : Nat) {v n : Nat} {f : Nat → Int} (hs : ∀ A U H, Z A U H → zBt v n f A U H) (hj : ∀ A U H, Z A U H → jJ A U H) (i ch : Nat) (hi : i < n ∧ n < 2147483648) (hch : ch < 256) (hf : f i = sB ch) : Met l yJ21_charAt (ws_ yJ21_charAt cJ21_charAt 2 (some .char)) { frames := 2, cells := 0, slots := 0, locals := 43 } (wPc D vwCl (tyL cA) Z w0 [] [.ref v, .int (iI i)] sz zO) (wQi D vwCl w0 (fun r _ => r = iI (ch : Int)) sz) 0 0 (wA w0 sz) := by
  refine w_met (cc := cJ21_charAt) (maxL := 2) (ret := some .char) (own := RJ21) (by decide) rfl rfl w0_ok (Nat.le_of_ble_eq_true rfl) ?_
  intro p e s m below meth c hX hsz hK hP hD hA hE hS hR ls hl
  have hx := hX.1
  have hb := hX.2.1
  have hl : lv_has ls 2 [(0, .ref v), (1, .int (iI ((i : Int))))] := hl
  have hs0 := hs _ _ _ hE
  have hj0 := hj _ _ _ hE
  refine lv_iload_n hx hb dJ21_charAt_0 rfl (lv_at hl 1 rfl) ?_
  refine lv_aload_n hx hb dJ21_charAt_1 rfl (lv_at hl 0 rfl) ?_
  refine va_tlen (v := iI (↑n)) hx hb hs0 hS rfl dJ21_charAt_2 ?_
  refine r_callv hA hP hS (va_runS (As := [.int (iI ((i : Int))), .int (iI (↑n))]) (rest := []) hX.fix (c_J4_checkIndex hZ _ hj i n hi) (va_cwS 2 hX.hts (lw_S q1614 q1350 q87 q1351) rfl rfl rfl (by decide +kernel) ⟨Nat.le_of_ble_eq_true rfl, Nat.le_of_ble_eq_true rfl⟩) (r_preS hZ hK hA hE (fun k q h => by cases h) hS) rfl rfl hl.1 rfl (lv_room (Nat.le_of_ble_eq_true rfl)) dJ21_charAt_3 ⟨Nat.le_of_ble_eq_true rfl, Nat.le_of_ble_eq_true rfl⟩) (fun y H locs hq hP hS => ?_)
  refine lv_aload_n hx hb dJ21_charAt_6 rfl (lv_at hl 0 rfl) ?_
  refine lv_iload_n hx hb dJ21_charAt_7 rfl (lv_at hl 1 rfl) ?_
  refine va_tb (v := .int (iI (f (i)))) hx hb hs0 hS (iI_in (i) (rfl) (hi.1) (by omega)) (by rw [iI_cl (i) (rfl) (by omega)]) dJ21_charAt_8 ?_
  refine z_top (y := sB ch) (hf) ?_
  refine z_sipush hX dJ21_charAt_9 (by decide) ?_
  refine z_iand255 hX (hch) dJ21_charAt_12 ?_
  refine W.eq (g2 := F0 m 13 ls [.int (iI ((ch : Int)))]) rfl ?_
  refine z_i2c hX (ch := ch) (by omega) dJ21_charAt_13 ?_
  exact w_cret hX hP hS (by omega) (rfl) dJ21_charAt_14
set_option maxHeartbeats 4000000 in
theorem c_J4_charAt {l : Launch} {D : va_G} {Z : zZ} {cA : Nat → ClassId} (hZ : zOk Z) (sz : Nat) {a v n : Nat} {f : Nat → Int} (hs : ∀ A U H, Z A U H → zSt a 0 v n f A U H) (hj : ∀ A U H, Z A U H → jJ A U H) (i ch : Nat) (hi : i < n ∧ n < 2147483648) (hch : ch < 256) (hf : f i = sB ch) : Met l yJ4_charAt (ws_ yJ4_charAt cJ4_charAt 2 (some .char)) { frames := 3, cells := 0, slots := 0, locals := 200 } (wPc D vwCl (tyL cA) Z w0 [] [.ref a, .int (iI i)] sz zO) (wQi D vwCl w0 (fun r _ => r = iI (ch : Int)) sz) 0 0 (wA w0 sz) := by
  refine w_met (cc := cJ4_charAt) (maxL := 2) (ret := some .char) (own := RJ4) (by decide) rfl rfl w0_ok (Nat.le_of_ble_eq_true rfl) ?_
  intro p e s m below meth c hX hsz hK hP hD hA hE hS hR ls hl
  have hx := hX.1
  have hb := hX.2.1
  have hl : lv_has ls 2 [(0, .ref a), (1, .int (iI ((i : Int))))] := hl
  have hs0 := hs _ _ _ hE
  have hj0 := hj _ _ _ hE
  refine lv_aload_n hx hb dJ4_charAt_0 rfl (lv_at hl 0 rfl) ?_
  refine r_calli hA hP hS (va_runV (As := []) (rest := []) hX.fix (c_J4_isLatin1 hZ _ hs hj (Or.inl rfl)) (cwV 0 hX.hts (lw_V q1607 q1608 q1609 q87 q1610) rfl rfl rfl (by decide +kernel) ⟨Nat.le_of_ble_eq_true rfl, Nat.le_of_ble_eq_true rfl⟩) (r_preV hZ hK hA hE (fun k q h => by cases h) hS (zSt_recv hs0 hS)) rfl rfl hl.1 rfl (lv_room (Nat.le_of_ble_eq_true rfl)) dJ4_charAt_1 ⟨Nat.le_of_ble_eq_true rfl, Nat.le_of_ble_eq_true rfl⟩) (fun r y H locs hq hP hS => ?_)
  rw [show r = iI (bI ((0 : Int) = 0)) from hq]
  refine z_if_eqB (tgt := 16) hX dJ4_charAt_4 (by decide) (fun c_4 => ?_) (fun c_4 => ?_)
  · exact absurd c_4 (fun h => h rfl)
  · skip
    refine lv_aload_n hx hb dJ4_charAt_7 rfl (lv_at hl 0 rfl) ?_
    refine vk_getf hx hb hs0.2.2.1 hS hX.ow (hX.hts _ q1495) (fun _ h => h) dJ4_charAt_8 ?_
    refine lv_iload_n hx hb dJ4_charAt_11 rfl (lv_at hl 1 rfl) ?_
    refine r_calli hA hP hS (va_runS (As := [.ref v, .int (iI ((i : Int)))]) (rest := []) hX.fix (c_J21_charAt hZ _ (fun A U H h => (hs A U H h).2.2.2) hj i ch hi hch hf) (va_cwS 2 hX.hts (lw_S q1611 q1612 q115 q1613) rfl rfl rfl (by decide +kernel) ⟨Nat.le_of_ble_eq_true rfl, Nat.le_of_ble_eq_true rfl⟩) (r_preS hZ hK hA hE (fun k q h => by cases h) hS) rfl rfl hl.1 rfl (lv_room (Nat.le_of_ble_eq_true rfl)) dJ4_charAt_12 ⟨Nat.le_of_ble_eq_true rfl, Nat.le_of_ble_eq_true rfl⟩) (fun r y H locs hq hP hS => ?_)
    rw [show r = iI ((ch : Int)) from hq]
    exact w_cret hX hP hS (by omega) (rfl) dJ4_charAt_15
