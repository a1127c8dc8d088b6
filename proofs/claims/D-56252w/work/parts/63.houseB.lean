/-! the house answers (2) -/
set_option maxRecDepth 100000
set_option maxHeartbeats 4000000 in
theorem c_X2_netPosition {l : Launch} {D : va_G} {Z : zZ} {cA : Nat → ClassId} (hZ : zOk Z) (sz : Nat) {a : Nat → Nat} (σ : zT) (n0 : Nat) (hn : σ 0 0 = n0 ∧ n0 ≤ 7) (B : Int) (hgo : gOk (σ 0) B) (d1 : Nat) (E1 : Int) (h1 : E1 = d1 ∧ d1 < 7) : Met l yX2_netPosition (ws_ yX2_netPosition cX2_netPosition 2 (some .int)) { frames := 1, cells := 0, slots := 0, locals := 23 } (wPc D vwCl (tyL cA) Z w0 (hW a cA σ) [.ref (a 0), .int (iI (E1))] sz zO) (wQi D vwCl w0 (fun r _ => r = iI (mNet (σ 0) d1)) sz) 0 0 (wA w0 sz) := by
  obtain ⟨rfl, h1⟩ := h1
  refine w_met (cc := cX2_netPosition) (maxL := 2) (ret := some .int) (own := RX2) (by decide) rfl rfl w0_ok (Nat.le_of_ble_eq_true rfl) ?_
  intro p e s m below meth c hX hsz hK hP hD hA hE hS hR ls hl
  have hx := hX.1
  have hb := hX.2.1
  have hl : lv_has ls 2 [(0, .ref (a 0)), (1, .int (iI (↑d1)))] := hl
  refine lv_aload_n hx hb dX2_netPosition_0 rfl (lv_at hl 0 rfl) ?_
  refine lv_iload_n hx hb dX2_netPosition_1 rfl (lv_at hl 1 rfl) ?_
  refine r_calli hA hP hS (va_runV (As := [.int (iI (↑d1))]) (rest := []) hX.fix (c_X2_claims hZ _ σ n0 hn B hgo d1 _ (by omega)) (cwV 1 hX.hts (lw_V q521 q522 q523 q81 q524) rfl rfl rfl (by decide +kernel) ⟨Nat.le_of_ble_eq_true rfl, Nat.le_of_ble_eq_true rfl⟩) (r_preV hZ hK hA hE (hR _ _ hS) hS (va_recv hK (hR _ _ hS) (ci := 1) (q0 := 0) vw_X2 hW_0)) rfl rfl hl.1 rfl (lv_room (Nat.le_of_ble_eq_true rfl)) dX2_netPosition_2 ⟨Nat.le_of_ble_eq_true rfl, Nat.le_of_ble_eq_true rfl⟩) (fun r y H locs hq hP hS => ?_)
  rw [show r = iI (mCl (σ 0) d1) from hq]
  refine lv_aload_n hx hb dX2_netPosition_5 rfl (lv_at hl 0 rfl) ?_
  refine lv_iload_n hx hb dX2_netPosition_6 rfl (lv_at hl 1 rfl) ?_
  refine r_calli hA hP hS (va_runV (As := [.int (iI (↑d1))]) (rest := [.int (iI (mCl (σ 0) d1))]) hX.fix (c_X2_obligations hZ _ σ n0 hn B hgo d1 _ (by omega)) (cwV 1 hX.hts (lw_V q525 q526 q527 q81 q528) rfl rfl rfl (by decide +kernel) ⟨Nat.le_of_ble_eq_true rfl, Nat.le_of_ble_eq_true rfl⟩) (r_preV hZ hK hA hE (hR _ _ hS) hS (va_recv hK (hR _ _ hS) (ci := 1) (q0 := 0) vw_X2 hW_0)) rfl rfl hl.1 rfl (lv_room (Nat.le_of_ble_eq_true rfl)) dX2_netPosition_7 ⟨Nat.le_of_ble_eq_true rfl, Nat.le_of_ble_eq_true rfl⟩) (fun r y H locs hq hP hS => ?_)
  rw [show r = iI (mOb (σ 0) d1) from hq]
  refine z_isub hX dX2_netPosition_10 ?_
  exact w_iret hX hP hS (rfl) dX2_netPosition_11
set_option maxHeartbeats 4000000 in
theorem c_X2_shortfall {l : Launch} {D : va_G} {Z : zZ} {cA : Nat → ClassId} (hZ : zOk Z) (sz : Nat) {a : Nat → Nat} (σ : zT) (n0 : Nat) (hn : σ 0 0 = n0 ∧ n0 ≤ 7) (B : Int) (hgo : gOk (σ 0) B) (d1 : Nat) (E1 : Int) (h1 : E1 = d1 ∧ d1 < 7) : Met l yX2_shortfall (ws_ yX2_shortfall cX2_shortfall 2 (some .int)) { frames := 2, cells := 0, slots := 0, locals := 44 } (wPc D vwCl (tyL cA) Z w0 (hW a cA σ) [.ref (a 0), .int (iI (E1))] sz zO) (wQi D vwCl w0 (fun r _ => r = iI (mLk (σ 0) d1)) sz) 0 0 (wA w0 sz) := by
  obtain ⟨rfl, h1⟩ := h1
  refine w_met (cc := cX2_shortfall) (maxL := 2) (ret := some .int) (own := RX2) (by decide) rfl rfl w0_ok (Nat.le_of_ble_eq_true rfl) ?_
  intro p e s m below meth c hX hsz hK hP hD hA hE hS hR ls hl
  have hx := hX.1
  have hb := hX.2.1
  have hl : lv_has ls 2 [(0, .ref (a 0)), (1, .int (iI (↑d1)))] := hl
  refine lv_aload_n hx hb dX2_shortfall_0 rfl (lv_at hl 0 rfl) ?_
  refine lv_iload_n hx hb dX2_shortfall_1 rfl (lv_at hl 1 rfl) ?_
  refine r_calli hA hP hS (va_runV (As := [.int (iI (↑d1))]) (rest := []) hX.fix (c_X2_netPosition hZ _ σ n0 hn B hgo d1 _ (by omega)) (cwV 1 hX.hts (lw_V q517 q518 q519 q81 q520) rfl rfl rfl (by decide +kernel) ⟨Nat.le_of_ble_eq_true rfl, Nat.le_of_ble_eq_true rfl⟩) (r_preV hZ hK hA hE (hR _ _ hS) hS (va_recv hK (hR _ _ hS) (ci := 1) (q0 := 0) vw_X2 hW_0)) rfl rfl hl.1 rfl (lv_room (Nat.le_of_ble_eq_true rfl)) dX2_shortfall_2 ⟨Nat.le_of_ble_eq_true rfl, Nat.le_of_ble_eq_true rfl⟩) (fun r y H locs hq hP hS => ?_)
  rw [show r = iI (mNet (σ 0) d1) from hq]
  refine z_ineg hX dX2_shortfall_5 ?_
  refine lv_aload_n hx hb dX2_shortfall_6 rfl (lv_at hl 0 rfl) ?_
  refine h_get hX hK (hR _ _ hS) 1 (by decide) q168 rfl dX2_shortfall_7 ?_
  refine lv_iload_n hx hb dX2_shortfall_10 rfl (lv_at hl 1 rfl) ?_
  refine h_ldc hX hK (hR _ _ hS) d1 (⟨rfl, by omega⟩) dX2_shortfall_11 ?_
  refine z_isub hX dX2_shortfall_12 ?_
  refine W.eq (g2 := F0 m 13 ls [.int (iI ((-(mNet (σ 0) d1)) - (σ 0 (5 + d1))))]) rfl ?_
  exact w_iret hX hP hS (congrArg iI (by unfold mLk mNet; omega)) dX2_shortfall_13
set_option maxHeartbeats 4000000 in
theorem c_X2_isInsolvent {l : Launch} {D : va_G} {Z : zZ} {cA : Nat → ClassId} (hZ : zOk Z) (sz : Nat) {a : Nat → Nat} (σ : zT) (n0 : Nat) (hn : σ 0 0 = n0 ∧ n0 ≤ 7) (B : Int) (hgo : gOk (σ 0) B) (hB : B ≤ 2000000) (d1 : Nat) (E1 : Int) (h1 : E1 = d1 ∧ d1 < 7) : Met l yX2_isInsolvent (ws_ yX2_isInsolvent cX2_isInsolvent 2 (some .boolean)) { frames := 3, cells := 0, slots := 0, locals := 65 } (wPc D vwCl (tyL cA) Z w0 (hW a cA σ) [.ref (a 0), .int (iI (E1))] sz zO) (wQi D vwCl w0 (fun r _ => r = iI (bI (0 < mLk (σ 0) d1))) sz) 0 0 (wA w0 sz) := by
  obtain ⟨rfl, h1⟩ := h1
  refine w_met (cc := cX2_isInsolvent) (maxL := 2) (ret := some .boolean) (own := RX2) (by decide) rfl rfl w0_ok (Nat.le_of_ble_eq_true rfl) ?_
  intro p e s m below meth c hX hsz hK hP hD hA hE hS hR ls hl
  have hx := hX.1
  have hb := hX.2.1
  have hl : lv_has ls 2 [(0, .ref (a 0)), (1, .int (iI (↑d1)))] := hl
  refine lv_aload_n hx hb dX2_isInsolvent_0 rfl (lv_at hl 0 rfl) ?_
  refine lv_iload_n hx hb dX2_isInsolvent_1 rfl (lv_at hl 1 rfl) ?_
  refine r_calli hA hP hS (va_runV (As := [.int (iI (↑d1))]) (rest := []) hX.fix (c_X2_shortfall hZ _ σ n0 hn B hgo d1 _ (by omega)) (cwV 1 hX.hts (lw_V q513 q515 qs5 q81 q516) rfl rfl rfl (by decide +kernel) ⟨Nat.le_of_ble_eq_true rfl, Nat.le_of_ble_eq_true rfl⟩) (r_preV hZ hK hA hE (hR _ _ hS) hS (va_recv hK (hR _ _ hS) (ci := 1) (q0 := 0) vw_X2 hW_0)) rfl rfl hl.1 rfl (lv_room (Nat.le_of_ble_eq_true rfl)) dX2_isInsolvent_2 ⟨Nat.le_of_ble_eq_true rfl, Nat.le_of_ble_eq_true rfl⟩) (fun r y H locs hq hP hS => ?_)
  rw [show r = iI (mLk (σ 0) d1) from hq]
  have hb1 := mLk_bd hgo hB (p := d1) (by omega)
  refine z_if_le (tgt := 12) hX (by omega) dX2_isInsolvent_5 (by decide) (fun c_5 => ?_) (fun c_5 => ?_)
  · skip
    refine z_iconst hX dX2_isInsolvent_12 ?_
    exact w_zret hX hP hS (by decide) (by rw [bI_f (by omega)]) dX2_isInsolvent_13
  · skip
    refine z_iconst hX dX2_isInsolvent_8 ?_
    refine lv_goto (tgt := 13) hx hb dX2_isInsolvent_9 (by decide) ?_
    exact w_zret hX hP hS (by decide) (by rw [bI_t (by omega)]) dX2_isInsolvent_13
set_option maxHeartbeats 4000000 in
theorem c_X2_shortOfCash {l : Launch} {D : va_G} {Z : zZ} {cA : Nat → ClassId} (hZ : zOk Z) (sz : Nat) {a : Nat → Nat} (σ : zT) (n0 : Nat) (hn : σ 0 0 = n0 ∧ n0 ≤ 7) (B : Int) (hgo : gOk (σ 0) B) (d1 : Nat) (E1 : Int) (h1 : E1 = d1 ∧ d1 < 7) : Met l yX2_shortOfCash (ws_ yX2_shortOfCash cX2_shortOfCash 2 (some .int)) { frames := 1, cells := 0, slots := 0, locals := 23 } (wPc D vwCl (tyL cA) Z w0 (hW a cA σ) [.ref (a 0), .int (iI (E1))] sz zO) (wQi D vwCl w0 (fun r _ => r = iI (mOb (σ 0) d1 - σ 0 (5 + d1))) sz) 0 0 (wA w0 sz) := by
  obtain ⟨rfl, h1⟩ := h1
  refine w_met (cc := cX2_shortOfCash) (maxL := 2) (ret := some .int) (own := RX2) (by decide) rfl rfl w0_ok (Nat.le_of_ble_eq_true rfl) ?_
  intro p e s m below meth c hX hsz hK hP hD hA hE hS hR ls hl
  have hx := hX.1
  have hb := hX.2.1
  have hl : lv_has ls 2 [(0, .ref (a 0)), (1, .int (iI (↑d1)))] := hl
  refine lv_aload_n hx hb dX2_shortOfCash_0 rfl (lv_at hl 0 rfl) ?_
  refine lv_iload_n hx hb dX2_shortOfCash_1 rfl (lv_at hl 1 rfl) ?_
  refine r_calli hA hP hS (va_runV (As := [.int (iI (↑d1))]) (rest := []) hX.fix (c_X2_obligations hZ _ σ n0 hn B hgo d1 _ (by omega)) (cwV 1 hX.hts (lw_V q525 q526 q527 q81 q528) rfl rfl rfl (by decide +kernel) ⟨Nat.le_of_ble_eq_true rfl, Nat.le_of_ble_eq_true rfl⟩) (r_preV hZ hK hA hE (hR _ _ hS) hS (va_recv hK (hR _ _ hS) (ci := 1) (q0 := 0) vw_X2 hW_0)) rfl rfl hl.1 rfl (lv_room (Nat.le_of_ble_eq_true rfl)) dX2_shortOfCash_2 ⟨Nat.le_of_ble_eq_true rfl, Nat.le_of_ble_eq_true rfl⟩) (fun r y H locs hq hP hS => ?_)
  rw [show r = iI (mOb (σ 0) d1) from hq]
  refine lv_aload_n hx hb dX2_shortOfCash_5 rfl (lv_at hl 0 rfl) ?_
  refine h_get hX hK (hR _ _ hS) 1 (by decide) q168 rfl dX2_shortOfCash_6 ?_
  refine lv_iload_n hx hb dX2_shortOfCash_9 rfl (lv_at hl 1 rfl) ?_
  refine h_ldc hX hK (hR _ _ hS) d1 (⟨rfl, by omega⟩) dX2_shortOfCash_10 ?_
  refine z_isub hX dX2_shortOfCash_11 ?_
  exact w_iret hX hP hS (rfl) dX2_shortOfCash_12
set_option maxHeartbeats 4000000 in
theorem c_X2_cashTotal {l : Launch} {D : va_G} {Z : zZ} {cA : Nat → ClassId} (hZ : zOk Z) (sz : Nat) {a : Nat → Nat} (σ : zT) (n0 : Nat) (hn : σ 0 0 = n0 ∧ n0 ≤ 7) (B : Int) (hgo : gOk (σ 0) B) : Met l yX2_cashTotal (ws_ yX2_cashTotal cX2_cashTotal 3 (some .int)) { frames := 0, cells := 0, slots := 0, locals := 0 } (wPc D vwCl (tyL cA) Z w0 (hW a cA σ) [.ref (a 0)] sz zO) (wQi D vwCl w0 (fun r _ => r = iI (sg (fun k => σ 0 (5 + k)) 7)) sz) 0 0 (wA w0 sz) := by
  refine w_met (cc := cX2_cashTotal) (maxL := 3) (ret := some .int) (own := RX2) (by decide) rfl rfl w0_ok (Nat.le_of_ble_eq_true rfl) ?_
  intro p e s m below meth c hX hsz hK hP hD hA hE hS hR ls hl
  have hx := hX.1
  have hb := hX.2.1
  have hl : lv_has ls 3 [(0, .ref (a 0))] := hl
  refine z_iconst hX dX2_cashTotal_0 ?_
  refine z_top (y := sg (fun k => σ 0 (5 + k)) 0) (rfl) ?_
  refine lv_istore_n (lv' := [(1, .int (iI (sg (fun k => σ 0 (5 + k)) 0))), (0, .ref (a 0))]) hx hb dX2_cashTotal_1 rfl hl (by decide) rfl (fun ls hl => ?_)
  refine z_iconst hX dX2_cashTotal_2 ?_
  refine z_top (y := ↑(0 : Nat)) (rfl) ?_
  refine lv_istore_n (lv' := [(2, .int (iI (↑(0 : Nat)))), (1, .int (iI (sg (fun k => σ 0 (5 + k)) 0))), (0, .ref (a 0))]) hx hb dX2_cashTotal_3 rfl hl (by decide) rfl (fun ls hl => ?_)
  have L4 : ∀ (n : Nat) (i : Nat), (n0 < i + n) → (i ≤ n0) → ∀ (H : Heap) (locs : List Loc) (ls : Array Slot), va_P D vwCl (w0 zO) H → va_S (wA w0 sz) s.heap H locs → lv_has ls 3 [(0, .ref (a 0)), (1, .int (iI (sg (fun k => σ 0 (5 + k)) i))), (2, .int (iI (↑i)))] → W p l e (headSpec (ws_ yX2_cashTotal cX2_cashTotal 3 (some .int)) { frames := 0, cells := 0, slots := 0, locals := 0 }).room s m ([.ref (a 0)] : List Value).toArray below meth c H locs 0 0 (MQ below (wQi D vwCl w0 (fun r _ => r = iI (sg (fun k => σ 0 (5 + k)) 7)) sz) ([.ref (a 0)] : List Value).toArray s 0 0 (wA w0 sz)) (F0 m 4 ls []) := by
    intro n
    induction n with
    | zero =>
      intro i hf hi H locs ls hP hS hl
      exact absurd hf (by omega)
    | succ n ih4 =>
      intro i hf hi H locs ls hP hS hl
      refine lv_iload_n hx hb dX2_cashTotal_4 rfl (lv_at hl 2 rfl) ?_
      refine lv_aload_n hx hb dX2_cashTotal_5 rfl (lv_at hl 0 rfl) ?_
      refine h_get hX hK (hR _ _ hS) 3 (by decide) q172 rfl dX2_cashTotal_6 ?_
      refine z_icmp_ge (tgt := 27) hX (by omega) dX2_cashTotal_9 (by decide) (fun c_9 => ?_) (fun c_9 => ?_)
      · skip
        refine lv_iload_n hx hb dX2_cashTotal_27 rfl (lv_at hl 1 rfl) ?_
        refine W.eq (g2 := F0 m 28 ls [.int (iI (sg (fun k => σ 0 (5 + k)) i))]) rfl ?_
        exact w_iret hX hP hS (by rw [show i = n0 from by omega, sg_csh hgo hn]) dX2_cashTotal_28
      · skip
        refine lv_iload_n hx hb dX2_cashTotal_12 rfl (lv_at hl 1 rfl) ?_
        refine lv_aload_n hx hb dX2_cashTotal_13 rfl (lv_at hl 0 rfl) ?_
        refine h_get hX hK (hR _ _ hS) 1 (by decide) q168 rfl dX2_cashTotal_14 ?_
        refine lv_iload_n hx hb dX2_cashTotal_17 rfl (lv_at hl 2 rfl) ?_
        refine h_ldc hX hK (hR _ _ hS) i (⟨rfl, by omega⟩) dX2_cashTotal_18 ?_
        refine z_iadd hX dX2_cashTotal_19 ?_
        refine z_top (y := sg (fun k => σ 0 (5 + k)) (i + 1)) (rfl) ?_
        refine lv_istore_n (lv' := [(1, .int (iI (sg (fun k => σ 0 (5 + k)) (i + 1)))), (0, .ref (a 0)), (2, .int (iI (↑i)))]) hx hb dX2_cashTotal_20 rfl hl (by decide) rfl (fun ls hl => ?_)
        refine z_iinc (y := ↑(i + 1)) (lv' := [(2, .int (iI (↑(i + 1)))), (1, .int (iI (sg (fun k => σ 0 (5 + k)) (i + 1)))), (0, .ref (a 0))]) hX dX2_cashTotal_21 hl (k := 2) rfl (by omega) (by decide) rfl (fun ls hl => ?_)
        refine lv_goto (tgt := 4) hx hb dX2_cashTotal_24 (by decide) ?_
        exact ih4 (i + 1) (by omega) (by omega) _ _ _ hP hS (lv_sub hl [2, 1, 0] rfl)
  exact L4 (n0 + 1) (0) (by omega) (by omega) _ _ _ hP hS (lv_sub hl [2, 1, 0] rfl)
set_option maxHeartbeats 4000000 in
theorem c_X2_debtTotal {l : Launch} {D : va_G} {Z : zZ} {cA : Nat → ClassId} (hZ : zOk Z) (sz : Nat) {a : Nat → Nat} (σ : zT) (n0 : Nat) (hn : σ 0 0 = n0 ∧ n0 ≤ 7) (B : Int) (hgo : gOk (σ 0) B) : Met l yX2_debtTotal (ws_ yX2_debtTotal cX2_debtTotal 3 (some .int)) { frames := 1, cells := 0, slots := 0, locals := 23 } (wPc D vwCl (tyL cA) Z w0 (hW a cA σ) [.ref (a 0)] sz zO) (wQi D vwCl w0 (fun r _ => r = iI (sg (fun k => σ 0 (12 + k)) 49)) sz) 0 0 (wA w0 sz) := by
  refine w_met (cc := cX2_debtTotal) (maxL := 3) (ret := some .int) (own := RX2) (by decide) rfl rfl w0_ok (Nat.le_of_ble_eq_true rfl) ?_
  intro p e s m below meth c hX hsz hK hP hD hA hE hS hR ls hl
  have hx := hX.1
  have hb := hX.2.1
  have hl : lv_has ls 3 [(0, .ref (a 0))] := hl
  refine z_iconst hX dX2_debtTotal_0 ?_
  refine z_top (y := sg (fun k => mOb (σ 0) k) 0) (rfl) ?_
  refine lv_istore_n (lv' := [(1, .int (iI (sg (fun k => mOb (σ 0) k) 0))), (0, .ref (a 0))]) hx hb dX2_debtTotal_1 rfl hl (by decide) rfl (fun ls hl => ?_)
  refine z_iconst hX dX2_debtTotal_2 ?_
  refine z_top (y := ↑(0 : Nat)) (rfl) ?_
  refine lv_istore_n (lv' := [(2, .int (iI (↑(0 : Nat)))), (1, .int (iI (sg (fun k => mOb (σ 0) k) 0))), (0, .ref (a 0))]) hx hb dX2_debtTotal_3 rfl hl (by decide) rfl (fun ls hl => ?_)
  have L4 : ∀ (n : Nat) (i : Nat), (n0 < i + n) → (i ≤ n0) → ∀ (H : Heap) (locs : List Loc) (ls : Array Slot), va_P D vwCl (w0 zO) H → va_S (wA w0 sz) s.heap H locs → lv_has ls 3 [(0, .ref (a 0)), (1, .int (iI (sg (fun k => mOb (σ 0) k) i))), (2, .int (iI (↑i)))] → W p l e (headSpec (ws_ yX2_debtTotal cX2_debtTotal 3 (some .int)) { frames := 1, cells := 0, slots := 0, locals := 23 }).room s m ([.ref (a 0)] : List Value).toArray below meth c H locs 0 0 (MQ below (wQi D vwCl w0 (fun r _ => r = iI (sg (fun k => σ 0 (12 + k)) 49)) sz) ([.ref (a 0)] : List Value).toArray s 0 0 (wA w0 sz)) (F0 m 4 ls []) := by
    intro n
    induction n with
    | zero =>
      intro i hf hi H locs ls hP hS hl
      exact absurd hf (by omega)
    | succ n ih4 =>
      intro i hf hi H locs ls hP hS hl
      refine lv_iload_n hx hb dX2_debtTotal_4 rfl (lv_at hl 2 rfl) ?_
      refine lv_aload_n hx hb dX2_debtTotal_5 rfl (lv_at hl 0 rfl) ?_
      refine h_get hX hK (hR _ _ hS) 3 (by decide) q172 rfl dX2_debtTotal_6 ?_
      refine z_icmp_ge (tgt := 26) hX (by omega) dX2_debtTotal_9 (by decide) (fun c_9 => ?_) (fun c_9 => ?_)
      · skip
        refine lv_iload_n hx hb dX2_debtTotal_26 rfl (lv_at hl 1 rfl) ?_
        refine W.eq (g2 := F0 m 27 ls [.int (iI (sg (fun k => mOb (σ 0) k) i))]) rfl ?_
        exact w_iret hX hP hS (by rw [show i = n0 from by omega, sg_obl hgo hn]) dX2_debtTotal_27
      · skip
        refine lv_iload_n hx hb dX2_debtTotal_12 rfl (lv_at hl 1 rfl) ?_
        refine lv_aload_n hx hb dX2_debtTotal_13 rfl (lv_at hl 0 rfl) ?_
        refine lv_iload_n hx hb dX2_debtTotal_14 rfl (lv_at hl 2 rfl) ?_
        refine r_calli hA hP hS (va_runV (As := [.int (iI (↑i))]) (rest := [.int (iI (sg (fun k => mOb (σ 0) k) i))]) hX.fix (c_X2_obligations hZ _ σ n0 hn B hgo i _ (by omega)) (cwV 1 hX.hts (lw_V q525 q526 q527 q81 q528) rfl rfl rfl (by decide +kernel) ⟨Nat.le_of_ble_eq_true rfl, Nat.le_of_ble_eq_true rfl⟩) (r_preV hZ hK hA hE (hR _ _ hS) hS (va_recv hK (hR _ _ hS) (ci := 1) (q0 := 0) vw_X2 hW_0)) rfl rfl hl.1 rfl (lv_room (Nat.le_of_ble_eq_true rfl)) dX2_debtTotal_15 ⟨Nat.le_of_ble_eq_true rfl, Nat.le_of_ble_eq_true rfl⟩) (fun r y H locs hq hP hS => ?_)
        rw [show r = iI (mOb (σ 0) i) from hq]
        refine z_iadd hX dX2_debtTotal_18 ?_
        refine z_top (y := sg (fun k => mOb (σ 0) k) (i + 1)) (rfl) ?_
        refine lv_istore_n (lv' := [(1, .int (iI (sg (fun k => mOb (σ 0) k) (i + 1)))), (0, .ref (a 0)), (2, .int (iI (↑i)))]) hx hb dX2_debtTotal_19 rfl hl (by decide) rfl (fun ls hl => ?_)
        refine z_iinc (y := ↑(i + 1)) (lv' := [(2, .int (iI (↑(i + 1)))), (1, .int (iI (sg (fun k => mOb (σ 0) k) (i + 1)))), (0, .ref (a 0))]) hX dX2_debtTotal_20 hl (k := 2) rfl (by omega) (by decide) rfl (fun ls hl => ?_)
        refine lv_goto (tgt := 4) hx hb dX2_debtTotal_23 (by decide) ?_
        exact ih4 (i + 1) (by omega) (by omega) _ _ _ hP hS (lv_sub hl [2, 1, 0] rfl)
  exact L4 (n0 + 1) (0) (by omega) (by omega) _ _ _ hP hS (lv_sub hl [2, 1, 0] rfl)
set_option maxHeartbeats 4000000 in
theorem c_X2_weakest {l : Launch} {D : va_G} {Z : zZ} {cA : Nat → ClassId} (hZ : zOk Z) (sz : Nat) {a : Nat → Nat} (σ : zT) (n0 : Nat) (hn : σ 0 0 = n0 ∧ n0 ≤ 7) (B : Int) (hgo : gOk (σ 0) B) (hB : B ≤ 2000000) : Met l yX2_weakest (ws_ yX2_weakest cX2_weakest 4 (some .int)) { frames := 4, cells := 0, slots := 0, locals := 86 } (wPc D vwCl (tyL cA) Z w0 (hW a cA σ) [.ref (a 0)] sz zO) (wQi D vwCl w0 (fun r _ => r = iI (wkF (σ 0) n0)) sz) 0 0 (wA w0 sz) := by
  refine w_met (cc := cX2_weakest) (maxL := 4) (ret := some .int) (own := RX2) (by decide) rfl rfl w0_ok (Nat.le_of_ble_eq_true rfl) ?_
  intro p e s m below meth c hX hsz hK hP hD hA hE hS hR ls hl
  have hx := hX.1
  have hb := hX.2.1
  have hl : lv_has ls 4 [(0, .ref (a 0))] := hl
  refine z_iconst hX dX2_weakest_0 ?_
  refine z_top (y := wkF (σ 0) 0) (rfl) ?_
  refine lv_istore_n (lv' := [(1, .int (iI (wkF (σ 0) 0))), (0, .ref (a 0))]) hx hb dX2_weakest_1 rfl hl (by decide) rfl (fun ls hl => ?_)
  refine z_iconst hX dX2_weakest_2 ?_
  refine z_top (y := ↑(0 : Nat)) (rfl) ?_
  refine lv_istore_n (lv' := [(2, .int (iI (↑(0 : Nat)))), (1, .int (iI (wkF (σ 0) 0))), (0, .ref (a 0))]) hx hb dX2_weakest_3 rfl hl (by decide) rfl (fun ls hl => ?_)
  have L4 : ∀ (n : Nat) (i : Nat), (n0 < i + n) → (i ≤ n0) → ∀ (H : Heap) (locs : List Loc) (ls : Array Slot), va_P D vwCl (w0 zO) H → va_S (wA w0 sz) s.heap H locs → lv_has ls 4 [(0, .ref (a 0)), (1, .int (iI (wkF (σ 0) i))), (2, .int (iI (↑i)))] → W p l e (headSpec (ws_ yX2_weakest cX2_weakest 4 (some .int)) { frames := 4, cells := 0, slots := 0, locals := 86 }).room s m ([.ref (a 0)] : List Value).toArray below meth c H locs 0 0 (MQ below (wQi D vwCl w0 (fun r _ => r = iI (wkF (σ 0) n0)) sz) ([.ref (a 0)] : List Value).toArray s 0 0 (wA w0 sz)) (F0 m 4 ls []) := by
    intro n
    induction n with
    | zero =>
      intro i hf hi H locs ls hP hS hl
      exact absurd hf (by omega)
    | succ n ih4 =>
      intro i hf hi H locs ls hP hS hl
      have hw := wkF_bd (g := σ 0) i
      refine lv_iload_n hx hb dX2_weakest_4 rfl (lv_at hl 2 rfl) ?_
      refine lv_aload_n hx hb dX2_weakest_5 rfl (lv_at hl 0 rfl) ?_
      refine h_get hX hK (hR _ _ hS) 3 (by decide) q172 rfl dX2_weakest_6 ?_
      refine z_icmp_ge (tgt := 60) hX (by omega) dX2_weakest_9 (by decide) (fun c_9 => ?_) (fun c_9 => ?_)
      · skip
        refine lv_iload_n hx hb dX2_weakest_60 rfl (lv_at hl 1 rfl) ?_
        refine W.eq (g2 := F0 m 61 ls [.int (iI (wkF (σ 0) i))]) rfl ?_
        exact w_iret hX hP hS (by rw [show i = n0 from by omega]) dX2_weakest_61
      · skip
        have hb1 := mLk_bd hgo hB (p := i) (by omega)
        refine lv_iload_n hx hb dX2_weakest_12 rfl (lv_at hl 1 rfl) ?_
        refine z_iconst hX dX2_weakest_13 ?_
        have L36 : ∀ (H : Heap) (locs : List Loc) (ls : Array Slot), va_P D vwCl (w0 zO) H → va_S (wA w0 sz) s.heap H locs → lv_has ls 4 [(0, .ref (a 0)), (1, .int (iI (wkF (σ 0) i))), (2, .int (iI (↑i))), (3, .int (iI (bI (wkF (σ 0) i < 0 ∨ mLk (σ 0) i > mLk (σ 0) (wkF (σ 0) i).toNat))))] → W p l e (headSpec (ws_ yX2_weakest cX2_weakest 4 (some .int)) { frames := 4, cells := 0, slots := 0, locals := 86 }).room s m ([.ref (a 0)] : List Value).toArray below meth c H locs 0 0 (MQ below (wQi D vwCl w0 (fun r _ => r = iI (wkF (σ 0) n0)) sz) ([.ref (a 0)] : List Value).toArray s 0 0 (wA w0 sz)) (F0 m 36 ls []) := by
          intro   H locs ls hP hS hl
          refine lv_aload_n hx hb dX2_weakest_36 rfl (lv_at hl 0 rfl) ?_
          refine lv_iload_n hx hb dX2_weakest_37 rfl (lv_at hl 2 rfl) ?_
          refine r_calli hA hP hS (va_runV (As := [.int (iI (↑i))]) (rest := []) hX.fix (c_X2_isInsolvent hZ _ σ n0 hn B hgo hB i _ (by omega)) (cwV 1 hX.hts (lw_V q509 q510 q511 q81 q512) rfl rfl rfl (by decide +kernel) ⟨Nat.le_of_ble_eq_true rfl, Nat.le_of_ble_eq_true rfl⟩) (r_preV hZ hK hA hE (hR _ _ hS) hS (va_recv hK (hR _ _ hS) (ci := 1) (q0 := 0) vw_X2 hW_0)) rfl rfl hl.1 rfl (lv_room (Nat.le_of_ble_eq_true rfl)) dX2_weakest_38 ⟨Nat.le_of_ble_eq_true rfl, Nat.le_of_ble_eq_true rfl⟩) (fun r y H locs hq hP hS => ?_)
          rw [show r = iI (bI (0 < mLk (σ 0) i)) from hq]
          refine z_if_eqB (tgt := 52) hX dX2_weakest_41 (by decide) (fun c_41 => ?_) (fun c_41 => ?_)
          · skip
            refine lv_iload_n hx hb dX2_weakest_52 rfl (lv_at hl 1 rfl) ?_
            refine z_top (y := wkF (σ 0) (i + 1)) (by show _ = if 0 < mLk (σ 0) i ∧ (wkF (σ 0) i < 0 ∨ mLk (σ 0) i > mLk (σ 0) (wkF (σ 0) i).toNat) then (i : Int) else wkF (σ 0) i; rw [if_neg (by first | exact fun h => c_45 h.2 | exact fun h => c_41 h.1)]) ?_
            refine lv_istore_n (lv' := [(1, .int (iI (wkF (σ 0) (i + 1)))), (0, .ref (a 0)), (2, .int (iI (↑i))), (3, .int (iI (bI (wkF (σ 0) i < 0 ∨ mLk (σ 0) i > mLk (σ 0) (wkF (σ 0) i).toNat))))]) hx hb dX2_weakest_53 rfl hl (by decide) rfl (fun ls hl => ?_)
            refine W.eq (g2 := F0 m 54 ls []) rfl ?_
            refine z_iinc (y := ↑(i + 1)) (lv' := [(2, .int (iI (↑(i + 1)))), (1, .int (iI (wkF (σ 0) (i + 1)))), (0, .ref (a 0)), (3, .int (iI (bI (wkF (σ 0) i < 0 ∨ mLk (σ 0) i > mLk (σ 0) (wkF (σ 0) i).toNat))))]) hX dX2_weakest_54 hl (k := 2) rfl (by omega) (by decide) rfl (fun ls hl => ?_)
            refine lv_goto (tgt := 4) hx hb dX2_weakest_57 (by decide) ?_
            exact ih4 (i + 1) (by omega) (by omega) _ _ _ hP hS (lv_sub hl [2, 1, 0] rfl)
          · skip
            refine lv_iload_n hx hb dX2_weakest_44 rfl (lv_at hl 3 rfl) ?_
            refine z_if_eqB (tgt := 52) hX dX2_weakest_45 (by decide) (fun c_45 => ?_) (fun c_45 => ?_)
            · skip
              refine lv_iload_n hx hb dX2_weakest_52 rfl (lv_at hl 1 rfl) ?_
              refine z_top (y := wkF (σ 0) (i + 1)) (by show _ = if 0 < mLk (σ 0) i ∧ (wkF (σ 0) i < 0 ∨ mLk (σ 0) i > mLk (σ 0) (wkF (σ 0) i).toNat) then (i : Int) else wkF (σ 0) i; rw [if_neg (by first | exact fun h => c_45 h.2 | exact fun h => c_41 h.1)]) ?_
              refine lv_istore_n (lv' := [(1, .int (iI (wkF (σ 0) (i + 1)))), (0, .ref (a 0)), (2, .int (iI (↑i))), (3, .int (iI (bI (wkF (σ 0) i < 0 ∨ mLk (σ 0) i > mLk (σ 0) (wkF (σ 0) i).toNat))))]) hx hb dX2_weakest_53 rfl hl (by decide) rfl (fun ls hl => ?_)
              refine z_iinc (y := ↑(i + 1)) (lv' := [(2, .int (iI (↑(i + 1)))), (1, .int (iI (wkF (σ 0) (i + 1)))), (0, .ref (a 0)), (3, .int (iI (bI (wkF (σ 0) i < 0 ∨ mLk (σ 0) i > mLk (σ 0) (wkF (σ 0) i).toNat))))]) hX dX2_weakest_54 hl (k := 2) rfl (by omega) (by decide) rfl (fun ls hl => ?_)
              refine lv_goto (tgt := 4) hx hb dX2_weakest_57 (by decide) ?_
              exact ih4 (i + 1) (by omega) (by omega) _ _ _ hP hS (lv_sub hl [2, 1, 0] rfl)
            · skip
              refine lv_iload_n hx hb dX2_weakest_48 rfl (lv_at hl 2 rfl) ?_
              refine lv_goto (tgt := 53) hx hb dX2_weakest_49 (by decide) ?_
              refine z_top (y := wkF (σ 0) (i + 1)) (by show _ = if 0 < mLk (σ 0) i ∧ (wkF (σ 0) i < 0 ∨ mLk (σ 0) i > mLk (σ 0) (wkF (σ 0) i).toNat) then (i : Int) else wkF (σ 0) i; rw [if_pos ⟨c_41, c_45⟩]) ?_
              refine W.eq (g2 := F0 m 53 ls [.int (iI (wkF (σ 0) (i + 1)))]) rfl ?_
              refine lv_istore_n (lv' := [(1, .int (iI (wkF (σ 0) (i + 1)))), (0, .ref (a 0)), (2, .int (iI (↑i))), (3, .int (iI (bI (wkF (σ 0) i < 0 ∨ mLk (σ 0) i > mLk (σ 0) (wkF (σ 0) i).toNat))))]) hx hb dX2_weakest_53 rfl hl (by decide) rfl (fun ls hl => ?_)
              refine z_iinc (y := ↑(i + 1)) (lv' := [(2, .int (iI (↑(i + 1)))), (1, .int (iI (wkF (σ 0) (i + 1)))), (0, .ref (a 0)), (3, .int (iI (bI (wkF (σ 0) i < 0 ∨ mLk (σ 0) i > mLk (σ 0) (wkF (σ 0) i).toNat))))]) hX dX2_weakest_54 hl (k := 2) rfl (by omega) (by decide) rfl (fun ls hl => ?_)
              refine lv_goto (tgt := 4) hx hb dX2_weakest_57 (by decide) ?_
              exact ih4 (i + 1) (by omega) (by omega) _ _ _ hP hS (lv_sub hl [2, 1, 0] rfl)
        refine z_icmp_eq (tgt := 30) hX (by omega) dX2_weakest_14 (by decide) (fun c_14 => ?_) (fun c_14 => ?_)
        · skip
          refine z_iconst hX dX2_weakest_30 ?_
          refine lv_goto (tgt := 35) hx hb dX2_weakest_31 (by decide) ?_
          refine z_top (y := bI (wkF (σ 0) i < 0 ∨ mLk (σ 0) i > mLk (σ 0) (wkF (σ 0) i).toNat)) ((bI_t (by omega)).symm) ?_
          refine lv_istore_n (lv' := [(3, .int (iI (bI (wkF (σ 0) i < 0 ∨ mLk (σ 0) i > mLk (σ 0) (wkF (σ 0) i).toNat)))), (0, .ref (a 0)), (1, .int (iI (wkF (σ 0) i))), (2, .int (iI (↑i)))]) hx hb dX2_weakest_35 rfl hl (by decide) rfl (fun ls hl => ?_)
          exact L36 _ _ _ hP hS (lv_sub hl [1, 2, 3, 0] rfl)
        · skip
          have hb2 := mLk_bd hgo hB (p := (wkF (σ 0) i).toNat) (by omega)
          refine lv_aload_n hx hb dX2_weakest_17 rfl (lv_at hl 0 rfl) ?_
          refine lv_iload_n hx hb dX2_weakest_18 rfl (lv_at hl 2 rfl) ?_
          refine r_calli hA hP hS (va_runV (As := [.int (iI (↑i))]) (rest := []) hX.fix (c_X2_shortfall hZ _ σ n0 hn B hgo i _ (by omega)) (cwV 1 hX.hts (lw_V q513 q515 qs5 q81 q516) rfl rfl rfl (by decide +kernel) ⟨Nat.le_of_ble_eq_true rfl, Nat.le_of_ble_eq_true rfl⟩) (r_preV hZ hK hA hE (hR _ _ hS) hS (va_recv hK (hR _ _ hS) (ci := 1) (q0 := 0) vw_X2 hW_0)) rfl rfl hl.1 rfl (lv_room (Nat.le_of_ble_eq_true rfl)) dX2_weakest_19 ⟨Nat.le_of_ble_eq_true rfl, Nat.le_of_ble_eq_true rfl⟩) (fun r y H locs hq hP hS => ?_)
          rw [show r = iI (mLk (σ 0) i) from hq]
          refine lv_aload_n hx hb dX2_weakest_22 rfl (lv_at hl 0 rfl) ?_
          refine W.eq (g2 := F0 m 23 ls [.ref (a 0), .int (iI (mLk (σ 0) i))]) rfl ?_
          refine lv_iload_n hx hb dX2_weakest_23 rfl (lv_at hl 1 rfl) ?_
          refine r_calli hA hP hS (va_runV (As := [.int (iI (wkF (σ 0) i))]) (rest := [.int (iI (mLk (σ 0) i))]) hX.fix (c_X2_shortfall hZ _ σ n0 hn B hgo (wkF (σ 0) i).toNat _ ⟨by omega, by omega⟩) (cwV 1 hX.hts (lw_V q513 q515 qs5 q81 q516) rfl rfl rfl (by decide +kernel) ⟨Nat.le_of_ble_eq_true rfl, Nat.le_of_ble_eq_true rfl⟩) (r_preV hZ hK hA hE (hR _ _ hS) hS (va_recv hK (hR _ _ hS) (ci := 1) (q0 := 0) vw_X2 hW_0)) rfl rfl hl.1 rfl (lv_room (Nat.le_of_ble_eq_true rfl)) dX2_weakest_24 ⟨Nat.le_of_ble_eq_true rfl, Nat.le_of_ble_eq_true rfl⟩) (fun r y H locs hq hP hS => ?_)
          rw [show r = iI (mLk (σ 0) (wkF (σ 0) i).toNat) from hq]
          refine z_icmp_le (tgt := 34) hX (by omega) dX2_weakest_27 (by decide) (fun c_27 => ?_) (fun c_27 => ?_)
          · skip
            refine z_iconst hX dX2_weakest_34 ?_
            refine z_top (y := bI (wkF (σ 0) i < 0 ∨ mLk (σ 0) i > mLk (σ 0) (wkF (σ 0) i).toNat)) ((bI_f (by omega)).symm) ?_
            refine lv_istore_n (lv' := [(3, .int (iI (bI (wkF (σ 0) i < 0 ∨ mLk (σ 0) i > mLk (σ 0) (wkF (σ 0) i).toNat)))), (0, .ref (a 0)), (1, .int (iI (wkF (σ 0) i))), (2, .int (iI (↑i)))]) hx hb dX2_weakest_35 rfl hl (by decide) rfl (fun ls hl => ?_)
            exact L36 _ _ _ hP hS (lv_sub hl [1, 2, 3, 0] rfl)
          · skip
            refine z_iconst hX dX2_weakest_30 ?_
            refine lv_goto (tgt := 35) hx hb dX2_weakest_31 (by decide) ?_
            refine z_top (y := bI (wkF (σ 0) i < 0 ∨ mLk (σ 0) i > mLk (σ 0) (wkF (σ 0) i).toNat)) ((bI_t (by omega)).symm) ?_
            refine lv_istore_n (lv' := [(3, .int (iI (bI (wkF (σ 0) i < 0 ∨ mLk (σ 0) i > mLk (σ 0) (wkF (σ 0) i).toNat)))), (0, .ref (a 0)), (1, .int (iI (wkF (σ 0) i))), (2, .int (iI (↑i)))]) hx hb dX2_weakest_35 rfl hl (by decide) rfl (fun ls hl => ?_)
            exact L36 _ _ _ hP hS (lv_sub hl [1, 2, 3, 0] rfl)
  exact L4 (n0 + 1) (0) (by omega) (by omega) _ _ _ hP hS (lv_sub hl [2, 1, 0] rfl)
