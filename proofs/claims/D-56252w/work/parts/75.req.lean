/-! requirements: what throws -/
set_option maxRecDepth 100000
set_option maxHeartbeats 4000000 in
theorem c_X1_isBetween {l : Launch} {D : va_G} {Z : zZ} {cA : Nat → ClassId} (hZ : zOk Z) (sz : Nat) (v lo hi : Int) (hr : (-2147483648 ≤ v ∧ v ≤ 2147483647) ∧ (-2147483648 ≤ lo ∧ lo ≤ 2147483647) ∧ (-2147483648 ≤ hi ∧ hi ≤ 2147483647)) : Met l yX1_isBetween (ws_ yX1_isBetween cX1_isBetween 3 (some .boolean)) { frames := 0, cells := 0, slots := 0, locals := 0 } (wPc D vwCl (tyL cA) Z w0 [] [.int (iI (v)), .int (iI (lo)), .int (iI (hi))] sz zO) (wQi D vwCl w0 (fun r _ => r = iI (bI (lo ≤ v ∧ v ≤ hi))) sz) 0 0 (wA w0 sz) := by
  refine w_met (cc := cX1_isBetween) (maxL := 3) (ret := some .boolean) (own := RX1) (by decide) rfl rfl w0_ok (Nat.le_of_ble_eq_true rfl) ?_
  intro p e s m below meth c hX hsz hK hP hD hA hE hS hR ls hl
  have hx := hX.1
  have hb := hX.2.1
  have hl : lv_has ls 3 [(0, .int (iI (v))), (1, .int (iI (lo))), (2, .int (iI (hi)))] := hl
  refine lv_iload_n hx hb dX1_isBetween_0 rfl (lv_at hl 1 rfl) ?_
  refine lv_iload_n hx hb dX1_isBetween_1 rfl (lv_at hl 0 rfl) ?_
  refine z_icmp_gt (tgt := 14) hX (by omega) dX1_isBetween_2 (by decide) (fun c_2 => ?_) (fun c_2 => ?_)
  · skip
    refine z_iconst hX dX1_isBetween_14 ?_
    exact w_zret hX hP hS (by decide) (by rw [bI_f (by omega)]) dX1_isBetween_15
  · skip
    refine lv_iload_n hx hb dX1_isBetween_5 rfl (lv_at hl 0 rfl) ?_
    refine lv_iload_n hx hb dX1_isBetween_6 rfl (lv_at hl 2 rfl) ?_
    refine z_icmp_gt (tgt := 14) hX (by omega) dX1_isBetween_7 (by decide) (fun c_7 => ?_) (fun c_7 => ?_)
    · skip
      refine z_iconst hX dX1_isBetween_14 ?_
      refine W.eq (g2 := F0 m 15 ls [.int (iI (0))]) rfl ?_
      exact w_zret hX hP hS (by decide) (by rw [bI_f (by omega)]) dX1_isBetween_15
    · skip
      refine z_iconst hX dX1_isBetween_10 ?_
      refine lv_goto (tgt := 15) hx hb dX1_isBetween_11 (by decide) ?_
      exact w_zret hX hP hS (by decide) (by rw [bI_t (by omega)]) dX1_isBetween_15
set_option maxHeartbeats 4000000 in
theorem c_X1_requireIndex {l : Launch} {D : va_G} {Z : zZ} {cA : Nat → ClassId} (hZ : zOk Z) (hfl : l.stackTraces = false) (hz : ∀ A U H, Z A U H → zT9 A U H) (sz : Nat) (P N : Int) (hr : (-2147483648 ≤ P ∧ P ≤ 2147483647) ∧ 0 ≤ N ∧ N ≤ 2147483647) : vx_Met l yX1_requireIndex (ws_ yX1_requireIndex cX1_requireIndex 2 (none)) { frames := 6, cells := 1, slots := 6, locals := 100 } (wPc D vwCl (tyL cA) Z w0 [] [.int (iI (P)), .int (iI (N))] sz zO) (wQv D vwCl w0 (fun _ => 0 ≤ P ∧ P ≤ N - 1) sz) (xQ (fun k => ¬ (0 ≤ P ∧ P ≤ N - 1) ∧ k = 1) (wA w0 sz)) 1 6 (wA w0 sz) := by
  refine w_metX (cc := cX1_requireIndex) (maxL := 2) (ret := none) (own := RX1) (by decide) rfl rfl w0_ok (Nat.le_of_ble_eq_true rfl) ?_
  intro p e s m below meth c hX ht hsz hK hP hD hA hE hS hR hN ls hl
  have hx := hX.1
  have hb := hX.2.1
  have hz0 := hz _ _ _ hE
  have hl : lv_has ls 2 [(0, .int (iI (P))), (1, .int (iI (N)))] := hl
  refine lv_iload_n hx hb dX1_requireIndex_0 rfl (lv_at hl 0 rfl) ?_
  refine z_iconst hX dX1_requireIndex_1 ?_
  refine lv_iload_n hx hb dX1_requireIndex_2 rfl (lv_at hl 1 rfl) ?_
  refine z_iconst hX dX1_requireIndex_3 ?_
  refine z_isub hX dX1_requireIndex_4 ?_
  refine r_calli hA hP hS (va_runS (As := [.int (iI (P)), .int (iI (0)), .int (iI (N - 1))]) (rest := []) hX.fix (c_X1_isBetween hZ _ (P) (0) (N - 1) (by omega)) (va_cwS 3 hX.hts (lw_S q325 q326 q80 q327) rfl rfl rfl (by decide +kernel) ⟨Nat.le_of_ble_eq_true rfl, Nat.le_of_ble_eq_true rfl⟩) (r_preS hZ hK hA hE (fun k q h => by cases h) hS) rfl rfl hl.1 rfl (lv_room (Nat.le_of_ble_eq_true rfl)) dX1_requireIndex_5 ⟨Nat.le_of_ble_eq_true rfl, Nat.le_of_ble_eq_true rfl⟩) (fun r y H locs hq hP hS => ?_)
  rw [show r = iI (bI (0 ≤ P ∧ P ≤ (N - 1))) from hq]
  refine z_if_neB (tgt := 19) hX dX1_requireIndex_8 (by decide) (fun c_8 => ?_) (fun c_8 => ?_)
  · skip
    refine vx_ret ?_
    refine W.widen (k := 1) (n := 6) (Nat.le_of_ble_eq_true rfl) (Nat.le_of_ble_eq_true rfl) ?_
    exact w_vret hX hP hS (c_8) dX1_requireIndex_19
  · skip
    refine w_throw hX hfl ht hz0 hS hA [328, 94, 91, 350, 359, 369, 372, 374, 351, 352, 131, 132, 353, 358, 370, 387, 340, 388, 342, 389, 344, 354, 356, 346, 376, 377, 378, 379, 331, 379, 380, 381, 382, 333, 382, 383, 384, 351, 335, 375, 329, 330, 337, 338, 339, 341, 343, 345, 349, 348, 347] 1 rfl (⟨c_8, rfl⟩) (by decide) (by decide +kernel) (by decide +kernel) hl.1 dX1_requireIndex_11 dX1_requireIndex_14 dX1_requireIndex_15 dX1_requireIndex_18 ⟨Nat.le_of_ble_eq_true rfl, Nat.le_of_ble_eq_true rfl, Nat.le_of_ble_eq_true rfl, Nat.le_of_ble_eq_true rfl, Nat.le_of_ble_eq_true rfl, Nat.le_of_ble_eq_true rfl⟩
set_option maxHeartbeats 4000000 in
theorem c_X1_requireArgument {l : Launch} {D : va_G} {Z : zZ} {cA : Nat → ClassId} (hZ : zOk Z) (hfl : l.stackTraces = false) (hz : ∀ A U H, Z A U H → zT9 A U H) (sz : Nat) (E : Int) (hr : E = 0 ∨ E = 1) : vx_Met l yX1_requireArgument (ws_ yX1_requireArgument cX1_requireArgument 1 (none)) { frames := 6, cells := 1, slots := 6, locals := 100 } (wPc D vwCl (tyL cA) Z w0 [] [.int (iI (E))] sz zO) (wQv D vwCl w0 (fun _ => E = 1) sz) (xQ (fun k => E = 0 ∧ k = 2) (wA w0 sz)) 1 6 (wA w0 sz) := by
  refine w_metX (cc := cX1_requireArgument) (maxL := 1) (ret := none) (own := RX1) (by decide) rfl rfl w0_ok (Nat.le_of_ble_eq_true rfl) ?_
  intro p e s m below meth c hX ht hsz hK hP hD hA hE hS hR hN ls hl
  have hx := hX.1
  have hb := hX.2.1
  have hz0 := hz _ _ _ hE
  have hl : lv_has ls 1 [(0, .int (iI (E)))] := hl
  refine lv_iload_n hx hb dX1_requireArgument_0 rfl (lv_at hl 0 rfl) ?_
  refine z_if_ne (tgt := 12) hX (by omega) dX1_requireArgument_1 (by decide) (fun c_1 => ?_) (fun c_1 => ?_)
  · skip
    refine vx_ret ?_
    refine W.widen (k := 1) (n := 6) (Nat.le_of_ble_eq_true rfl) (Nat.le_of_ble_eq_true rfl) ?_
    exact w_vret hX hP hS (by omega) dX1_requireArgument_12
  · skip
    refine w_throw hX hfl ht hz0 hS hA [401, 95, 91, 350, 359, 369, 372, 374, 351, 352, 131, 132, 353, 358, 370, 387, 340, 388, 342, 389, 344, 354, 356, 346, 411, 412, 413, 379, 331, 379, 380, 381, 382, 333, 382, 383, 384, 351, 335, 410, 402, 403, 404, 364, 405, 406, 407, 408, 349, 348, 409] 2 rfl (⟨c_1, rfl⟩) (by decide) (by decide +kernel) (by decide +kernel) hl.1 dX1_requireArgument_4 dX1_requireArgument_7 dX1_requireArgument_8 dX1_requireArgument_11 ⟨Nat.le_of_ble_eq_true rfl, Nat.le_of_ble_eq_true rfl, Nat.le_of_ble_eq_true rfl, Nat.le_of_ble_eq_true rfl, Nat.le_of_ble_eq_true rfl, Nat.le_of_ble_eq_true rfl⟩
set_option maxHeartbeats 4000000 in
theorem c_X1_requireState {l : Launch} {D : va_G} {Z : zZ} {cA : Nat → ClassId} (hZ : zOk Z) (hfl : l.stackTraces = false) (hz : ∀ A U H, Z A U H → zT9 A U H) (sz : Nat) (E : Int) (hr : E = 0 ∨ E = 1) : vx_Met l yX1_requireState (ws_ yX1_requireState cX1_requireState 1 (none)) { frames := 6, cells := 1, slots := 6, locals := 100 } (wPc D vwCl (tyL cA) Z w0 [] [.int (iI (E))] sz zO) (wQv D vwCl w0 (fun _ => E = 1) sz) (xQ (fun k => E = 0 ∧ k = 3) (wA w0 sz)) 1 6 (wA w0 sz) := by
  refine w_metX (cc := cX1_requireState) (maxL := 1) (ret := none) (own := RX1) (by decide) rfl rfl w0_ok (Nat.le_of_ble_eq_true rfl) ?_
  intro p e s m below meth c hX ht hsz hK hP hD hA hE hS hR hN ls hl
  have hx := hX.1
  have hb := hX.2.1
  have hz0 := hz _ _ _ hE
  have hl : lv_has ls 1 [(0, .int (iI (E)))] := hl
  refine lv_iload_n hx hb dX1_requireState_0 rfl (lv_at hl 0 rfl) ?_
  refine z_if_ne (tgt := 12) hX (by omega) dX1_requireState_1 (by decide) (fun c_1 => ?_) (fun c_1 => ?_)
  · skip
    refine vx_ret ?_
    refine W.widen (k := 1) (n := 6) (Nat.le_of_ble_eq_true rfl) (Nat.le_of_ble_eq_true rfl) ?_
    exact w_vret hX hP hS (by omega) dX1_requireState_12
  · skip
    refine w_throw hX hfl ht hz0 hS hA [423, 96, 91, 350, 359, 369, 372, 374, 351, 352, 131, 132, 353, 358, 370, 387, 340, 388, 342, 389, 344, 354, 356, 346, 433, 434, 435, 379, 331, 379, 380, 381, 382, 333, 382, 383, 384, 351, 335, 432, 424, 425, 426, 365, 427, 428, 429, 430, 349, 348, 431] 3 rfl (⟨c_1, rfl⟩) (by decide) (by decide +kernel) (by decide +kernel) hl.1 dX1_requireState_4 dX1_requireState_7 dX1_requireState_8 dX1_requireState_11 ⟨Nat.le_of_ble_eq_true rfl, Nat.le_of_ble_eq_true rfl, Nat.le_of_ble_eq_true rfl, Nat.le_of_ble_eq_true rfl, Nat.le_of_ble_eq_true rfl, Nat.le_of_ble_eq_true rfl⟩
set_option maxHeartbeats 4000000 in
theorem c_X1_requireSupported {l : Launch} {D : va_G} {Z : zZ} {cA : Nat → ClassId} (hZ : zOk Z) (hfl : l.stackTraces = false) (hz : ∀ A U H, Z A U H → zT9 A U H) (sz : Nat) (E : Int) (hr : E = 0 ∨ E = 1) : vx_Met l yX1_requireSupported (ws_ yX1_requireSupported cX1_requireSupported 1 (none)) { frames := 6, cells := 1, slots := 6, locals := 100 } (wPc D vwCl (tyL cA) Z w0 [] [.int (iI (E))] sz zO) (wQv D vwCl w0 (fun _ => E = 1) sz) (xQ (fun k => E = 0 ∧ k = 4) (wA w0 sz)) 1 6 (wA w0 sz) := by
  refine w_metX (cc := cX1_requireSupported) (maxL := 1) (ret := none) (own := RX1) (by decide) rfl rfl w0_ok (Nat.le_of_ble_eq_true rfl) ?_
  intro p e s m below meth c hX ht hsz hK hP hD hA hE hS hR hN ls hl
  have hx := hX.1
  have hb := hX.2.1
  have hz0 := hz _ _ _ hE
  have hl : lv_has ls 1 [(0, .int (iI (E)))] := hl
  refine lv_iload_n hx hb dX1_requireSupported_0 rfl (lv_at hl 0 rfl) ?_
  refine z_if_ne (tgt := 12) hX (by omega) dX1_requireSupported_1 (by decide) (fun c_1 => ?_) (fun c_1 => ?_)
  · skip
    refine vx_ret ?_
    refine W.widen (k := 1) (n := 6) (Nat.le_of_ble_eq_true rfl) (Nat.le_of_ble_eq_true rfl) ?_
    exact w_vret hX hP hS (by omega) dX1_requireSupported_12
  · skip
    refine w_throw hX hfl ht hz0 hS hA [449, 97, 91, 350, 359, 369, 372, 374, 351, 352, 131, 132, 353, 358, 370, 387, 340, 388, 342, 389, 344, 354, 356, 346, 459, 460, 461, 379, 331, 379, 380, 381, 382, 333, 382, 383, 384, 351, 335, 458, 450, 451, 452, 367, 453, 454, 455, 456, 349, 348, 457] 4 rfl (⟨c_1, rfl⟩) (by decide) (by decide +kernel) (by decide +kernel) hl.1 dX1_requireSupported_4 dX1_requireSupported_7 dX1_requireSupported_8 dX1_requireSupported_11 ⟨Nat.le_of_ble_eq_true rfl, Nat.le_of_ble_eq_true rfl, Nat.le_of_ble_eq_true rfl, Nat.le_of_ble_eq_true rfl, Nat.le_of_ble_eq_true rfl, Nat.le_of_ble_eq_true rfl⟩
set_option maxHeartbeats 4000000 in
theorem c_X1_requireFound {l : Launch} {D : va_G} {Z : zZ} {cA : Nat → ClassId} (hZ : zOk Z) (hfl : l.stackTraces = false) (hz : ∀ A U H, Z A U H → zT9 A U H) (sz : Nat) (E : Int) (hr : (-2147483648 ≤ E ∧ E ≤ 2147483647)) : vx_Met l yX1_requireFound (ws_ yX1_requireFound cX1_requireFound 1 (some .int)) { frames := 6, cells := 1, slots := 6, locals := 100 } (wPc D vwCl (tyL cA) Z w0 [] [.int (iI (E))] sz zO) (wQi D vwCl w0 (fun r _ => r = iI E ∧ E ≠ -1) sz) (xQ (fun k => E = -1 ∧ k = 5) (wA w0 sz)) 1 6 (wA w0 sz) := by
  refine w_metX (cc := cX1_requireFound) (maxL := 1) (ret := some .int) (own := RX1) (by decide) rfl rfl w0_ok (Nat.le_of_ble_eq_true rfl) ?_
  intro p e s m below meth c hX ht hsz hK hP hD hA hE hS hR hN ls hl
  have hx := hX.1
  have hb := hX.2.1
  have hz0 := hz _ _ _ hE
  have hl : lv_has ls 1 [(0, .int (iI (E)))] := hl
  refine lv_iload_n hx hb dX1_requireFound_0 rfl (lv_at hl 0 rfl) ?_
  refine z_iconst hX dX1_requireFound_1 ?_
  refine z_icmp_ne (tgt := 13) hX (by omega) dX1_requireFound_2 (by decide) (fun c_2 => ?_) (fun c_2 => ?_)
  · skip
    refine lv_iload_n hx hb dX1_requireFound_13 rfl (lv_at hl 0 rfl) ?_
    refine vx_ret ?_
    refine W.widen (k := 1) (n := 6) (Nat.le_of_ble_eq_true rfl) (Nat.le_of_ble_eq_true rfl) ?_
    exact w_iret hX hP hS (⟨rfl, c_2⟩) dX1_requireFound_14
  · skip
    refine w_throw hX hfl ht hz0 hS hA [1168, 103, 91, 350, 359, 369, 372, 374, 351, 352, 131, 132, 353, 358, 370, 387, 340, 388, 342, 389, 344, 354, 356, 346, 658, 659, 660, 379, 331, 379, 380, 381, 382, 333, 382, 383, 384, 351, 335, 1169, 649, 650, 651, 368, 652, 653, 654, 655, 349, 348, 656] 5 rfl (⟨c_2, rfl⟩) (by decide) (by decide +kernel) (by decide +kernel) hl.1 dX1_requireFound_5 dX1_requireFound_8 dX1_requireFound_9 dX1_requireFound_12 ⟨Nat.le_of_ble_eq_true rfl, Nat.le_of_ble_eq_true rfl, Nat.le_of_ble_eq_true rfl, Nat.le_of_ble_eq_true rfl, Nat.le_of_ble_eq_true rfl, Nat.le_of_ble_eq_true rfl⟩
set_option maxHeartbeats 4000000 in
theorem c_X1_requireSome {l : Launch} {D : va_G} {Z : zZ} {cA : Nat → ClassId} (hZ : zOk Z) (hfl : l.stackTraces = false) (hz : ∀ A U H, Z A U H → zT9 A U H) (sz : Nat) (E : Int) (hr : (-2147483648 ≤ E ∧ E ≤ 2147483647)) : vx_Met l yX1_requireSome (ws_ yX1_requireSome cX1_requireSome 1 (none)) { frames := 6, cells := 1, slots := 6, locals := 100 } (wPc D vwCl (tyL cA) Z w0 [] [.int (iI (E))] sz zO) (wQv D vwCl w0 (fun _ => E ≠ 0) sz) (xQ (fun k => E = 0 ∧ k = 6) (wA w0 sz)) 1 6 (wA w0 sz) := by
  refine w_metX (cc := cX1_requireSome) (maxL := 1) (ret := none) (own := RX1) (by decide) rfl rfl w0_ok (Nat.le_of_ble_eq_true rfl) ?_
  intro p e s m below meth c hX ht hsz hK hP hD hA hE hS hR hN ls hl
  have hx := hX.1
  have hb := hX.2.1
  have hz0 := hz _ _ _ hE
  have hl : lv_has ls 1 [(0, .int (iI (E)))] := hl
  refine lv_iload_n hx hb dX1_requireSome_0 rfl (lv_at hl 0 rfl) ?_
  refine z_if_ne (tgt := 12) hX (by omega) dX1_requireSome_1 (by decide) (fun c_1 => ?_) (fun c_1 => ?_)
  · skip
    refine vx_ret ?_
    refine W.widen (k := 1) (n := 6) (Nat.le_of_ble_eq_true rfl) (Nat.le_of_ble_eq_true rfl) ?_
    exact w_vret hX hP hS (c_1) dX1_requireSome_12
  · skip
    refine w_throw hX hfl ht hz0 hS hA [1241, 113, 91, 350, 359, 369, 372, 374, 351, 352, 131, 132, 353, 358, 370, 387, 340, 388, 342, 389, 344, 354, 356, 346, 1243, 1244, 1245, 379, 331, 379, 380, 381, 382, 333, 382, 383, 384, 351, 335, 1242, 1221, 1232, 1233, 362, 1227, 1228, 1230, 1226, 349, 348, 1225] 6 rfl (⟨c_1, rfl⟩) (by decide) (by decide +kernel) (by decide +kernel) hl.1 dX1_requireSome_4 dX1_requireSome_7 dX1_requireSome_8 dX1_requireSome_11 ⟨Nat.le_of_ble_eq_true rfl, Nat.le_of_ble_eq_true rfl, Nat.le_of_ble_eq_true rfl, Nat.le_of_ble_eq_true rfl, Nat.le_of_ble_eq_true rfl, Nat.le_of_ble_eq_true rfl⟩
set_option maxHeartbeats 4000000 in
theorem c_X2_requireParty {l : Launch} {D : va_G} {Z : zZ} {cA : Nat → ClassId} (hZ : zOk Z) (hfl : l.stackTraces = false) (hz : ∀ A U H, Z A U H → zT9 A U H) (sz : Nat) {a : Nat → Nat} (σ : zT) (n0 : Nat) (hn : σ 0 0 = n0 ∧ n0 ≤ 7) (P : Int) (hr : (-2147483648 ≤ P ∧ P ≤ 2147483647)) : vx_Met l yX2_requireParty (ws_ yX2_requireParty cX2_requireParty 2 (none)) { frames := 7, cells := 1, slots := 6, locals := 121 } (wPc D vwCl (tyL cA) Z w0 (hW a cA σ) [.ref (a 0), .int (iI (P))] sz zO) (wQv D vwCl w0 (fun _ => mIs (σ 0) P) sz) (xQ (fun k => ¬ mIs (σ 0) P ∧ k = 1) (wA w0 sz)) 1 6 (wA w0 sz) := by
  refine w_metX (cc := cX2_requireParty) (maxL := 2) (ret := none) (own := RX2) (by decide) rfl rfl w0_ok (Nat.le_of_ble_eq_true rfl) ?_
  intro p e s m below meth c hX ht hsz hK hP hD hA hE hS hR hN ls hl
  have hx := hX.1
  have hb := hX.2.1
  have hz0 := hz _ _ _ hE
  have hl : lv_has ls 2 [(0, .ref (a 0)), (1, .int (iI (P)))] := hl
  refine lv_iload_n hx hb dX2_requireParty_0 rfl (lv_at hl 1 rfl) ?_
  refine lv_aload_n hx hb dX2_requireParty_1 rfl (lv_at hl 0 rfl) ?_
  refine h_get hX hK (hR _ _ hS) 3 (by decide) q172 rfl dX2_requireParty_2 ?_
  refine x_callv hX ht hA hP hS (vx_runSN (As := [.int (iI (P)), .int (iI (σ 0 0))]) (rest := []) hX.fix (c_X1_requireIndex hZ hfl hz _ (P) (σ 0 0) (by omega)) ⟨va_cnB 2 hX.hts (lw_meth q324) rfl rfl rfl (hz0.1 _ q322 rfl) (hX.hts _ q80) (by decide +kernel) ⟨Nat.le_of_ble_eq_true rfl, Nat.le_of_ble_eq_true rfl⟩, hX.hts _ q323, trivial⟩ (r_preS hZ hK hA hE (fun k q h => by cases h) hS) rfl rfl hl.1 rfl (lv_room (Nat.le_of_ble_eq_true rfl)) dX2_requireParty_5 ⟨Nat.le_of_ble_eq_true rfl, Nat.le_of_ble_eq_true rfl⟩) (fun k hk => hk) ⟨Nat.le_of_ble_eq_true rfl, Nat.le_of_ble_eq_true rfl⟩ (fun y H locs hq hP hS => ?_)
  refine vx_ret ?_
  exact w_vret hX hP hS (hq) dX2_requireParty_8
set_option maxHeartbeats 4000000 in
theorem c_X2_requireBoth {l : Launch} {D : va_G} {Z : zZ} {cA : Nat → ClassId} (hZ : zOk Z) (hfl : l.stackTraces = false) (hz : ∀ A U H, Z A U H → zT9 A U H) (sz : Nat) {a : Nat → Nat} (σ : zT) (n0 : Nat) (hn : σ 0 0 = n0 ∧ n0 ≤ 7) (P P2 : Int) (hr : (-2147483648 ≤ P ∧ P ≤ 2147483647) ∧ (-2147483648 ≤ P2 ∧ P2 ≤ 2147483647)) : vx_Met l yX2_requireBoth (ws_ yX2_requireBoth cX2_requireBoth 3 (none)) { frames := 8, cells := 2, slots := 12, locals := 142 } (wPc D vwCl (tyL cA) Z w0 (hW a cA σ) [.ref (a 0), .int (iI (P)), .int (iI (P2))] sz zO) (wQv D vwCl w0 (fun _ => mIs (σ 0) P ∧ mIs (σ 0) P2) sz) (xQ (fun k => ¬ (mIs (σ 0) P ∧ mIs (σ 0) P2) ∧ k = 1) (wA w0 sz)) 2 12 (wA w0 sz) := by
  refine w_metX (cc := cX2_requireBoth) (maxL := 3) (ret := none) (own := RX2) (by decide) rfl rfl w0_ok (Nat.le_of_ble_eq_true rfl) ?_
  intro p e s m below meth c hX ht hsz hK hP hD hA hE hS hR hN ls hl
  have hx := hX.1
  have hb := hX.2.1
  have hz0 := hz _ _ _ hE
  have hl : lv_has ls 3 [(0, .ref (a 0)), (1, .int (iI (P))), (2, .int (iI (P2)))] := hl
  refine lv_aload_n hx hb dX2_requireBoth_0 rfl (lv_at hl 0 rfl) ?_
  refine lv_iload_n hx hb dX2_requireBoth_1 rfl (lv_at hl 1 rfl) ?_
  refine x_callv hX ht hA hP hS (vx_runV (As := [.int (iI (P))]) (rest := []) hX.fix (c_X2_requireParty hZ hfl hz _ σ n0 hn (P) (by omega)) (cwV 1 hX.hts (lw_V q318 q319 q320 q81 q321) rfl rfl rfl (by decide +kernel) ⟨Nat.le_of_ble_eq_true rfl, Nat.le_of_ble_eq_true rfl⟩) (r_preV hZ hK hA hE (hR _ _ hS) hS (va_recv hK (hR _ _ hS) (ci := 1) (q0 := 0) vw_X2 hW_0)) rfl rfl hl.1 rfl (lv_room (Nat.le_of_ble_eq_true rfl)) dX2_requireBoth_2 ⟨Nat.le_of_ble_eq_true rfl, Nat.le_of_ble_eq_true rfl⟩) (fun k hk => ⟨fun h => hk.1 h.1, hk.2⟩) ⟨Nat.le_of_ble_eq_true rfl, Nat.le_of_ble_eq_true rfl⟩ (fun y H locs hq hP hS => ?_)
  have hq1 := hq
  refine lv_aload_n hx hb dX2_requireBoth_5 rfl (lv_at hl 0 rfl) ?_
  refine lv_iload_n hx hb dX2_requireBoth_6 rfl (lv_at hl 2 rfl) ?_
  refine x_callv hX ht hA hP hS (vx_runV (As := [.int (iI (P2))]) (rest := []) hX.fix (c_X2_requireParty hZ hfl hz _ σ n0 hn (P2) (by omega)) (cwV 1 hX.hts (lw_V q318 q319 q320 q81 q321) rfl rfl rfl (by decide +kernel) ⟨Nat.le_of_ble_eq_true rfl, Nat.le_of_ble_eq_true rfl⟩) (r_preV hZ hK hA hE (hR _ _ hS) hS (va_recv hK (hR _ _ hS) (ci := 1) (q0 := 0) vw_X2 hW_0)) rfl rfl hl.1 rfl (lv_room (Nat.le_of_ble_eq_true rfl)) dX2_requireBoth_7 ⟨Nat.le_of_ble_eq_true rfl, Nat.le_of_ble_eq_true rfl⟩) (fun k hk => ⟨fun h => hk.1 h.2, hk.2⟩) ⟨Nat.le_of_ble_eq_true rfl, Nat.le_of_ble_eq_true rfl⟩ (fun y H locs hq hP hS => ?_)
  refine vx_ret ?_
  exact w_vret hX hP hS (⟨hq1, hq⟩) dX2_requireBoth_10
set_option maxHeartbeats 4000000 in
theorem c_X2_requireDifferent {l : Launch} {D : va_G} {Z : zZ} {cA : Nat → ClassId} (hZ : zOk Z) (hfl : l.stackTraces = false) (hz : ∀ A U H, Z A U H → zT9 A U H) (sz : Nat) {a : Nat → Nat} (σ : zT) (n0 : Nat) (hn : σ 0 0 = n0 ∧ n0 ≤ 7) (P P2 : Int) (hr : (-2147483648 ≤ P ∧ P ≤ 2147483647) ∧ (-2147483648 ≤ P2 ∧ P2 ≤ 2147483647)) : vx_Met l yX2_requireDifferent (ws_ yX2_requireDifferent cX2_requireDifferent 3 (none)) { frames := 9, cells := 3, slots := 18, locals := 164 } (wPc D vwCl (tyL cA) Z w0 (hW a cA σ) [.ref (a 0), .int (iI (P)), .int (iI (P2))] sz zO) (wQv D vwCl w0 (fun _ => (mIs (σ 0) P ∧ mIs (σ 0) P2) ∧ P ≠ P2) sz) (xQ (fun k => cPair (σ 0) P P2 ≠ 0 ∧ k = cPair (σ 0) P P2) (wA w0 sz)) 3 18 (wA w0 sz) := by
  refine w_metX (cc := cX2_requireDifferent) (maxL := 3) (ret := none) (own := RX2) (by decide) rfl rfl w0_ok (Nat.le_of_ble_eq_true rfl) ?_
  intro p e s m below meth c hX ht hsz hK hP hD hA hE hS hR hN ls hl
  have hx := hX.1
  have hb := hX.2.1
  have hz0 := hz _ _ _ hE
  have hl : lv_has ls 3 [(0, .ref (a 0)), (1, .int (iI (P))), (2, .int (iI (P2)))] := hl
  refine lv_aload_n hx hb dX2_requireDifferent_0 rfl (lv_at hl 0 rfl) ?_
  refine lv_iload_n hx hb dX2_requireDifferent_1 rfl (lv_at hl 1 rfl) ?_
  refine lv_iload_n hx hb dX2_requireDifferent_2 rfl (lv_at hl 2 rfl) ?_
  refine x_callv hX ht hA hP hS (vx_runV (As := [.int (iI (P)), .int (iI (P2))]) (rest := []) hX.fix (c_X2_requireBoth hZ hfl hz _ σ n0 hn (P) (P2) (by omega)) (cwV 2 hX.hts (lw_V q314 q315 q316 q81 q317) rfl rfl rfl (by decide +kernel) ⟨Nat.le_of_ble_eq_true rfl, Nat.le_of_ble_eq_true rfl⟩) (r_preV hZ hK hA hE (hR _ _ hS) hS (va_recv hK (hR _ _ hS) (ci := 1) (q0 := 0) vw_X2 hW_0)) rfl rfl hl.1 rfl (lv_room (Nat.le_of_ble_eq_true rfl)) dX2_requireDifferent_3 ⟨Nat.le_of_ble_eq_true rfl, Nat.le_of_ble_eq_true rfl⟩) (fun k hk => by rw [show cPair (σ 0) P P2 = 1 from if_pos hk.1]; exact ⟨by decide, hk.2⟩) ⟨Nat.le_of_ble_eq_true rfl, Nat.le_of_ble_eq_true rfl⟩ (fun y H locs hq hP hS => ?_)
  have hq1 := hq
  refine lv_iload_n hx hb dX2_requireDifferent_6 rfl (lv_at hl 1 rfl) ?_
  refine lv_iload_n hx hb dX2_requireDifferent_7 rfl (lv_at hl 2 rfl) ?_
  refine z_icmp_eq (tgt := 15) hX (by omega) dX2_requireDifferent_8 (by decide) (fun c_8 => ?_) (fun c_8 => ?_)
  · skip
    refine z_iconst hX dX2_requireDifferent_15 ?_
    refine x_callv hX ht hA hP hS (vx_runSN (As := [.int (iI (0))]) (rest := []) hX.fix (c_X1_requireArgument hZ hfl hz _ (0) (by decide)) ⟨va_cnB 1 hX.hts (lw_meth q400) rfl rfl rfl (hz0.1 _ q398 rfl) (hX.hts _ q80) (by decide +kernel) ⟨Nat.le_of_ble_eq_true rfl, Nat.le_of_ble_eq_true rfl⟩, hX.hts _ q399, trivial⟩ (r_preS hZ hK hA hE (fun k q h => by cases h) hS) rfl rfl hl.1 rfl (lv_room (Nat.le_of_ble_eq_true rfl)) dX2_requireDifferent_16 ⟨Nat.le_of_ble_eq_true rfl, Nat.le_of_ble_eq_true rfl⟩) (fun k hk => by rw [show cPair (σ 0) P P2 = 2 from (if_neg (fun h => h hq1)).trans (if_pos c_8)]; exact ⟨by decide, hk.2⟩) ⟨Nat.le_of_ble_eq_true rfl, Nat.le_of_ble_eq_true rfl⟩ (fun y H locs hq hP hS => ?_)
    exact absurd hq (by decide)
  · skip
    refine W.eq (g2 := F0 m 11 ls []) rfl ?_
    refine z_iconst hX dX2_requireDifferent_11 ?_
    refine lv_goto (tgt := 16) hx hb dX2_requireDifferent_12 (by decide) ?_
    refine x_callv hX ht hA hP hS (vx_runSN (As := [.int (iI (1))]) (rest := []) hX.fix (c_X1_requireArgument hZ hfl hz _ (1) (by decide)) ⟨va_cnB 1 hX.hts (lw_meth q400) rfl rfl rfl (hz0.1 _ q398 rfl) (hX.hts _ q80) (by decide +kernel) ⟨Nat.le_of_ble_eq_true rfl, Nat.le_of_ble_eq_true rfl⟩, hX.hts _ q399, trivial⟩ (r_preS hZ hK hA hE (fun k q h => by cases h) hS) rfl rfl hl.1 rfl (lv_room (Nat.le_of_ble_eq_true rfl)) dX2_requireDifferent_16 ⟨Nat.le_of_ble_eq_true rfl, Nat.le_of_ble_eq_true rfl⟩) (fun k hk => absurd hk.1 (by decide)) ⟨Nat.le_of_ble_eq_true rfl, Nat.le_of_ble_eq_true rfl⟩ (fun y H locs hq hP hS => ?_)
    refine vx_ret ?_
    exact w_vret hX hP hS (⟨hq1, c_8⟩) dX2_requireDifferent_19
set_option maxHeartbeats 4000000 in
theorem c_X2_requireAmount {l : Launch} {D : va_G} {Z : zZ} {cA : Nat → ClassId} (hZ : zOk Z) (hfl : l.stackTraces = false) (hz : ∀ A U H, Z A U H → zT9 A U H) (sz : Nat) (P : Int) (hr : (-2147483648 ≤ P ∧ P ≤ 2147483647)) : vx_Met l yX2_requireAmount (ws_ yX2_requireAmount cX2_requireAmount 1 (none)) { frames := 7, cells := 1, slots := 6, locals := 120 } (wPc D vwCl (tyL cA) Z w0 [] [.int (iI (P))] sz zO) (wQv D vwCl w0 (fun _ => mAm P) sz) (xQ (fun k => ¬ mAm P ∧ k = 2) (wA w0 sz)) 1 6 (wA w0 sz) := by
  refine w_metX (cc := cX2_requireAmount) (maxL := 1) (ret := none) (own := RX2) (by decide) rfl rfl w0_ok (Nat.le_of_ble_eq_true rfl) ?_
  intro p e s m below meth c hX ht hsz hK hP hD hA hE hS hR hN ls hl
  have hx := hX.1
  have hb := hX.2.1
  have hz0 := hz _ _ _ hE
  have hl : lv_has ls 1 [(0, .int (iI (P)))] := hl
  refine lv_iload_n hx hb dX2_requireAmount_0 rfl (lv_at hl 0 rfl) ?_
  refine z_iconst hX dX2_requireAmount_1 ?_
  refine z_sipush hX dX2_requireAmount_2 (by decide) ?_
  refine r_calli hA hP hS (va_runSN (As := [.int (iI (P)), .int (iI (1)), .int (iI (999))]) (rest := []) hX.fix (c_X1_isBetween hZ _ (P) (1) (999) (by omega)) ⟨va_cnB 3 hX.hts (lw_meth q327) rfl rfl rfl (hz0.1 _ q419 rfl) (hX.hts _ q80) (by decide +kernel) ⟨Nat.le_of_ble_eq_true rfl, Nat.le_of_ble_eq_true rfl⟩, hX.hts _ q326, trivial⟩ (r_preS hZ hK hA hE (fun k q h => by cases h) hS) rfl rfl hl.1 rfl (lv_room (Nat.le_of_ble_eq_true rfl)) dX2_requireAmount_5 ⟨Nat.le_of_ble_eq_true rfl, Nat.le_of_ble_eq_true rfl⟩) (fun r y H locs hq hP hS => ?_)
  rw [show r = iI (bI (1 ≤ P ∧ P ≤ 999)) from hq]
  refine x_callv hX ht hA hP hS (vx_runSN (As := [.int (iI (bI (1 ≤ P ∧ P ≤ 999)))]) (rest := []) hX.fix (c_X1_requireArgument hZ hfl hz _ (bI (1 ≤ P ∧ P ≤ 999)) (bI_01)) ⟨va_cnB 1 hX.hts (lw_meth q400) rfl rfl rfl (hz0.1 _ q398 rfl) (hX.hts _ q80) (by decide +kernel) ⟨Nat.le_of_ble_eq_true rfl, Nat.le_of_ble_eq_true rfl⟩, hX.hts _ q399, trivial⟩ (r_preS hZ hK hA hE (fun k q h => by cases h) hS) rfl rfl hl.1 rfl (lv_room (Nat.le_of_ble_eq_true rfl)) dX2_requireAmount_8 ⟨Nat.le_of_ble_eq_true rfl, Nat.le_of_ble_eq_true rfl⟩) (fun k hk => ⟨fun h => by rw [bI_t h] at hk; exact absurd hk.1 (by decide), hk.2⟩) ⟨Nat.le_of_ble_eq_true rfl, Nat.le_of_ble_eq_true rfl⟩ (fun y H locs hq hP hS => ?_)
  refine vx_ret ?_
  exact w_vret hX hP hS (Decidable.by_contra (fun h => by rw [bI_f h] at hq; exact absurd hq (by decide))) dX2_requireAmount_11
