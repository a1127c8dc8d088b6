/-! settlements by trying; shares that are so -/
set_option maxRecDepth 100000
set_option maxHeartbeats 4000000 in
theorem c_X2_fewestPaymentsByTrying {l : Launch} {D : va_G} {Z : zZ} {cA : Nat → ClassId} (hZ : zOk Z) (hfl : l.stackTraces = false) (hz : ∀ A U H, Z A U H → zT9 A U H) (sz : Nat) {a : Nat → Nat} (σ : zT) (n0 : Nat) (hn : σ 0 0 = n0 ∧ n0 ≤ 7) (B : Int) (hgo : gOk (σ 0) B)  : Met l yX2_fewestPaymentsByTrying (ws_ yX2_fewestPaymentsByTrying cX2_fewestPaymentsByTrying 1 (some .int)) { frames := 9, cells := 2, slots := 14, locals := 400 } (wPc D vwCl (tyL cA) Z (wL []) (hW a cA σ) [.ref (a 0)] sz zO) (nQi D (fun r ws => r = iI (ffF (posL (σ 0) n0).length (posL (σ 0) n0).length 0 (lg (posL (σ 0) n0))) ∧ ws = []) (wA (wL []) sz)) 2 14 (wA (wL []) sz) := by
  refine l_met (cc := cX2_fewestPaymentsByTrying) (maxL := 1) (ret := some .int) (own := RX2) (by decide) rfl rfl (Nat.le_of_ble_eq_true rfl) ?_
  intro p e s m below meth c hX hnm hsz hK hP hD hA hE hS hR hN ls hl
  have hx := hX.1
  have hb := hX.2.1
  have hz0 := hz _ _ _ hE
  have hl : lv_has ls 1 [(0, .ref (a 0))] := hl
  have hml : (posL (σ 0) n0).length ≤ n0 := posL_len n0
  have hfb := lg_bd hgo hn.2
  refine z_iconst hX dX2_fewestPaymentsByTrying_0 ?_
  refine lv_aload_n hx hb dX2_fewestPaymentsByTrying_1 rfl (lv_at hl 0 rfl) ?_
  have hz8 : sz ≤ _ := Nat.le_trans (Nat.le_of_eq hsz.symm) hS.1
  refine l_callq (L0 := []) (G := []) hP hD hA hS (va_runV (As := []) (rest := [.int (iI (0))]) hX.fix (c_X2_positions hZ hfl hz _ σ n0 hn B hgo) (cwV 0 hX.hts (lw_V q888 q890 qs18 q81 q891) rfl rfl rfl (by decide +kernel) ⟨Nat.le_of_ble_eq_true rfl, Nat.le_of_ble_eq_true rfl⟩) (r_preV hZ hK hA hE (hR _ _ hS) hS (va_recv hK (hR _ _ hS) (ci := 1) (q0 := 0) vw_X2 hW_0)) rfl rfl hl.1 rfl (lv_room (Nat.le_of_ble_eq_true rfl)) dX2_fewestPaymentsByTrying_2 ⟨Nat.le_of_ble_eq_true rfl, Nat.le_of_ble_eq_true rfl⟩) (fun r w1 h => by obtain ⟨_, _, rfl, h⟩ := h; exact h) (fun r9 w1 H locs hq hP hD hS => ?_)
  obtain ⟨pv, rfl, rfl, -⟩ := hq
  have hP : va_P D vwCl [enI cA pv ((posL (σ 0) n0).length) (lg (posL (σ 0) n0))] H := hP
  have hD : va_D _ [enI cA pv ((posL (σ 0) n0).length) (lg (posL (σ 0) n0))] := hD
  refine W.eq (g2 := F0 m 5 ls [.ref pv, .int (iI (0))]) rfl ?_
  have hP9 : va_P D vwCl ([enI cA pv ((posL (σ 0) n0).length) (lg (posL (σ 0) n0))] ++ []) H := hP
  have hD9 : va_D _ ([enI cA pv ((posL (σ 0) n0).length) (lg (posL (σ 0) n0))] ++ []) := hD
  refine l_calli hP9 hD9 hA hS (va_runS (As := [.int (iI (0)), .ref pv]) (rest := []) hX.fix (c_X2_fewestFrom hZ hfl hz (posL (σ 0) n0).length (by omega) (posL (σ 0) n0).length 0 (lg (posL (σ 0) n0)) 6993 _ _ rfl (by omega) (by decide) hfb (by
    have h1 : 2 ^ (posL (σ 0) n0).length ≤ 2 ^ 7 := Nat.pow_le_pow_right (by decide) (by omega)
    have h2 : ((2 ^ (posL (σ 0) n0).length : Nat) : Int) ≤ 128 := by exact_mod_cast h1
    push_cast at h2
    omega)) (va_cwS 2 hX.hts (lw_S q906 q907 q81 q908) rfl rfl rfl (by decide +kernel) ⟨by show (posL (σ 0) n0).length + 1 + 1 ≤ 9; omega, by show 8 + (5 + 11) + (40 + 40 * (posL (σ 0) n0).length) ≤ 400; omega⟩) (l_preS hZ hK (D_l hD9) hA hE (P_l hP9) (fun k q h => by cases h) (fun k q h => by cases h) hS) rfl rfl hl.1 rfl (lv_room (Nat.le_of_ble_eq_true rfl)) dX2_fewestPaymentsByTrying_5 ⟨Nat.le_of_ble_eq_true rfl, Nat.le_of_ble_eq_true rfl⟩) (fun r w1 h => by obtain ⟨-, rfl⟩ := h; exact (D_l hD9).self) (fun r w1 H locs hq hP hD hS => ?_)
  obtain ⟨hq1, rfl⟩ := hq
  have hP : va_P D vwCl [enI cA pv ((posL (σ 0) n0).length) (lg (posL (σ 0) n0))] H := hP
  have hD : va_D _ [enI cA pv ((posL (σ 0) n0).length) (lg (posL (σ 0) n0))] := hD
  rw [show r = iI (ffF (posL (σ 0) n0).length (posL (σ 0) n0).length 0 (lg (posL (σ 0) n0))) from hq1]
  have hP : va_P D vwCl [] H := hP.sub [] rfl
  exact n_iret hX hP hS (⟨rfl, rfl⟩) dX2_fewestPaymentsByTrying_8
section
variable {p : Program} {l : Launch} {e : Env} {R : Room} {s : State} {m : MethodId} {args : Array Value} {below : List Frame} {meth : Method} {c : Code} {H : Heap} {locs : List Loc} {cells slots : Nat}
variable {cc : ByteArray} {pc : Nat} {ls : Array Slot} {D : va_G} {nL : Nat} {own : String} {ws : va_W}
theorem n_zret {P : Int32 → va_W → Prop} {sz : Nat} {w : zT → va_W} {E : Int} (hX : zX p s m args meth c cc own nL (some .boolean)) (hP : va_P D vwCl ws H) (hS : va_S (wA w sz) s.heap H locs) (h01 : E = 0 ∨ E = 1) (hq : P (iI E) ws) (hdg : decode cc pc = .ok (.ireturn, 1)) : W p l e R s m args below meth c H locs cells slots (MQ below (nQi D P (wA w sz)) args s cells slots (wA w sz)) (F0 m pc ls [.int (iI E)]) :=
  W.zret hX.1 hX.2.1 hX.2.2.2.2.2.1 (narZ h01) (fun t ht _ => ⟨⟨_, ws, rfl, hq, by subst ht; exact hP⟩, hS.F ht⟩) hS.2.2 hdg hX.2.2.2.2.2.2
end
set_option maxHeartbeats 4000000 in
theorem c_X2_areSharesSo {l : Launch} {D : va_G} {Z : zZ} {cA : Nat → ClassId} (hZ : zOk Z) (hfl : l.stackTraces = false) (hz : ∀ A U H, Z A U H → zT9 A U H) (sz : Nat) {a : Nat → Nat} (σ : zT) (n0 : Nat) (hn : σ 0 0 = n0 ∧ n0 ≤ 7) (B : Int) (hgo : gOk (σ 0) B) (p1 : Nat) (E1 : Int) (h1 : E1 = p1 ∧ p1 < 7) (hB : B ≤ 2000000) (hO : 0 < mOb (σ 0) p1) : Met l yX2_areSharesSo (ws_ yX2_areSharesSo cX2_areSharesSo 7 (some .boolean)) { frames := 3, cells := 12, slots := 78, locals := 65 } (wPc D vwCl (tyL cA) Z (wL []) (hW a cA σ) [.ref (a 0), .int (iI E1)] sz zO) (nQi D (fun r ws => r = iI 1 ∧ ws = []) (wA (wL []) sz)) 12 78 (wA (wL []) sz) := by
  obtain ⟨rfl, h1⟩ := h1
  refine l_met (cc := cX2_areSharesSo) (maxL := 7) (ret := some .boolean) (own := RX2) (by decide) rfl rfl (Nat.le_of_ble_eq_true rfl) ?_
  intro p e s m below meth c hX hnm hsz hK hP hD hA hE hS hR hN ls hl
  have hx := hX.1
  have hb := hX.2.1
  have hz0 := hz _ _ _ hE
  have hl : lv_has ls 7 [(0, .ref (a 0)), (1, .int (iI (↑p1)))] := hl
  refine lv_aload_n hx hb dX2_areSharesSo_0 rfl (lv_at hl 0 rfl) ?_
  refine lv_iload_n hx hb dX2_areSharesSo_1 rfl (lv_at hl 1 rfl) ?_
  have hz8 : sz ≤ _ := Nat.le_trans (Nat.le_of_eq hsz.symm) hS.1
  refine l_callq (L0 := []) (G := []) hP hD hA hS (va_runV (As := [.int (iI (↑p1))]) (rest := []) hX.fix (c_X2_shares hZ hfl hz _ σ n0 hn B hgo p1 _ ⟨rfl, h1⟩ hB hO) (cwV 1 hX.hts (lw_V q533 q534 q535 q81 q536) rfl rfl rfl (by decide +kernel) ⟨Nat.le_of_ble_eq_true rfl, Nat.le_of_ble_eq_true rfl⟩) (r_preV hZ hK hA hE (hR _ _ hS) hS (va_recv hK (hR _ _ hS) (ci := 1) (q0 := 0) vw_X2 hW_0)) rfl rfl hl.1 rfl (lv_room (Nat.le_of_ble_eq_true rfl)) dX2_areSharesSo_2 ⟨Nat.le_of_ble_eq_true rfl, Nat.le_of_ble_eq_true rfl⟩) (fun r w1 h => by obtain ⟨_, _, _, _, _, rfl, h⟩ := h; exact h) (fun r9 w1 H locs hq hP hD hS => ?_)
  obtain ⟨sh, pa, ra, ia, rfl, rfl, -⟩ := hq
  have hP : va_P D vwCl [enO sh 5 [.ref pa, .ref ra, .ref ia, .int (iI (mLeft (σ 0) p1))], enI cA pa n0 (tkF (fun k => mPt (σ 0) p1 k) n0), enI cA ra n0 (tkF (fun k => mRm (σ 0) p1 k) n0), enZ cA ia n0 (tkF (fun k => bI (0 < (σ 0) (12 + 7 * p1 + k))) n0)] H := hP
  have hD : va_D _ [enO sh 5 [.ref pa, .ref ra, .ref ia, .int (iI (mLeft (σ 0) p1))], enI cA pa n0 (tkF (fun k => mPt (σ 0) p1 k) n0), enI cA ra n0 (tkF (fun k => mRm (σ 0) p1 k) n0), enZ cA ia n0 (tkF (fun k => bI (0 < (σ 0) (12 + 7 * p1 + k))) n0)] := hD
  refine W.eq (g2 := F0 m 5 ls [.ref sh]) rfl ?_
  have hz8 : sz ≤ _ := Nat.le_trans (Nat.le_of_eq hsz.symm) hS.1
  refine l_callq (L0 := []) (G := [enO sh 5 [.ref pa, .ref ra, .ref ia, .int (iI (mLeft (σ 0) p1))], enI cA pa n0 (tkF (fun k => mPt (σ 0) p1 k) n0), enI cA ra n0 (tkF (fun k => mRm (σ 0) p1 k) n0), enZ cA ia n0 (tkF (fun k => bI (0 < (σ 0) (12 + 7 * p1 + k))) n0)]) hP hD hA hS (va_runV (As := []) (rest := []) hX.fix (c_X6_give hZ hfl hz _ (σ 0) hgo hB n0 hn p1 h1 hO) (cwV 0 hX.hts (lw_V q561 q562 q563 q99 q564) rfl rfl rfl (by decide +kernel) ⟨Nat.le_of_ble_eq_true rfl, Nat.le_of_ble_eq_true rfl⟩) (r_preV hZ hK hA hE (hP.sub [0, 1, 2, 3] rfl : va_P D vwCl (shW sh pa ra ia cA (σ 0) p1 n0) _) hS (va_recv hK hP (ci := 5) (q0 := 0) vw_X6 rfl)) rfl rfl hl.1 rfl (lv_room (Nat.le_of_ble_eq_true rfl)) dX2_areSharesSo_5 ⟨Nat.le_of_ble_eq_true rfl, Nat.le_of_ble_eq_true rfl⟩) (fun r w1 h => by obtain ⟨_, _, rfl, h⟩ := h; exact h) (fun r9 w1 H locs hq hP hD hS => ?_)
  obtain ⟨gv, rfl, rfl, -⟩ := hq
  have hP : va_P D vwCl [enI cA gv n0 (tkF (fun k => mSh (σ 0) p1 k) n0), enO sh 5 [.ref pa, .ref ra, .ref ia, .int (iI (mLeft (σ 0) p1))], enI cA pa n0 (tkF (fun k => mPt (σ 0) p1 k) n0), enI cA ra n0 (tkF (fun k => mRm (σ 0) p1 k) n0), enZ cA ia n0 (tkF (fun k => bI (0 < (σ 0) (12 + 7 * p1 + k))) n0)] H := hP
  have hD : va_D _ [enI cA gv n0 (tkF (fun k => mSh (σ 0) p1 k) n0), enO sh 5 [.ref pa, .ref ra, .ref ia, .int (iI (mLeft (σ 0) p1))], enI cA pa n0 (tkF (fun k => mPt (σ 0) p1 k) n0), enI cA ra n0 (tkF (fun k => mRm (σ 0) p1 k) n0), enZ cA ia n0 (tkF (fun k => bI (0 < (σ 0) (12 + 7 * p1 + k))) n0)] := hD
  refine W.eq (g2 := F0 m 8 ls [.ref gv]) rfl ?_
  refine lv_astore_n (lv' := [(2, .ref gv), (0, .ref (a 0)), (1, .int (iI (↑p1)))]) hx hb dX2_areSharesSo_8 rfl hl (by decide) rfl (fun ls hl => ?_)
  refine lv_aload_n hx hb dX2_areSharesSo_9 rfl (lv_at hl 1 rfl) ?_
  refine lv_iload_n hx hb dX2_areSharesSo_10 rfl (lv_at hl 2 rfl) ?_
  have hz8 : sz ≤ _ := Nat.le_trans (Nat.le_of_eq hsz.symm) hS.1
  refine l_callq (L0 := []) (G := [enI cA gv n0 (tkF (fun k => mSh (σ 0) p1 k) n0), enO sh 5 [.ref pa, .ref ra, .ref ia, .int (iI (mLeft (σ 0) p1))], enI cA pa n0 (tkF (fun k => mPt (σ 0) p1 k) n0), enI cA ra n0 (tkF (fun k => mRm (σ 0) p1 k) n0), enZ cA ia n0 (tkF (fun k => bI (0 < (σ 0) (12 + 7 * p1 + k))) n0)]) hP hD hA hS (va_runV (As := [.int (iI (↑p1))]) (rest := []) hX.fix (c_X2_shares hZ hfl hz _ σ n0 hn B hgo p1 _ ⟨rfl, h1⟩ hB hO) (cwV 1 hX.hts (lw_V q533 q534 q535 q81 q536) rfl rfl rfl (by decide +kernel) ⟨Nat.le_of_ble_eq_true rfl, Nat.le_of_ble_eq_true rfl⟩) (r_preV hZ hK hA hE (hR _ _ hS) hS (va_recv hK (hR _ _ hS) (ci := 1) (q0 := 0) vw_X2 hW_0)) rfl rfl hl.1 rfl (lv_room (Nat.le_of_ble_eq_true rfl)) dX2_areSharesSo_11 ⟨Nat.le_of_ble_eq_true rfl, Nat.le_of_ble_eq_true rfl⟩) (fun r w1 h => by obtain ⟨_, _, _, _, _, rfl, h⟩ := h; exact h) (fun r9 w1 H locs hq hP hD hS => ?_)
  obtain ⟨sh2, pa2, ra2, ia2, rfl, rfl, -⟩ := hq
  have hP : va_P D vwCl [enO sh2 5 [.ref pa2, .ref ra2, .ref ia2, .int (iI (mLeft (σ 0) p1))], enI cA pa2 n0 (tkF (fun k => mPt (σ 0) p1 k) n0), enI cA ra2 n0 (tkF (fun k => mRm (σ 0) p1 k) n0), enZ cA ia2 n0 (tkF (fun k => bI (0 < (σ 0) (12 + 7 * p1 + k))) n0), enI cA gv n0 (tkF (fun k => mSh (σ 0) p1 k) n0), enO sh 5 [.ref pa, .ref ra, .ref ia, .int (iI (mLeft (σ 0) p1))], enI cA pa n0 (tkF (fun k => mPt (σ 0) p1 k) n0), enI cA ra n0 (tkF (fun k => mRm (σ 0) p1 k) n0), enZ cA ia n0 (tkF (fun k => bI (0 < (σ 0) (12 + 7 * p1 + k))) n0)] H := hP
  have hD : va_D _ [enO sh2 5 [.ref pa2, .ref ra2, .ref ia2, .int (iI (mLeft (σ 0) p1))], enI cA pa2 n0 (tkF (fun k => mPt (σ 0) p1 k) n0), enI cA ra2 n0 (tkF (fun k => mRm (σ 0) p1 k) n0), enZ cA ia2 n0 (tkF (fun k => bI (0 < (σ 0) (12 + 7 * p1 + k))) n0), enI cA gv n0 (tkF (fun k => mSh (σ 0) p1 k) n0), enO sh 5 [.ref pa, .ref ra, .ref ia, .int (iI (mLeft (σ 0) p1))], enI cA pa n0 (tkF (fun k => mPt (σ 0) p1 k) n0), enI cA ra n0 (tkF (fun k => mRm (σ 0) p1 k) n0), enZ cA ia n0 (tkF (fun k => bI (0 < (σ 0) (12 + 7 * p1 + k))) n0)] := hD
  refine W.eq (g2 := F0 m 14 ls [.ref sh2]) rfl ?_
  refine lv_astore_n (lv' := [(3, .ref sh2), (2, .ref gv), (0, .ref (a 0)), (1, .int (iI (↑p1)))]) hx hb dX2_areSharesSo_14 rfl hl (by decide) rfl (fun ls hl => ?_)
  refine W.eq (g2 := F0 m 15 ls []) rfl ?_
  refine z_iconst hX dX2_areSharesSo_15 ?_
  refine lv_istore (lv' := [(4, .int (iI (1))), (3, .ref sh2), (2, .ref gv), (0, .ref (a 0)), (1, .int (iI (↑p1)))]) hx hb dX2_areSharesSo_16 hl (by decide) rfl (fun ls hl => ?_)
  refine z_iconst hX dX2_areSharesSo_18 ?_
  refine z_top (y := sg (fun k => mSh (σ 0) p1 k) 0) (rfl) ?_
  refine lv_istore (lv' := [(5, .int (iI (sg (fun k => mSh (σ 0) p1 k) 0))), (4, .int (iI (1))), (3, .ref sh2), (2, .ref gv), (0, .ref (a 0)), (1, .int (iI (↑p1)))]) hx hb dX2_areSharesSo_19 hl (by decide) rfl (fun ls hl => ?_)
  refine z_iconst hX dX2_areSharesSo_21 ?_
  refine z_top (y := ↑(0 : Nat)) (rfl) ?_
  refine lv_istore (lv' := [(6, .int (iI (↑(0 : Nat)))), (5, .int (iI (sg (fun k => mSh (σ 0) p1 k) 0))), (4, .int (iI (1))), (3, .ref sh2), (2, .ref gv), (0, .ref (a 0)), (1, .int (iI (↑p1)))]) hx hb dX2_areSharesSo_22 hl (by decide) rfl (fun ls hl => ?_)
  have L24 : ∀ (n : Nat) (i : Nat), (n0 < i + n) → (i ≤ n0) → ∀ (H : Heap) (locs : List Loc) (ls : Array Slot), va_P D vwCl [enO sh2 5 [.ref pa2, .ref ra2, .ref ia2, .int (iI (mLeft (σ 0) p1))], enI cA pa2 n0 (tkF (fun k => mPt (σ 0) p1 k) n0), enI cA ra2 n0 (tkF (fun k => mRm (σ 0) p1 k) n0), enZ cA ia2 n0 (tkF (fun k => bI (0 < (σ 0) (12 + 7 * p1 + k))) n0), enI cA gv n0 (tkF (fun k => mSh (σ 0) p1 k) n0), enO sh 5 [.ref pa, .ref ra, .ref ia, .int (iI (mLeft (σ 0) p1))], enI cA pa n0 (tkF (fun k => mPt (σ 0) p1 k) n0), enI cA ra n0 (tkF (fun k => mRm (σ 0) p1 k) n0), enZ cA ia n0 (tkF (fun k => bI (0 < (σ 0) (12 + 7 * p1 + k))) n0)] H → va_D (wA (wL []) sz) [enO sh2 5 [.ref pa2, .ref ra2, .ref ia2, .int (iI (mLeft (σ 0) p1))], enI cA pa2 n0 (tkF (fun k => mPt (σ 0) p1 k) n0), enI cA ra2 n0 (tkF (fun k => mRm (σ 0) p1 k) n0), enZ cA ia2 n0 (tkF (fun k => bI (0 < (σ 0) (12 + 7 * p1 + k))) n0), enI cA gv n0 (tkF (fun k => mSh (σ 0) p1 k) n0), enO sh 5 [.ref pa, .ref ra, .ref ia, .int (iI (mLeft (σ 0) p1))], enI cA pa n0 (tkF (fun k => mPt (σ 0) p1 k) n0), enI cA ra n0 (tkF (fun k => mRm (σ 0) p1 k) n0), enZ cA ia n0 (tkF (fun k => bI (0 < (σ 0) (12 + 7 * p1 + k))) n0)] → va_S (wA (wL []) sz) s.heap H locs → lv_has ls 7 [(0, .ref (a 0)), (1, .int (iI (↑p1))), (2, .ref gv), (3, .ref sh2), (4, .int (iI (1))), (5, .int (iI (sg (fun k => mSh (σ 0) p1 k) i))), (6, .int (iI (↑i)))] → W p l e (headSpec (ws_ yX2_areSharesSo cX2_areSharesSo 7 (some .boolean)) { frames := 3, cells := 12, slots := 78, locals := 65 }).room s m ([.ref (a 0), .int (iI (↑p1))] : List Value).toArray below meth c H locs 12 78 (MQ below (nQi D (fun r ws => r = iI 1 ∧ ws = []) (wA (wL []) sz)) ([.ref (a 0), .int (iI (↑p1))] : List Value).toArray s 12 78 (wA (wL []) sz)) (F0 m 24 ls []) := by
    intro n
    induction n with
    | zero =>
      intro i hf hi H locs ls hP hD hS hl
      exact absurd hf (by omega)
    | succ n ih24 =>
      intro i hf hi H locs ls hP hD hS hl
      refine lv_iload hx hb dX2_areSharesSo_24 (lv_at hl 6 rfl) ?_
      refine lv_aload_n hx hb dX2_areSharesSo_26 rfl (lv_at hl 0 rfl) ?_
      refine h_get hX hK (hR _ _ hS) 3 (by decide) q172 rfl dX2_areSharesSo_27 ?_
      refine z_icmp_ge (tgt := 71) hX (by omega) dX2_areSharesSo_30 (by decide) (fun c_30 => ?_) (fun c_30 => ?_)
      · skip
        obtain rfl : n0 = i := by omega
        have hsm := mSh_sumn hgo hn h1 hO
        rw [show sg (fun k => mSh (σ 0) p1 k) n0 = σ 0 (5 + p1) from hsm] at hl
        have hcc := hgo.2.1 p1 h1
        refine W.eq (g2 := F0 m 71 ls []) rfl ?_
        refine lv_iload hx hb dX2_areSharesSo_71 (lv_at hl 4 rfl) ?_
        refine z_if_eq (tgt := 91) hX (by decide) dX2_areSharesSo_73 (by decide) (fun h9 => absurd h9 (by decide)) (fun h9 => ?_)
        refine lv_iload hx hb dX2_areSharesSo_76 (lv_at hl 5 rfl) ?_
        refine lv_aload_n hx hb dX2_areSharesSo_78 rfl (lv_at hl 0 rfl) ?_
        refine h_get hX hK (hR _ _ hS) 1 (by decide) q168 rfl dX2_areSharesSo_79 ?_
        refine lv_iload_n hx hb dX2_areSharesSo_82 rfl (lv_at hl 1 rfl) ?_
        refine h_ldc hX hK (hR _ _ hS) p1 (⟨rfl, by omega⟩) dX2_areSharesSo_83 ?_
        refine z_icmp_ne (tgt := 91) hX (by omega) dX2_areSharesSo_84 (by decide) (fun c_84 => ?_) (fun c_84 => ?_)
        · exact absurd c_84 (fun h => h rfl)
        · skip
          refine z_iconst hX dX2_areSharesSo_87 ?_
          refine lv_goto (tgt := 92) hx hb dX2_areSharesSo_88 (by decide) ?_
          refine W.eq (g2 := F0 m 92 ls [.int (iI (1))]) rfl ?_
          have hP : va_P D vwCl [] H := hP.sub [] rfl
          exact n_zret hX hP hS (by decide) (⟨rfl, rfl⟩) dX2_areSharesSo_92
      · skip
        have hsb := mSh_bd hgo hB h1 (k := i) (by omega) hO
        refine lv_iload hx hb dX2_areSharesSo_33 (lv_at hl 4 rfl) ?_
        refine lv_aload_n hx hb dX2_areSharesSo_35 rfl (lv_at hl 2 rfl) ?_
        refine lv_iload hx hb dX2_areSharesSo_36 (lv_at hl 6 rfl) ?_
        refine n_ald hX hK hP 4 rfl i (⟨rfl, by omega⟩) (by omega) dX2_areSharesSo_38 ?_
        refine z_top (y := mSh (σ 0) p1 i) (tk_r (by omega)) ?_
        refine lv_aload_n hx hb dX2_areSharesSo_39 rfl (lv_at hl 3 rfl) ?_
        refine lv_iload hx hb dX2_areSharesSo_40 (lv_at hl 6 rfl) ?_
        refine r_calli (w := wL [enO sh2 5 [.ref pa2, .ref ra2, .ref ia2, .int (iI (mLeft (σ 0) p1))], enI cA pa2 n0 (tkF (fun k => mPt (σ 0) p1 k) n0), enI cA ra2 n0 (tkF (fun k => mRm (σ 0) p1 k) n0), enZ cA ia2 n0 (tkF (fun k => bI (0 < (σ 0) (12 + 7 * p1 + k))) n0), enI cA gv n0 (tkF (fun k => mSh (σ 0) p1 k) n0), enO sh 5 [.ref pa, .ref ra, .ref ia, .int (iI (mLeft (σ 0) p1))], enI cA pa n0 (tkF (fun k => mPt (σ 0) p1 k) n0), enI cA ra n0 (tkF (fun k => mRm (σ 0) p1 k) n0), enZ cA ia n0 (tkF (fun k => bI (0 < (σ 0) (12 + 7 * p1 + k))) n0)]) (x := zO) hA hP hS (va_runV (As := [.int (iI (↑i))]) (rest := [.int (iI (mSh (σ 0) p1 i)), .int (iI (1))]) hX.fix (c_X6_byCounting hZ hfl hz _ (σ 0) hgo hB n0 hn p1 h1 hO i _ ⟨rfl, by omega⟩) (cwV 1 hX.hts (lw_V q980 q981 q982 q99 q983) rfl rfl rfl (by decide +kernel) ⟨Nat.le_of_ble_eq_true rfl, Nat.le_of_ble_eq_true rfl⟩) (r_preV hZ hK hA hE (hP.sub [0, 1, 2, 3] rfl : va_P D vwCl (shW sh2 pa2 ra2 ia2 cA (σ 0) p1 n0) _) hS (va_recv hK hP (ci := 5) (q0 := 0) vw_X6 rfl)) rfl rfl hl.1 rfl (lv_room (Nat.le_of_ble_eq_true rfl)) dX2_areSharesSo_42 ⟨Nat.le_of_ble_eq_true rfl, Nat.le_of_ble_eq_true rfl⟩) (fun r y H locs hq hP hS => ?_)
        rw [show r = iI (mSh (σ 0) p1 i) from hq]
        refine z_icmp_ne (tgt := 52) hX (by omega) dX2_areSharesSo_45 (by decide) (fun c_45 => ?_) (fun c_45 => ?_)
        · exact absurd c_45 (fun h => h rfl)
        · skip
          refine z_iconst hX dX2_areSharesSo_48 ?_
          refine lv_goto (tgt := 53) hx hb dX2_areSharesSo_49 (by decide) ?_
          refine lv_iand hx hb dX2_areSharesSo_53 ?_
          refine W.eq (g2 := F0 m 54 ls [.int (iI (1))]) rfl ?_
          refine lv_istore (lv' := [(4, .int (iI (1))), (0, .ref (a 0)), (1, .int (iI (↑p1))), (2, .ref gv), (3, .ref sh2), (5, .int (iI (sg (fun k => mSh (σ 0) p1 k) i))), (6, .int (iI (↑i)))]) hx hb dX2_areSharesSo_54 hl (by decide) rfl (fun ls hl => ?_)
          refine lv_iload hx hb dX2_areSharesSo_56 (lv_at hl 5 rfl) ?_
          refine lv_aload_n hx hb dX2_areSharesSo_58 rfl (lv_at hl 3 rfl) ?_
          refine lv_iload hx hb dX2_areSharesSo_59 (lv_at hl 6 rfl) ?_
          refine n_ald hX hK hP 4 rfl i (⟨rfl, by omega⟩) (by omega) dX2_areSharesSo_61 ?_
          refine z_top (y := mSh (σ 0) p1 i) (tk_r (by omega)) ?_
          refine z_iadd hX dX2_areSharesSo_62 ?_
          refine z_top (y := sg (fun k => mSh (σ 0) p1 k) (i + 1)) (rfl) ?_
          refine lv_istore (lv' := [(5, .int (iI (sg (fun k => mSh (σ 0) p1 k) (i + 1)))), (4, .int (iI (1))), (0, .ref (a 0)), (1, .int (iI (↑p1))), (2, .ref gv), (3, .ref sh2), (6, .int (iI (↑i)))]) hx hb dX2_areSharesSo_63 hl (by decide) rfl (fun ls hl => ?_)
          refine z_iinc (y := ↑(i + 1)) (lv' := [(6, .int (iI (↑(i + 1)))), (5, .int (iI (sg (fun k => mSh (σ 0) p1 k) (i + 1)))), (4, .int (iI (1))), (0, .ref (a 0)), (1, .int (iI (↑p1))), (2, .ref gv), (3, .ref sh2)]) hX dX2_areSharesSo_65 hl (k := 6) rfl (by omega) (by decide) rfl (fun ls hl => ?_)
          refine lv_goto (tgt := 24) hx hb dX2_areSharesSo_68 (by decide) ?_
          exact ih24 (i + 1) (by omega) (by omega) _ _ _ hP hD hS (lv_sub hl [3, 4, 5, 6, 2, 1, 0] rfl)
  exact L24 (n0 + 1) (0) (by omega) (by omega) _ _ _ hP hD hS (lv_sub hl [5, 6, 4, 3, 2, 1, 0] rfl)
