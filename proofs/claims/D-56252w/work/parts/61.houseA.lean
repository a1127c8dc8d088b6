/-! the house answers -/
set_option maxRecDepth 100000
set_option maxHeartbeats 4000000 in
theorem c_X2_claims {l : Launch} {D : va_G} {Z : zZ} {cA : Nat → ClassId} (hZ : zOk Z) (sz : Nat) {a : Nat → Nat} (σ : zT) (n0 : Nat) (hn : σ 0 0 = n0 ∧ n0 ≤ 7) (B : Int) (hgo : gOk (σ 0) B) (d1 : Nat) (E1 : Int) (h1 : E1 = d1 ∧ d1 < 7) : Met l yX2_claims (ws_ yX2_claims cX2_claims 4 (some .int)) { frames := 0, cells := 0, slots := 0, locals := 0 } (wPc D vwCl (tyL cA) Z w0 (hW a cA σ) [.ref (a 0), .int (iI (E1))] sz zO) (wQi D vwCl w0 (fun r _ => r = iI (mCl (σ 0) d1)) sz) 0 0 (wA w0 sz) := by
  obtain ⟨rfl, h1⟩ := h1
  refine w_met (cc := cX2_claims) (maxL := 4) (ret := some .int) (own := RX2) (by decide) rfl rfl w0_ok (Nat.le_of_ble_eq_true rfl) ?_
  intro p e s m below meth c hX hsz hK hP hD hA hE hS hR ls hl
  have hx := hX.1
  have hb := hX.2.1
  have hl : lv_has ls 4 [(0, .ref (a 0)), (1, .int (iI (↑d1)))] := hl
  refine z_iconst hX dX2_claims_0 ?_
  refine z_top (y := sg (fun k => σ 0 (12 + 7 * k + d1)) 0) (rfl) ?_
  refine lv_istore_n (lv' := [(2, .int (iI (sg (fun k => σ 0 (12 + 7 * k + d1)) 0))), (0, .ref (a 0)), (1, .int (iI (↑d1)))]) hx hb dX2_claims_1 rfl hl (by decide) rfl (fun ls hl => ?_)
  refine z_iconst hX dX2_claims_2 ?_
  refine z_top (y := ↑(0 : Nat)) (rfl) ?_
  refine lv_istore_n (lv' := [(3, .int (iI (↑(0 : Nat)))), (2, .int (iI (sg (fun k => σ 0 (12 + 7 * k + d1)) 0))), (0, .ref (a 0)), (1, .int (iI (↑d1)))]) hx hb dX2_claims_3 rfl hl (by decide) rfl (fun ls hl => ?_)
  have L4 : ∀ (n : Nat) (i : Nat), (n0 < i + n) → (i ≤ n0) → ∀ (H : Heap) (locs : List Loc) (ls : Array Slot), va_P D vwCl (w0 zO) H → va_S (wA w0 sz) s.heap H locs → lv_has ls 4 [(0, .ref (a 0)), (1, .int (iI (↑d1))), (2, .int (iI (sg (fun k => σ 0 (12 + 7 * k + d1)) i))), (3, .int (iI (↑i)))] → W p l e (headSpec (ws_ yX2_claims cX2_claims 4 (some .int)) { frames := 0, cells := 0, slots := 0, locals := 0 }).room s m ([.ref (a 0), .int (iI (↑d1))] : List Value).toArray below meth c H locs 0 0 (MQ below (wQi D vwCl w0 (fun r _ => r = iI (mCl (σ 0) d1)) sz) ([.ref (a 0), .int (iI (↑d1))] : List Value).toArray s 0 0 (wA w0 sz)) (F0 m 4 ls []) := by
    intro n
    induction n with
    | zero =>
      intro i hf hi H locs ls hP hS hl
      exact absurd hf (by omega)
    | succ n ih4 =>
      intro i hf hi H locs ls hP hS hl
      refine lv_iload_n hx hb dX2_claims_4 rfl (lv_at hl 3 rfl) ?_
      refine lv_aload_n hx hb dX2_claims_5 rfl (lv_at hl 0 rfl) ?_
      refine h_get hX hK (hR _ _ hS) 3 (by decide) q172 rfl dX2_claims_6 ?_
      refine z_icmp_ge (tgt := 29) hX (by omega) dX2_claims_9 (by decide) (fun c_9 => ?_) (fun c_9 => ?_)
      · skip
        refine lv_iload_n hx hb dX2_claims_29 rfl (lv_at hl 2 rfl) ?_
        refine W.eq (g2 := F0 m 30 ls [.int (iI (sg (fun k => σ 0 (12 + 7 * k + d1)) i))]) rfl ?_
        exact w_iret hX hP hS (by rw [show i = n0 from by omega]; unfold mCl; rw [sg_cut 7 hn.2 (fun k h1 h2 => hgo.2.2.2.1 k d1 h2 (by omega) (Or.inl (by omega)))]) dX2_claims_30
      · skip
        refine lv_iload_n hx hb dX2_claims_12 rfl (lv_at hl 2 rfl) ?_
        refine lv_aload_n hx hb dX2_claims_13 rfl (lv_at hl 0 rfl) ?_
        refine h_get hX hK (hR _ _ hS) 0 (by decide) q166 rfl dX2_claims_14 ?_
        refine lv_iload_n hx hb dX2_claims_17 rfl (lv_at hl 3 rfl) ?_
        refine h_row hX hK (hR _ _ hS) i (⟨rfl, by omega⟩) dX2_claims_18 ?_
        refine lv_iload_n hx hb dX2_claims_19 rfl (lv_at hl 1 rfl) ?_
        refine h_ldd hX hK (hR _ _ hS) i d1 (by omega) (⟨rfl, by omega⟩) dX2_claims_20 ?_
        refine z_iadd hX dX2_claims_21 ?_
        refine z_top (y := sg (fun k => σ 0 (12 + 7 * k + d1)) (i + 1)) (rfl) ?_
        refine lv_istore_n (lv' := [(2, .int (iI (sg (fun k => σ 0 (12 + 7 * k + d1)) (i + 1)))), (0, .ref (a 0)), (1, .int (iI (↑d1))), (3, .int (iI (↑i)))]) hx hb dX2_claims_22 rfl hl (by decide) rfl (fun ls hl => ?_)
        refine W.eq (g2 := F0 m 23 ls []) rfl ?_
        refine z_iinc (y := ↑(i + 1)) (lv' := [(3, .int (iI (↑(i + 1)))), (2, .int (iI (sg (fun k => σ 0 (12 + 7 * k + d1)) (i + 1)))), (0, .ref (a 0)), (1, .int (iI (↑d1)))]) hX dX2_claims_23 hl (k := 3) rfl (by omega) (by decide) rfl (fun ls hl => ?_)
        refine lv_goto (tgt := 4) hx hb dX2_claims_26 (by decide) ?_
        exact ih4 (i + 1) (by omega) (by omega) _ _ _ hP hS (lv_sub hl [2, 3, 1, 0] rfl)
  exact L4 (n0 + 1) (0) (by omega) (by omega) _ _ _ hP hS (lv_sub hl [2, 3, 1, 0] rfl)
set_option maxHeartbeats 4000000 in
theorem c_X2_obligations {l : Launch} {D : va_G} {Z : zZ} {cA : Nat → ClassId} (hZ : zOk Z) (sz : Nat) {a : Nat → Nat} (σ : zT) (n0 : Nat) (hn : σ 0 0 = n0 ∧ n0 ≤ 7) (B : Int) (hgo : gOk (σ 0) B) (d1 : Nat) (E1 : Int) (h1 : E1 = d1 ∧ d1 < 7) : Met l yX2_obligations (ws_ yX2_obligations cX2_obligations 4 (some .int)) { frames := 0, cells := 0, slots := 0, locals := 0 } (wPc D vwCl (tyL cA) Z w0 (hW a cA σ) [.ref (a 0), .int (iI (E1))] sz zO) (wQi D vwCl w0 (fun r _ => r = iI (mOb (σ 0) d1)) sz) 0 0 (wA w0 sz) := by
  obtain ⟨rfl, h1⟩ := h1
  refine w_met (cc := cX2_obligations) (maxL := 4) (ret := some .int) (own := RX2) (by decide) rfl rfl w0_ok (Nat.le_of_ble_eq_true rfl) ?_
  intro p e s m below meth c hX hsz hK hP hD hA hE hS hR ls hl
  have hx := hX.1
  have hb := hX.2.1
  have hl : lv_has ls 4 [(0, .ref (a 0)), (1, .int (iI (↑d1)))] := hl
  refine z_iconst hX dX2_obligations_0 ?_
  refine z_top (y := sg (fun k => σ 0 (12 + 7 * d1 + k)) 0) (rfl) ?_
  refine lv_istore_n (lv' := [(2, .int (iI (sg (fun k => σ 0 (12 + 7 * d1 + k)) 0))), (0, .ref (a 0)), (1, .int (iI (↑d1)))]) hx hb dX2_obligations_1 rfl hl (by decide) rfl (fun ls hl => ?_)
  refine z_iconst hX dX2_obligations_2 ?_
  refine z_top (y := ↑(0 : Nat)) (rfl) ?_
  refine lv_istore_n (lv' := [(3, .int (iI (↑(0 : Nat)))), (2, .int (iI (sg (fun k => σ 0 (12 + 7 * d1 + k)) 0))), (0, .ref (a 0)), (1, .int (iI (↑d1)))]) hx hb dX2_obligations_3 rfl hl (by decide) rfl (fun ls hl => ?_)
  have L4 : ∀ (n : Nat) (i : Nat), (n0 < i + n) → (i ≤ n0) → ∀ (H : Heap) (locs : List Loc) (ls : Array Slot), va_P D vwCl (w0 zO) H → va_S (wA w0 sz) s.heap H locs → lv_has ls 4 [(0, .ref (a 0)), (1, .int (iI (↑d1))), (2, .int (iI (sg (fun k => σ 0 (12 + 7 * d1 + k)) i))), (3, .int (iI (↑i)))] → W p l e (headSpec (ws_ yX2_obligations cX2_obligations 4 (some .int)) { frames := 0, cells := 0, slots := 0, locals := 0 }).room s m ([.ref (a 0), .int (iI (↑d1))] : List Value).toArray below meth c H locs 0 0 (MQ below (wQi D vwCl w0 (fun r _ => r = iI (mOb (σ 0) d1)) sz) ([.ref (a 0), .int (iI (↑d1))] : List Value).toArray s 0 0 (wA w0 sz)) (F0 m 4 ls []) := by
    intro n
    induction n with
    | zero =>
      intro i hf hi H locs ls hP hS hl
      exact absurd hf (by omega)
    | succ n ih4 =>
      intro i hf hi H locs ls hP hS hl
      refine lv_iload_n hx hb dX2_obligations_4 rfl (lv_at hl 3 rfl) ?_
      refine lv_aload_n hx hb dX2_obligations_5 rfl (lv_at hl 0 rfl) ?_
      refine h_get hX hK (hR _ _ hS) 3 (by decide) q172 rfl dX2_obligations_6 ?_
      refine z_icmp_ge (tgt := 29) hX (by omega) dX2_obligations_9 (by decide) (fun c_9 => ?_) (fun c_9 => ?_)
      · skip
        refine lv_iload_n hx hb dX2_obligations_29 rfl (lv_at hl 2 rfl) ?_
        refine W.eq (g2 := F0 m 30 ls [.int (iI (sg (fun k => σ 0 (12 + 7 * d1 + k)) i))]) rfl ?_
        exact w_iret hX hP hS (by rw [show i = n0 from by omega]; unfold mOb; rw [sg_cut 7 hn.2 (fun k h1 h2 => hgo.2.2.2.1 d1 k (by omega) h2 (Or.inr (Or.inl (by omega))))]) dX2_obligations_30
      · skip
        refine lv_iload_n hx hb dX2_obligations_12 rfl (lv_at hl 2 rfl) ?_
        refine lv_aload_n hx hb dX2_obligations_13 rfl (lv_at hl 0 rfl) ?_
        refine h_get hX hK (hR _ _ hS) 0 (by decide) q166 rfl dX2_obligations_14 ?_
        refine lv_iload_n hx hb dX2_obligations_17 rfl (lv_at hl 1 rfl) ?_
        refine h_row hX hK (hR _ _ hS) d1 (⟨rfl, by omega⟩) dX2_obligations_18 ?_
        refine lv_iload_n hx hb dX2_obligations_19 rfl (lv_at hl 3 rfl) ?_
        refine h_ldd hX hK (hR _ _ hS) d1 i (by omega) (⟨rfl, by omega⟩) dX2_obligations_20 ?_
        refine z_iadd hX dX2_obligations_21 ?_
        refine z_top (y := sg (fun k => σ 0 (12 + 7 * d1 + k)) (i + 1)) (rfl) ?_
        refine lv_istore_n (lv' := [(2, .int (iI (sg (fun k => σ 0 (12 + 7 * d1 + k)) (i + 1)))), (0, .ref (a 0)), (1, .int (iI (↑d1))), (3, .int (iI (↑i)))]) hx hb dX2_obligations_22 rfl hl (by decide) rfl (fun ls hl => ?_)
        refine W.eq (g2 := F0 m 23 ls []) rfl ?_
        refine z_iinc (y := ↑(i + 1)) (lv' := [(3, .int (iI (↑(i + 1)))), (2, .int (iI (sg (fun k => σ 0 (12 + 7 * d1 + k)) (i + 1)))), (0, .ref (a 0)), (1, .int (iI (↑d1)))]) hX dX2_obligations_23 hl (k := 3) rfl (by omega) (by decide) rfl (fun ls hl => ?_)
        refine lv_goto (tgt := 4) hx hb dX2_obligations_26 (by decide) ?_
        exact ih4 (i + 1) (by omega) (by omega) _ _ _ hP hS (lv_sub hl [2, 3, 1, 0] rfl)
  exact L4 (n0 + 1) (0) (by omega) (by omega) _ _ _ hP hS (lv_sub hl [2, 3, 1, 0] rfl)
