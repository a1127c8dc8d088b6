/-! the twin: longs, quotients, settlements, consistency -/
set_option maxRecDepth 100000
set_option maxHeartbeats 4000000 in
theorem c_nettedTotal {l : Launch} {D : va_G} {Z : zZ} {o : Nat} {ad : Nat → Nat} {cA : Nat → ClassId} (hZ : zOk Z) (σ : zT) (sz : Nat) (hg2 : (-2147483648 ≤ σ 0 2 ∧ σ 0 2 ≤ 2147483647)) : ML l D Z o ad cA yX4_nettedTotal (ws_ yX4_nettedTotal cX4_nettedTotal 1 (some .long)) { frames := 0, cells := 0, slots := 0, locals := 0 } [.ref o] sz (σ) (fun v y => v = lI (σ 0 2) ∧ y = uA σ 8 0 0) := by
  refine w_met (cc := cX4_nettedTotal) (maxL := 1) (ret := some .long) (own := RX4) (by decide) rfl rfl mW_ok (Nat.le_of_ble_eq_true rfl) ?_
  intro p e s m below meth c hX hsz hK hP hD hA hE hS hR ls hl
  have hx := hX.1
  have hb := hX.2.1
  have hl : lv_has ls 1 [(0, .ref o)] := hl
  refine lv_aload_n hx hb dX4_nettedTotal_0 rfl (lv_at hl 0 rfl) ?_
  refine z_iconst hX dX4_nettedTotal_1 ?_
  refine m_put hX hK hD hP hS 8 (by decide) q1916 rfl rfl rfl mW_f8 dX4_nettedTotal_2 (fun H locs hP hS => ?_)
  refine lv_aload_n hx hb dX4_nettedTotal_5 rfl (lv_at hl 0 rfl) ?_
  refine m_get hX hK hP 0 (by decide) q1908 rfl dX4_nettedTotal_6 ?_
  refine z_iconst hX dX4_nettedTotal_9 ?_
  refine m_ld hX hK hP mW_e0 2 (by decide) (by decide) dX4_nettedTotal_10 ?_
  refine z_top (y := σ 0 2) (by rw [uA_nj (by decide)]) ?_
  refine lv_i2l hx hb dX4_nettedTotal_11 (iI_l hg2) ?_
  exact w_lret hX hP hS (⟨rfl, rfl⟩) dX4_nettedTotal_12
set_option maxHeartbeats 4000000 in
theorem c_debtBits {l : Launch} {D : va_G} {Z : zZ} {o : Nat} {ad : Nat → Nat} {cA : Nat → ClassId} (hZ : zOk Z) (σ : zT) (sz : Nat) (B : Int) (hgo : gOk (σ 0) B) : ML l D Z o ad cA yX4_debtBits (ws_ yX4_debtBits cX4_debtBits 4 (some .long)) { frames := 0, cells := 0, slots := 0, locals := 0 } [.ref o] sz (σ) (fun v y => v = dbF (σ 0) 49 ∧ y = uA σ 8 0 0) := by
  refine w_met (cc := cX4_debtBits) (maxL := 4) (ret := some .long) (own := RX4) (by decide) rfl rfl mW_ok (Nat.le_of_ble_eq_true rfl) ?_
  intro p e s m below meth c hX hsz hK hP hD hA hE hS hR ls hl
  have hx := hX.1
  have hb := hX.2.1
  have hl : lv_has ls 4 [(0, .ref o)] := hl
  refine lv_aload_n hx hb dX4_debtBits_0 rfl (lv_at hl 0 rfl) ?_
  refine z_iconst hX dX4_debtBits_1 ?_
  refine m_put hX hK hD hP hS 8 (by decide) q1916 rfl rfl rfl mW_f8 dX4_debtBits_2 (fun H locs hP hS => ?_)
  refine lv_lconst (v := 0) hx hb dX4_debtBits_5 rfl ?_
  refine z_ltop (y := dbF (σ 0) 0) (rfl) ?_
  refine lv_lstore_n (lv' := [(1, .long (dbF (σ 0) 0)), (0, .ref o)]) hx hb dX4_debtBits_6 rfl hl (by decide) rfl (fun ls hl => ?_)
  refine z_iconst hX dX4_debtBits_7 ?_
  refine z_top (y := ↑(0 : Nat)) (rfl) ?_
  refine lv_istore_n (lv' := [(3, .int (iI (↑(0 : Nat)))), (1, .long (dbF (σ 0) 0)), (0, .ref o)]) hx hb dX4_debtBits_8 rfl hl (by decide) rfl (fun ls hl => ?_)
  have L9 : ∀ (n : Nat) (i : Nat), (49 < i + n) → (i ≤ 49) → ∀ (H : Heap) (locs : List Loc) (ls : Array Slot), va_P D vwCl (mW o ad cA (uA σ 8 0 0)) H → va_S (wA (mW o ad cA) sz) s.heap H locs → lv_has ls 4 [(0, .ref o), (1, .long (dbF (σ 0) i)), (3, .int (iI (↑i)))] → W p l e (headSpec (ws_ yX4_debtBits cX4_debtBits 4 (some .long)) { frames := 0, cells := 0, slots := 0, locals := 0 }).room s m ([.ref o] : List Value).toArray below meth c H locs 0 0 (MQ below (wQl D vwCl (mW o ad cA) (fun v y => v = dbF (σ 0) 49 ∧ y = uA σ 8 0 0) sz) ([.ref o] : List Value).toArray s 0 0 (wA (mW o ad cA) sz)) (F0 m 9 ls []) := by
    intro n
    induction n with
    | zero =>
      intro i hf hi H locs ls hP hS hl
      exact absurd hf (by omega)
    | succ n ih9 =>
      intro i hf hi H locs ls hP hS hl
      refine lv_iload_n hx hb dX4_debtBits_9 rfl (lv_at hl 2 rfl) ?_
      refine z_bipush hX dX4_debtBits_10 (by decide) ?_
      refine W.eq (g2 := F0 m 12 ls [.int (iI (49)), .int (iI (↑i))]) rfl ?_
      refine z_icmp_ge (tgt := 39) hX (by omega) dX4_debtBits_12 (by decide) (fun c_12 => ?_) (fun c_12 => ?_)
      · skip
        obtain rfl : i = 49 := by omega
        refine lv_lload_n hx hb dX4_debtBits_39 rfl (lv_at hl 1 rfl) ?_
        exact w_lret hX hP hS (⟨rfl, rfl⟩) dX4_debtBits_40
      · skip
        refine lv_aload_n hx hb dX4_debtBits_15 rfl (lv_at hl 0 rfl) ?_
        refine m_get hX hK hP 0 (by decide) q1908 rfl dX4_debtBits_16 ?_
        refine z_bipush hX dX4_debtBits_19 (by decide) ?_
        refine lv_iload_n hx hb dX4_debtBits_21 rfl (lv_at hl 2 rfl) ?_
        refine z_iadd hX dX4_debtBits_22 ?_
        refine m_ld hX hK hP mW_e0 (12 + i) (by omega) (by decide) dX4_debtBits_23 ?_
        refine z_top (y := σ 0 (12 + i)) (by rw [uA_nj (by decide)]) ?_
        refine z_if_le (tgt := 33) hX (by have h9 := hgo.2.2.1 (i / 7) (i % 7) (by omega) (by omega); rw [show 12 + 7 * (i / 7) + i % 7 = 12 + i by omega] at h9; omega) dX4_debtBits_24 (by decide) (fun c_24 => ?_) (fun c_24 => ?_)
        · skip
          refine W.eq (g2 := F0 m 33 ls []) rfl ?_
          refine z_iinc (y := ↑(i + 1)) (lv' := [(3, .int (iI (↑(i + 1)))), (0, .ref o), (1, .long (dbF (σ 0) i))]) hX dX4_debtBits_33 hl (k := 2) rfl (by omega) (by decide) rfl (fun ls hl => ?_)
          refine lv_goto (tgt := 9) hx hb dX4_debtBits_36 (by decide) ?_
          rw [show dbF (σ 0) i = dbF (σ 0) (i + 1) from (if_neg (by omega)).symm] at hl
          exact ih9 (i + 1) (by omega) (by omega) _ _ _ hP hS (lv_sub hl [1, 2, 0] rfl)
        · skip
          refine lv_lload_n hx hb dX4_debtBits_27 rfl (lv_at hl 1 rfl) ?_
          refine lv_lconst (v := 1) hx hb dX4_debtBits_28 rfl ?_
          refine lv_iload_n hx hb dX4_debtBits_29 rfl (lv_at hl 2 rfl) ?_
          refine lv_lshl hx hb dX4_debtBits_30 (rfl) ?_
          refine lv_lor hx hb dX4_debtBits_31 ?_
          refine z_ltop (y := dbF (σ 0) (i + 1)) ((if_pos c_24).symm) ?_
          refine lv_lstore_n (lv' := [(1, .long (dbF (σ 0) (i + 1))), (0, .ref o), (3, .int (iI (↑i)))]) hx hb dX4_debtBits_32 rfl hl (by decide) rfl (fun ls hl => ?_)
          refine z_iinc (y := ↑(i + 1)) (lv' := [(3, .int (iI (↑(i + 1)))), (1, .long (dbF (σ 0) (i + 1))), (0, .ref o)]) hX dX4_debtBits_33 hl (k := 2) rfl (by omega) (by decide) rfl (fun ls hl => ?_)
          refine lv_goto (tgt := 9) hx hb dX4_debtBits_36 (by decide) ?_
          exact ih9 (i + 1) (by omega) (by omega) _ _ _ hP hS (lv_sub hl [2, 1, 0] rfl)
  exact L9 (50) (0) (by omega) (by omega) _ _ _ hP hS (lv_sub hl [2, 1, 0] rfl)
set_option maxHeartbeats 4000000 in
theorem c_meanObligations {l : Launch} {D : va_G} {Z : zZ} {o : Nat} {ad : Nat → Nat} {cA : Nat → ClassId} (hZ : zOk Z) (σ : zT) (sz : Nat) (n0 : Nat) (hn : σ 0 0 = n0 ∧ n0 ≤ 7) (B : Int) (hgo : gOk (σ 0) B) : MD l D Z o ad cA yX4_meanObligations (ws_ yX4_meanObligations cX4_meanObligations 1 (some .double)) { frames := 1, cells := 0, slots := 0, locals := 22 } [.ref o] sz (σ) ((mdR σ n0 (gMu (σ 0)))) := by
  refine w_met (cc := cX4_meanObligations) (maxL := 1) (ret := some .double) (own := RX4) (by decide) rfl rfl mW_ok (Nat.le_of_ble_eq_true rfl) ?_
  intro p e s m below meth c hX hsz hK hP hD hA hE hS hR ls hl
  have hx := hX.1
  have hb := hX.2.1
  have hl : lv_has ls 1 [(0, .ref o)] := hl
  have hmu : 0 ≤ sg (fun k => σ 0 (12 + k)) 49 ∧ sg (fun k => σ 0 (12 + k)) 49 ≤ 48951 := gMu_nn hgo
  refine lv_aload_n hx hb dX4_meanObligations_0 rfl (lv_at hl 0 rfl) ?_
  refine lv_aload_n hx hb dX4_meanObligations_1 rfl (lv_at hl 0 rfl) ?_
  refine m_get hX hK hP 0 (by decide) q1908 rfl dX4_meanObligations_2 ?_
  refine z_iconst hX dX4_meanObligations_5 ?_
  refine m_ld hX hK hP mW_e0 0 (by decide) (by decide) dX4_meanObligations_6 ?_
  refine z_if_ne (tgt := 14) hX (by omega) dX4_meanObligations_7 (by decide) (fun c_7 => ?_) (fun c_7 => ?_)
  · skip
    refine z_iconst hX dX4_meanObligations_14 ?_
    refine m_calli (As := [.int (iI (0))]) (rest := []) hZ hX hK hD hA hE hP hS (c_fails hZ (σ) _ (0) (by omega)) (cwV 1 hX.hts (lw_V q1987 q1989 qs42 q89 q1990) rfl rfl rfl (by decide +kernel) ⟨Nat.le_of_ble_eq_true rfl, Nat.le_of_ble_eq_true rfl⟩) rfl hl.1 (lv_room (Nat.le_of_ble_eq_true rfl)) dX4_meanObligations_15 ⟨Nat.le_refl _, Nat.le_refl _⟩ rfl (fun  H locs hP hS => ?_)
    refine z_if_eqB (tgt := 25) hX dX4_meanObligations_18 (by decide) (fun h9 => ?_) (fun h9 => absurd h9 (by decide))
    refine W.eq (g2 := F0 m 25 ls []) rfl ?_
    refine lv_aload_n hx hb dX4_meanObligations_25 rfl (lv_at hl 0 rfl) ?_
    refine m_calli (As := []) (rest := []) hZ hX hK hD hA hE hP hS (c_owedAll hZ (uA σ 8 0 0) _) (cwV 0 hX.hts (lw_V q2197 q2199 qs64 q89 q2200) rfl rfl rfl (by decide +kernel) ⟨Nat.le_of_ble_eq_true rfl, Nat.le_of_ble_eq_true rfl⟩) rfl hl.1 (lv_room (Nat.le_of_ble_eq_true rfl)) dX4_meanObligations_26 ⟨Nat.le_refl _, Nat.le_refl _⟩ rfl (fun  H locs hP hS => ?_)
    refine z_top (y := sg (fun k => σ 0 (12 + k)) 49) (by rw [uA_sA, sA_i (by decide)]) ?_
    refine lv_i2d hx hb dX4_meanObligations_29 ?_
    refine lv_aload_n hx hb dX4_meanObligations_30 rfl (lv_at hl 0 rfl) ?_
    refine m_get hX hK hP 0 (by decide) q1908 rfl dX4_meanObligations_31 ?_
    refine z_iconst hX dX4_meanObligations_34 ?_
    refine m_ld hX hK hP mW_e0 0 (by decide) (by decide) dX4_meanObligations_35 ?_
    refine z_top (y := σ 0 0) (by rw [uA_nj (by decide)]) ?_
    refine z_top (y := ↑n0) (hn.1) ?_
    refine lv_i2d hx hb dX4_meanObligations_36 ?_
    refine lv_ddiv hx hb dX4_meanObligations_37 (dv_ok (by omega) (by omega)) ?_
    exact w_dret hX hP hS (Or.inr ⟨by omega, rfl, rfl⟩) dX4_meanObligations_38
  · skip
    refine W.eq (g2 := F0 m 10 ls [.ref o]) rfl ?_
    refine z_iconst hX dX4_meanObligations_10 ?_
    refine lv_goto (tgt := 15) hx hb dX4_meanObligations_11 (by decide) ?_
    refine m_calli (As := [.int (iI (1))]) (rest := []) hZ hX hK hD hA hE hP hS (c_fails hZ (σ) _ (1) (by omega)) (cwV 1 hX.hts (lw_V q1987 q1989 qs42 q89 q1990) rfl rfl rfl (by decide +kernel) ⟨Nat.le_of_ble_eq_true rfl, Nat.le_of_ble_eq_true rfl⟩) rfl hl.1 (lv_room (Nat.le_of_ble_eq_true rfl)) dX4_meanObligations_15 ⟨Nat.le_refl _, Nat.le_refl _⟩ rfl (fun  H locs hP hS => ?_)
    refine z_if_eqB (tgt := 25) hX dX4_meanObligations_18 (by decide) (fun h9 => absurd h9 (by decide)) (fun h9 => ?_)
    refine lv_dconst0 hx hb dX4_meanObligations_21 ?_
    refine lv_goto (tgt := 38) hx hb dX4_meanObligations_22 (by decide) ?_
    exact w_dret hX hP hS (Or.inl ⟨by omega, rfl⟩) dX4_meanObligations_38
set_option maxHeartbeats 4000000 in
theorem c_coverage {l : Launch} {D : va_G} {Z : zZ} {o : Nat} {ad : Nat → Nat} {cA : Nat → ClassId} (hZ : zOk Z) (σ : zT) (sz : Nat) (B : Int) (hgo : gOk (σ 0) B) (hB : B ≤ 2000000) : MF l D Z o ad cA yX4_coverage (ws_ yX4_coverage cX4_coverage 1 (some .float)) { frames := 1, cells := 0, slots := 0, locals := 22 } [.ref o] sz (σ) ((cvR σ (sg (fun k => σ 0 (5 + k)) 7) (gMu (σ 0)))) := by
  refine w_met (cc := cX4_coverage) (maxL := 1) (ret := some .float) (own := RX4) (by decide) rfl rfl mW_ok (Nat.le_of_ble_eq_true rfl) ?_
  intro p e s m below meth c hX hsz hK hP hD hA hE hS hR ls hl
  have hx := hX.1
  have hb := hX.2.1
  have hl : lv_has ls 1 [(0, .ref o)] := hl
  have hmu : 0 ≤ sg (fun k => σ 0 (12 + k)) 49 ∧ sg (fun k => σ 0 (12 + k)) 49 ≤ 48951 := gMu_nn hgo
  have hcs : 0 ≤ sg (fun k => σ 0 (5 + k)) 7 ∧ sg (fun k => σ 0 (5 + k)) 7 ≤ 2000000 := ⟨(sg_bd (M := B) (fun k hk => hgo.2.1 k hk)).1, by have := hgo.2.2.2.2.2; omega⟩
  refine lv_aload_n hx hb dX4_coverage_0 rfl (lv_at hl 0 rfl) ?_
  refine lv_aload_n hx hb dX4_coverage_1 rfl (lv_at hl 0 rfl) ?_
  refine m_calli (As := []) (rest := [.ref o]) hZ hX hK hD hA hE hP hS (c_owedAll hZ (σ) _) (cwV 0 hX.hts (lw_V q2197 q2199 qs64 q89 q2200) rfl rfl rfl (by decide +kernel) ⟨Nat.le_of_ble_eq_true rfl, Nat.le_of_ble_eq_true rfl⟩) rfl hl.1 (lv_room (Nat.le_of_ble_eq_true rfl)) dX4_coverage_2 ⟨Nat.le_refl _, Nat.le_refl _⟩ rfl (fun  H locs hP hS => ?_)
  refine z_if_ne (tgt := 12) hX (by omega) dX4_coverage_5 (by decide) (fun c_5 => ?_) (fun c_5 => ?_)
  · skip
    refine z_iconst hX dX4_coverage_12 ?_
    refine m_calli (As := [.int (iI (0))]) (rest := []) hZ hX hK hD hA hE hP hS (c_fails hZ (σ) _ (0) (by omega)) (cwV 1 hX.hts (lw_V q1987 q1989 qs42 q89 q1990) rfl rfl rfl (by decide +kernel) ⟨Nat.le_of_ble_eq_true rfl, Nat.le_of_ble_eq_true rfl⟩) rfl hl.1 (lv_room (Nat.le_of_ble_eq_true rfl)) dX4_coverage_13 ⟨Nat.le_refl _, Nat.le_refl _⟩ rfl (fun  H locs hP hS => ?_)
    refine z_if_eqB (tgt := 23) hX dX4_coverage_16 (by decide) (fun h9 => ?_) (fun h9 => absurd h9 (by decide))
    refine lv_aload_n hx hb dX4_coverage_23 rfl (lv_at hl 0 rfl) ?_
    refine m_calli (As := []) (rest := []) hZ hX hK hD hA hE hP hS (c_cashAll hZ (uA σ 8 0 0) _) (cwV 0 hX.hts (lw_V q2209 q2211 qs65 q89 q2212) rfl rfl rfl (by decide +kernel) ⟨Nat.le_of_ble_eq_true rfl, Nat.le_of_ble_eq_true rfl⟩) rfl hl.1 (lv_room (Nat.le_of_ble_eq_true rfl)) dX4_coverage_24 ⟨Nat.le_refl _, Nat.le_refl _⟩ rfl (fun  H locs hP hS => ?_)
    refine z_top (y := sg (fun k => σ 0 (5 + k)) 7) (by rw [uA_sA, sA_i (by decide)]) ?_
    refine W.eq (g2 := F0 m 27 ls [.int (iI (sg (fun k => σ 0 (5 + k)) 7))]) rfl ?_
    refine lv_i2f hx hb dX4_coverage_27 ?_
    refine lv_aload_n hx hb dX4_coverage_28 rfl (lv_at hl 0 rfl) ?_
    refine m_calli (As := []) (rest := [.float (FP.i2f (iI (sg (fun k => σ 0 (5 + k)) 7)))]) hZ hX hK hD hA hE hP hS (c_owedAll hZ (uA σ 8 0 0) _) (cwV 0 hX.hts (lw_V q2197 q2199 qs64 q89 q2200) rfl rfl rfl (by decide +kernel) ⟨Nat.le_of_ble_eq_true rfl, Nat.le_of_ble_eq_true rfl⟩) rfl hl.1 (lv_room (Nat.le_of_ble_eq_true rfl)) dX4_coverage_29 ⟨Nat.le_refl _, Nat.le_refl _⟩ rfl (fun  H locs hP hS => ?_)
    refine z_top (y := sg (fun k => σ 0 (12 + k)) 49) (by rw [uA_sA, sA_i (by decide)]) ?_
    refine lv_i2f hx hb dX4_coverage_32 ?_
    refine lv_fdiv hx hb dX4_coverage_33 (fv_ok (by omega) (by omega)) ?_
    exact w_fret hX hP hS (Or.inr ⟨c_5, rfl, rfl⟩) dX4_coverage_34
  · skip
    refine z_iconst hX dX4_coverage_8 ?_
    refine lv_goto (tgt := 13) hx hb dX4_coverage_9 (by decide) ?_
    refine m_calli (As := [.int (iI (1))]) (rest := []) hZ hX hK hD hA hE hP hS (c_fails hZ (σ) _ (1) (by omega)) (cwV 1 hX.hts (lw_V q1987 q1989 qs42 q89 q1990) rfl rfl rfl (by decide +kernel) ⟨Nat.le_of_ble_eq_true rfl, Nat.le_of_ble_eq_true rfl⟩) rfl hl.1 (lv_room (Nat.le_of_ble_eq_true rfl)) dX4_coverage_13 ⟨Nat.le_refl _, Nat.le_refl _⟩ rfl (fun  H locs hP hS => ?_)
    refine z_if_eqB (tgt := 23) hX dX4_coverage_16 (by decide) (fun h9 => absurd h9 (by decide)) (fun h9 => ?_)
    refine W.eq (g2 := F0 m 19 ls []) rfl ?_
    refine lv_fconst0 hx hb dX4_coverage_19 ?_
    refine lv_goto (tgt := 34) hx hb dX4_coverage_20 (by decide) ?_
    exact w_fret hX hP hS (Or.inl ⟨c_5, rfl⟩) dX4_coverage_34
set_option maxHeartbeats 4000000 in
theorem c_payments {l : Launch} {D : va_G} {Z : zZ} {o : Nat} {ad : Nat → Nat} {cA : Nat → ClassId} (hZ : zOk Z) (σ : zT) (sz : Nat) (n0 : Nat) (hn : σ 0 0 = n0 ∧ n0 ≤ 7) (B : Int) (hgo : gOk (σ 0) B) : MI l D Z o ad cA yX4_payments (ws_ yX4_payments cX4_payments 7 (some .int)) { frames := 3, cells := 0, slots := 0, locals := 66 } [.ref o] sz (σ) (fR ((payR σ n0))) := by
  refine w_met (cc := cX4_payments) (maxL := 7) (ret := some .int) (own := RX4) (by decide) rfl rfl mW_ok (Nat.le_of_ble_eq_true rfl) ?_
  intro p e s m below meth c hX hsz hK hP hD hA hE hS hR ls hl
  have hx := hX.1
  have hb := hX.2.1
  have hl : lv_has ls 7 [(0, .ref o)] := hl
  have hp2 : 2 ^ n0 ≤ 128 := Nat.pow_le_pow_right (by decide : 0 < 2) (show n0 ≤ 7 from hn.2)
  have hp1 := Nat.two_pow_pos n0
  obtain ⟨al, hal⟩ : ∃ al, 2 ^ n0 = al + 1 := ⟨2 ^ n0 - 1, by omega⟩
  have hal2 : 2 ^ n0 - 1 = al := by omega
  refine lv_aload_n hx hb dX4_payments_0 rfl (lv_at hl 0 rfl) ?_
  refine z_iconst hX dX4_payments_1 ?_
  refine m_put hX hK hD hP hS 8 (by decide) q1916 rfl rfl rfl mW_f8 dX4_payments_2 (fun H locs hP hS => ?_)
  refine z_iconst hX dX4_payments_5 ?_
  refine lv_aload_n hx hb dX4_payments_6 rfl (lv_at hl 0 rfl) ?_
  refine m_get hX hK hP 0 (by decide) q1908 rfl dX4_payments_7 ?_
  refine z_iconst hX dX4_payments_10 ?_
  refine m_ld hX hK hP mW_e0 0 (by decide) (by decide) dX4_payments_11 ?_
  refine z_top (y := σ 0 0) (by rw [uA_nj (by decide)]) ?_
  refine z_top (y := ↑n0) (hn.1) ?_
  refine z_ishl1 hX n0 (by omega) dX4_payments_12 ?_
  refine W.eq (g2 := F0 m 13 ls [.int (iI (((2 ^ n0 : Nat) : Int)))]) rfl ?_
  refine z_iconst hX dX4_payments_13 ?_
  refine z_isub hX dX4_payments_14 ?_
  refine z_top (y := ↑al) (by rw [hal]; omega) ?_
  refine lv_istore_n (lv' := [(1, .int (iI (↑al))), (0, .ref o)]) hx hb dX4_payments_15 rfl hl (by decide) rfl (fun ls hl => ?_)
  refine z_iconst hX dX4_payments_16 ?_
  refine z_top (y := sg (nzB (σ 0)) 0) (rfl) ?_
  refine lv_istore_n (lv' := [(2, .int (iI (sg (nzB (σ 0)) 0))), (1, .int (iI (↑al))), (0, .ref o)]) hx hb dX4_payments_17 rfl hl (by decide) rfl (fun ls hl => ?_)
  refine lv_aload_n hx hb dX4_payments_18 rfl (lv_at hl 2 rfl) ?_
  refine m_get hX hK hP 17 (by decide) q1925 rfl dX4_payments_19 ?_
  refine z_iconst hX dX4_payments_22 ?_
  refine z_iconst hX dX4_payments_23 ?_
  refine m_st hX hK hD hP hS mW_e17 0 mW_s17 (by decide) (by decide) dX4_payments_24 (fun H locs hP hS => ?_)
  refine W.eq (g2 := F0 m 25 ls []) rfl ?_
  refine lv_aload_n hx hb dX4_payments_25 rfl (lv_at hl 2 rfl) ?_
  refine m_get hX hK hP 18 (by decide) q1926 rfl dX4_payments_26 ?_
  refine z_iconst hX dX4_payments_29 ?_
  refine z_iconst hX dX4_payments_30 ?_
  refine m_st hX hK hD hP hS mW_e18 0 mW_s18 (by decide) (by decide) dX4_payments_31 (fun H locs hP hS => ?_)
  refine z_iconst hX dX4_payments_32 ?_
  refine z_top (y := ↑(0 : Nat)) (rfl) ?_
  refine lv_istore_n (lv' := [(3, .int (iI (↑(0 : Nat)))), (2, .int (iI (sg (nzB (σ 0)) 0))), (1, .int (iI (↑al))), (0, .ref o)]) hx hb dX4_payments_33 rfl hl (by decide) rfl (fun ls hl => ?_)
  have L34 : ∀ (n : Nat) (i : Nat), (n0 < i + n) → (i ≤ n0) → ∀ (H : Heap) (locs : List Loc) (ls : Array Slot), va_P D vwCl (mW o ad cA (uA (uA (uA σ 8 0 0) 17 0 0) 18 0 0)) H → va_S (wA (mW o ad cA) sz) s.heap H locs → lv_has ls 7 [(0, .ref o), (1, .int (iI (↑al))), (2, .int (iI (sg (nzB (σ 0)) i))), (3, .int (iI (↑i)))] → W p l e (headSpec (ws_ yX4_payments cX4_payments 7 (some .int)) { frames := 3, cells := 0, slots := 0, locals := 66 }).room s m ([.ref o] : List Value).toArray below meth c H locs 0 0 (MQ below (wQi D vwCl (mW o ad cA) (fR ((payR σ n0))) sz) ([.ref o] : List Value).toArray s 0 0 (wA (mW o ad cA) sz)) (F0 m 34 ls []) := by
    intro n
    induction n with
    | zero =>
      intro i hf hi H locs ls hP hS hl
      exact absurd hf (by omega)
    | succ n ih34 =>
      intro i hf hi H locs ls hP hS hl
      refine lv_iload_n hx hb dX4_payments_34 rfl (lv_at hl 3 rfl) ?_
      refine lv_aload_n hx hb dX4_payments_35 rfl (lv_at hl 0 rfl) ?_
      refine m_get hX hK hP 0 (by decide) q1908 rfl dX4_payments_36 ?_
      refine W.eq (g2 := F0 m 39 ls [.ref (ad 0), .int (iI (↑i))]) rfl ?_
      refine z_iconst hX dX4_payments_39 ?_
      refine m_ld hX hK hP mW_e0 0 (by decide) (by decide) dX4_payments_40 ?_
      refine z_top (y := σ 0 0) (by rw [uA_nj (by decide), uA_nj (by decide), uA_nj (by decide)]) ?_
      refine z_icmp_ge (tgt := 66) hX (by omega) dX4_payments_41 (by decide) (fun c_41 => ?_) (fun c_41 => ?_)
      · skip
        obtain rfl : n0 = i := by omega
        refine z_iconst hX dX4_payments_66 ?_
        refine z_top (y := ↑(0 + 1)) (rfl) ?_
        refine lv_istore_n (lv' := [(3, .int (iI (↑(0 + 1)))), (0, .ref o), (1, .int (iI (↑al))), (2, .int (iI (sg (nzB (σ 0)) n0)))]) hx hb dX4_payments_67 rfl hl (by decide) rfl (fun ls hl => ?_)
        have L68 : ∀ (n : Nat) (t : Nat) (q17 q18 : Nat → Int), (al < t + n) → (t ≤ al) → (∀ j, j ≤ t → q18 j = pgF (σ 0) n0 t j) → ∀ (H : Heap) (locs : List Loc) (ls : Array Slot), va_P D vwCl (mW o ad cA (sA (sA (uA σ 8 0 0) 17 q17) 18 q18)) H → va_S (wA (mW o ad cA) sz) s.heap H locs → lv_has ls 7 [(0, .ref o), (1, .int (iI (↑al))), (2, .int (iI (sg (nzB (σ 0)) n0))), (3, .int (iI (↑(t + 1))))] → W p l e (headSpec (ws_ yX4_payments cX4_payments 7 (some .int)) { frames := 3, cells := 0, slots := 0, locals := 66 }).room s m ([.ref o] : List Value).toArray below meth c H locs 0 0 (MQ below (wQi D vwCl (mW o ad cA) (fR ((payR σ n0))) sz) ([.ref o] : List Value).toArray s 0 0 (wA (mW o ad cA) sz)) (F0 m 68 ls []) := by
          intro n
          induction n with
          | zero =>
            intro t q17 q18 hf ht hq H locs ls hP hS hl
            exact absurd hf (by omega)
          | succ n ih68 =>
            intro t q17 q18 hf ht hq H locs ls hP hS hl
            refine lv_iload_n hx hb dX4_payments_68 rfl (lv_at hl 3 rfl) ?_
            refine lv_iload_n hx hb dX4_payments_69 rfl (lv_at hl 1 rfl) ?_
            refine z_icmp_gt (tgt := 188) hX (by omega) dX4_payments_70 (by decide) (fun c_70 => ?_) (fun c_70 => ?_)
            · skip
              obtain rfl : al = t := by omega
              refine lv_aload_n hx hb dX4_payments_188 rfl (lv_at hl 0 rfl) ?_
              refine m_get hX hK hP 0 (by decide) q1908 rfl dX4_payments_189 ?_
              refine W.eq (g2 := F0 m 192 ls [.ref (ad 0)]) rfl ?_
              refine z_iconst hX dX4_payments_192 ?_
              refine m_ld hX hK hP mW_e0 0 (by decide) (by decide) dX4_payments_193 ?_
              refine z_top (y := σ 0 0) (by rw [sA_i (by decide), sA_i (by decide), uA_nj (by decide)]) ?_
              refine lv_iload_n hx hb dX4_payments_194 rfl (lv_at hl 2 rfl) ?_
              refine z_isub hX dX4_payments_195 ?_
              refine lv_istore_n (lv' := [(3, .int (iI ((σ 0 0) - (sg (nzB (σ 0)) n0)))), (0, .ref o), (1, .int (iI (↑al))), (2, .int (iI (sg (nzB (σ 0)) n0)))]) hx hb dX4_payments_196 rfl hl (by decide) rfl (fun ls hl => ?_)
              refine lv_iload_n hx hb dX4_payments_197 rfl (lv_at hl 3 rfl) ?_
              refine z_if_ne (tgt := 205) hX (by have := sg_bd (f := nzB (σ 0)) (n := n0) (M := 1) (fun k _ => by unfold nzB; rcases bI_01 (P := mNet (σ 0) k ≠ 0) with h | h <;> rw [h] <;> decide); omega) dX4_payments_198 (by decide) (fun c_198 => ?_) (fun c_198 => ?_)
              · skip
                refine lv_iload_n hx hb dX4_payments_205 rfl (lv_at hl 3 rfl) ?_
                refine lv_aload_n hx hb dX4_payments_206 rfl (lv_at hl 1 rfl) ?_
                refine m_get hX hK hP 18 (by decide) q1926 rfl dX4_payments_207 ?_
                refine W.eq (g2 := F0 m 210 ls [.ref (ad 18), .int (iI (sg (nzB (σ 0)) n0))]) rfl ?_
                refine lv_iload_n hx hb dX4_payments_210 rfl (lv_at hl 2 rfl) ?_
                refine m_ld hX hK hP mW_e18 al (⟨rfl, by omega⟩) (by decide) dX4_payments_211 ?_
                refine z_top (y := pgF (σ 0) n0 al al) (by rw [sA_j]; exact hq _ (by omega)) ?_
                refine lv_iload_n hx hb dX4_payments_212 rfl (lv_at hl 0 rfl) ?_
                refine z_isub hX dX4_payments_213 ?_
                refine z_isub hX dX4_payments_214 ?_
                exact w_iret hX hP hS (by first | exact ⟨_, rfl, _, _, rfl, by unfold mPay; rw [if_pos c_198]⟩ | exact ⟨_, rfl, _, _, rfl, by unfold mPay; rw [if_neg c_198, hn.1, hal2]⟩) dX4_payments_215
              · skip
                refine z_iconst hX dX4_payments_201 ?_
                refine lv_goto (tgt := 215) hx hb dX4_payments_202 (by decide) ?_
                exact w_iret hX hP hS (by first | exact ⟨_, rfl, _, _, rfl, by unfold mPay; rw [if_pos c_198]⟩ | exact ⟨_, rfl, _, _, rfl, by unfold mPay; rw [if_neg c_198, hn.1, hal2]⟩) dX4_payments_215
            · skip
              refine z_iconst hX dX4_payments_73 ?_
              refine z_top (y := pmF (pgF (σ 0) n0 t) (t + 1) 0) (rfl) ?_
              refine W.eq (g2 := F0 m 74 ls [.int (iI (pmF (pgF (σ 0) n0 t) (t + 1) 0))]) rfl ?_
              refine lv_istore (lv' := [(4, .int (iI (pmF (pgF (σ 0) n0 t) (t + 1) 0))), (0, .ref o), (1, .int (iI (↑al))), (2, .int (iI (sg (nzB (σ 0)) n0))), (3, .int (iI (↑(t + 1))))]) hx hb dX4_payments_74 hl (by decide) rfl (fun ls hl => ?_)
              refine lv_aload_n hx hb dX4_payments_76 rfl (lv_at hl 1 rfl) ?_
              refine m_get hX hK hP 17 (by decide) q1925 rfl dX4_payments_77 ?_
              refine lv_iload_n hx hb dX4_payments_80 rfl (lv_at hl 4 rfl) ?_
              refine z_iconst hX dX4_payments_81 ?_
              refine m_st hX hK hD hP hS mW_e17 ((t + 1)) mW_s17 (⟨rfl, by omega⟩) (by decide) dX4_payments_82 (fun H locs hP hS => ?_)
              rw [show uA (sA (sA (uA σ 8 0 0) 17 q17) 18 q18) 17 ((t + 1)) 0 = sA (sA (uA σ 8 0 0) 17 (gU q17 (t + 1) 0)) 18 q18 from by rw [uA_out (by decide), uA_in]] at hP
              refine z_iconst hX dX4_payments_83 ?_
              refine z_top (y := ↑(0 : Nat)) (rfl) ?_
              refine lv_istore (lv' := [(5, .int (iI (↑(0 : Nat)))), (4, .int (iI (pmF (pgF (σ 0) n0 t) (t + 1) 0))), (0, .ref o), (1, .int (iI (↑al))), (2, .int (iI (sg (nzB (σ 0)) n0))), (3, .int (iI (↑(t + 1))))]) hx hb dX4_payments_84 hl (by decide) rfl (fun ls hl => ?_)
              have L86 : ∀ (n : Nat) (k : Nat) (q19 : Nat → Int), (n0 < k + n) → (k ≤ n0) → (q19 (t + 1) = psF (σ 0) (t + 1) k) → ∀ (H : Heap) (locs : List Loc) (ls : Array Slot), va_P D vwCl (mW o ad cA (sA (sA (uA σ 8 0 0) 17 q19) 18 q18)) H → va_S (wA (mW o ad cA) sz) s.heap H locs → lv_has ls 7 [(0, .ref o), (1, .int (iI (↑al))), (2, .int (iI (sg (nzB (σ 0)) n0))), (3, .int (iI (↑(t + 1)))), (4, .int (iI (pmF (pgF (σ 0) n0 t) (t + 1) k))), (5, .int (iI (↑k)))] → W p l e (headSpec (ws_ yX4_payments cX4_payments 7 (some .int)) { frames := 3, cells := 0, slots := 0, locals := 66 }).room s m ([.ref o] : List Value).toArray below meth c H locs 0 0 (MQ below (wQi D vwCl (mW o ad cA) (fR ((payR σ n0))) sz) ([.ref o] : List Value).toArray s 0 0 (wA (mW o ad cA) sz)) (F0 m 86 ls []) := by
                intro n
                induction n with
                | zero =>
                  intro k q19 hf hk h19 H locs ls hP hS hl
                  exact absurd hf (by omega)
                | succ n ih86 =>
                  intro k q19 hf hk h19 H locs ls hP hS hl
                  refine lv_iload hx hb dX4_payments_86 (lv_at hl 5 rfl) ?_
                  refine lv_aload_n hx hb dX4_payments_88 rfl (lv_at hl 0 rfl) ?_
                  refine W.eq (g2 := F0 m 89 ls [.ref o, .int (iI (↑k))]) rfl ?_
                  refine m_get hX hK hP 0 (by decide) q1908 rfl dX4_payments_89 ?_
                  refine z_iconst hX dX4_payments_92 ?_
                  refine m_ld hX hK hP mW_e0 0 (by decide) (by decide) dX4_payments_93 ?_
                  refine z_top (y := σ 0 0) (by rw [sA_i (by decide), sA_i (by decide), uA_nj (by decide)]) ?_
                  refine z_icmp_ge (tgt := 159) hX (by omega) dX4_payments_94 (by decide) (fun c_94 => ?_) (fun c_94 => ?_)
                  · skip
                    obtain rfl : n0 = k := by omega
                    refine lv_aload_n hx hb dX4_payments_159 rfl (lv_at hl 0 rfl) ?_
                    refine m_get hX hK hP 18 (by decide) q1926 rfl dX4_payments_160 ?_
                    refine lv_iload_n hx hb dX4_payments_163 rfl (lv_at hl 3 rfl) ?_
                    refine lv_iload hx hb dX4_payments_164 (lv_at hl 4 rfl) ?_
                    refine lv_aload_n hx hb dX4_payments_166 rfl (lv_at hl 0 rfl) ?_
                    refine m_get hX hK hP 17 (by decide) q1925 rfl dX4_payments_167 ?_
                    refine W.eq (g2 := F0 m 170 ls [.ref (ad 17), .int (iI (pmF (pgF (σ 0) n0 t) (t + 1) n0)), .int (iI (↑(t + 1))), .ref (ad 18)]) rfl ?_
                    refine lv_iload_n hx hb dX4_payments_170 rfl (lv_at hl 3 rfl) ?_
                    refine m_ld hX hK hP mW_e17 ((t + 1)) (⟨rfl, by omega⟩) (by decide) dX4_payments_171 ?_
                    refine z_top (y := psF (σ 0) (t + 1) n0) (by rw [sA_i (by decide), sA_j]; exact h19) ?_
                    refine z_if_ne (tgt := 179) hX (by have := psF_bd hgo (s := t + 1) n0 hn.2; omega) dX4_payments_172 (by decide) (fun c_172 => ?_) (fun c_172 => ?_)
                    · skip
                      refine z_iconst hX dX4_payments_179 ?_
                      refine z_iadd hX dX4_payments_180 ?_
                      refine z_top (y := pmF (pgF (σ 0) n0 t) (t + 1) n0 + bI (psF (σ 0) (t + 1) n0 = 0)) (by rw [bI_f (by omega)]) ?_
                      refine m_st hX hK hD hP hS mW_e18 ((t + 1)) mW_s18 (⟨rfl, by omega⟩) (by decide) dX4_payments_181 (fun H locs hP hS => ?_)
                      rw [show uA (sA (sA (uA σ 8 0 0) 17 q19) 18 q18) 18 ((t + 1)) (pmF (pgF (σ 0) n0 t) (t + 1) n0 + bI (psF (σ 0) (t + 1) n0 = 0)) = sA (sA (uA σ 8 0 0) 17 q19) 18 (gU q18 (t + 1) (pmF (pgF (σ 0) n0 t) (t + 1) n0 + bI (psF (σ 0) (t + 1) n0 = 0))) from by rw [uA_in]] at hP
                      refine z_iinc (y := ↑(t + 1 + 1)) (lv' := [(3, .int (iI (↑(t + 1 + 1)))), (0, .ref o), (1, .int (iI (↑al))), (2, .int (iI (sg (nzB (σ 0)) n0))), (4, .int (iI (pmF (pgF (σ 0) n0 t) (t + 1) n0))), (5, .int (iI (↑n0)))]) hX dX4_payments_182 hl (k := 3) rfl (by omega) (by decide) rfl (fun ls hl => ?_)
                      refine lv_goto (tgt := 68) hx hb dX4_payments_185 (by decide) ?_
                      exact ih68 (t + 1) (q19) (gU q18 (t + 1) (pmF (pgF (σ 0) n0 t) (t + 1) n0 + bI (psF (σ 0) (t + 1) n0 = 0))) (by omega) (by omega) (fun j hj => by
                        show gU q18 (t + 1) _ j = gU (pgF (σ 0) n0 t) (t + 1) _ j
                        unfold gU
                        split
                        · rfl
                        · exact hq j (by omega)) _ _ _ hP hS (lv_sub hl [1, 2, 3, 0] rfl)
                    · skip
                      refine z_iconst hX dX4_payments_175 ?_
                      refine lv_goto (tgt := 180) hx hb dX4_payments_176 (by decide) ?_
                      refine W.eq (g2 := F0 m 180 ls [.int (iI (1)), .int (iI (pmF (pgF (σ 0) n0 t) (t + 1) n0)), .int (iI (↑(t + 1))), .ref (ad 18)]) rfl ?_
                      refine z_iadd hX dX4_payments_180 ?_
                      refine z_top (y := pmF (pgF (σ 0) n0 t) (t + 1) n0 + bI (psF (σ 0) (t + 1) n0 = 0)) (by rw [bI_t (by omega)]) ?_
                      refine m_st hX hK hD hP hS mW_e18 ((t + 1)) mW_s18 (⟨rfl, by omega⟩) (by decide) dX4_payments_181 (fun H locs hP hS => ?_)
                      rw [show uA (sA (sA (uA σ 8 0 0) 17 q19) 18 q18) 18 ((t + 1)) (pmF (pgF (σ 0) n0 t) (t + 1) n0 + bI (psF (σ 0) (t + 1) n0 = 0)) = sA (sA (uA σ 8 0 0) 17 q19) 18 (gU q18 (t + 1) (pmF (pgF (σ 0) n0 t) (t + 1) n0 + bI (psF (σ 0) (t + 1) n0 = 0))) from by rw [uA_in]] at hP
                      refine z_iinc (y := ↑(t + 1 + 1)) (lv' := [(3, .int (iI (↑(t + 1 + 1)))), (0, .ref o), (1, .int (iI (↑al))), (2, .int (iI (sg (nzB (σ 0)) n0))), (4, .int (iI (pmF (pgF (σ 0) n0 t) (t + 1) n0))), (5, .int (iI (↑n0)))]) hX dX4_payments_182 hl (k := 3) rfl (by omega) (by decide) rfl (fun ls hl => ?_)
                      refine lv_goto (tgt := 68) hx hb dX4_payments_185 (by decide) ?_
                      exact ih68 (t + 1) (q19) (gU q18 (t + 1) (pmF (pgF (σ 0) n0 t) (t + 1) n0 + bI (psF (σ 0) (t + 1) n0 = 0))) (by omega) (by omega) (fun j hj => by
                        show gU q18 (t + 1) _ j = gU (pgF (σ 0) n0 t) (t + 1) _ j
                        unfold gU
                        split
                        · rfl
                        · exact hq j (by omega)) _ _ _ hP hS (lv_sub hl [1, 2, 3, 0] rfl)
                  · skip
                    have hpm := pmF_bd (tab := pgF (σ 0) n0 t) (s := t + 1) (M := t) (by omega) (by omega) (fun j _ => pgF_bd hn.2 t (by omega) j) k (by omega)
                    have hdv : (t + 1) / 2 ^ k ≤ t + 1 := Nat.div_le_self _ _
                    refine lv_iload_n hx hb dX4_payments_97 rfl (lv_at hl 3 rfl) ?_
                    refine lv_iload hx hb dX4_payments_98 (lv_at hl 5 rfl) ?_
                    refine z_ibit hX ((t + 1)) k (by omega) (by omega) dX4_payments_100 ?_
                    refine z_iconst hX dX4_payments_101 ?_
                    refine z_iand1 hX (((t + 1) / 2 ^ k)) (by omega) dX4_payments_102 ?_
                    refine z_if_ne (tgt := 109) hX (by omega) dX4_payments_103 (by decide) (fun c_103 => ?_) (fun c_103 => ?_)
                    · skip
                      have hbit : (t + 1) / 2 ^ k % 2 = 1 := by omega
                      have hxl := xor_lt (by omega) (by omega) hbit
                      have hpk : 2 ^ k ≤ 64 := Nat.pow_le_pow_right (by decide : 0 < 2) (show k ≤ 6 by omega)
                      refine W.eq (g2 := F0 m 109 ls []) rfl ?_
                      refine lv_aload_n hx hb dX4_payments_109 rfl (lv_at hl 0 rfl) ?_
                      refine m_get hX hK hP 17 (by decide) q1925 rfl dX4_payments_110 ?_
                      refine lv_iload_n hx hb dX4_payments_113 rfl (lv_at hl 3 rfl) ?_
                      refine lv_dup2_11 hx hb dX4_payments_114 rfl rfl ?_
                      refine m_ld hX hK hP mW_e17 ((t + 1)) (⟨rfl, by omega⟩) (by decide) dX4_payments_115 ?_
                      refine z_top (y := psF (σ 0) (t + 1) k) (by rw [sA_i (by decide), sA_j]; exact h19) ?_
                      refine lv_aload_n hx hb dX4_payments_116 rfl (lv_at hl 0 rfl) ?_
                      refine lv_iload hx hb dX4_payments_117 (lv_at hl 5 rfl) ?_
                      refine m_calli (As := [.int (iI (↑k))]) (rest := [.int (iI (psF (σ 0) (t + 1) k)), .int (iI (↑(t + 1))), .ref (ad 17)]) hZ hX hK hD hA hE hP hS (c_net hZ (sA (sA (uA σ 8 0 0) 17 q19) 18 q18) _ k _ ⟨rfl, by omega⟩) (cwV 1 hX.hts (lw_V q2161 q2163 qs61 q89 q2164) rfl rfl rfl (by decide +kernel) ⟨Nat.le_of_ble_eq_true rfl, Nat.le_of_ble_eq_true rfl⟩) rfl hl.1 (lv_room (Nat.le_of_ble_eq_true rfl)) dX4_payments_119 ⟨Nat.le_refl _, Nat.le_refl _⟩ rfl (fun  H locs hP hS => ?_)
                      refine z_top (y := mNet (σ 0) k) (by rw [sA_i (by decide), sA_i (by decide), uA_sA, sA_i (by decide)]) ?_
                      refine z_iadd hX dX4_payments_122 ?_
                      refine m_st hX hK hD hP hS mW_e17 ((t + 1)) mW_s17 (⟨rfl, by omega⟩) (by decide) dX4_payments_123 (fun H locs hP hS => ?_)
                      rw [show uA (sA (sA (uA σ 8 0 0) 17 q19) 18 q18) 17 ((t + 1)) ((psF (σ 0) (t + 1) k) + (mNet (σ 0) k)) = sA (sA (uA σ 8 0 0) 17 (gU q19 (t + 1) (psF (σ 0) (t + 1) k + mNet (σ 0) k))) 18 q18 from by rw [uA_out (by decide), uA_in]] at hP
                      refine W.eq (g2 := F0 m 124 ls []) rfl ?_
                      refine lv_aload_n hx hb dX4_payments_124 rfl (lv_at hl 0 rfl) ?_
                      refine m_get hX hK hP 18 (by decide) q1926 rfl dX4_payments_125 ?_
                      refine lv_iload_n hx hb dX4_payments_128 rfl (lv_at hl 3 rfl) ?_
                      refine z_iconst hX dX4_payments_129 ?_
                      refine lv_iload hx hb dX4_payments_130 (lv_at hl 5 rfl) ?_
                      refine z_ishl1 hX k (by omega) dX4_payments_132 ?_
                      refine z_ixor hX ((t + 1)) ((2 ^ k)) (by omega) (by omega) dX4_payments_133 ?_
                      refine m_ld hX hK hP mW_e18 (((t + 1) ^^^ 2 ^ k)) (⟨rfl, by omega⟩) (by decide) dX4_payments_134 ?_
                      refine z_top (y := pgF (σ 0) n0 t ((t + 1) ^^^ 2 ^ k)) (by rw [sA_j]; exact hq _ (by omega)) ?_
                      refine lv_istore (lv' := [(6, .int (iI (pgF (σ 0) n0 t ((t + 1) ^^^ 2 ^ k)))), (0, .ref o), (1, .int (iI (↑al))), (2, .int (iI (sg (nzB (σ 0)) n0))), (3, .int (iI (↑(t + 1)))), (4, .int (iI (pmF (pgF (σ 0) n0 t) (t + 1) k))), (5, .int (iI (↑k)))]) hx hb dX4_payments_135 hl (by decide) rfl (fun ls hl => ?_)
                      refine lv_iload hx hb dX4_payments_137 (lv_at hl 0 rfl) ?_
                      refine W.eq (g2 := F0 m 139 ls [.int (iI (pgF (σ 0) n0 t ((t + 1) ^^^ 2 ^ k)))]) rfl ?_
                      refine lv_iload hx hb dX4_payments_139 (lv_at hl 5 rfl) ?_
                      refine z_icmp_le (tgt := 149) hX (by have := pgF_bd (g := σ 0) (n := n0) hn.2 t (by omega) ((t + 1) ^^^ 2 ^ k); omega) dX4_payments_141 (by decide) (fun c_141 => ?_) (fun c_141 => ?_)
                      · skip
                        refine lv_iload hx hb dX4_payments_149 (lv_at hl 5 rfl) ?_
                        refine z_top (y := pmF (pgF (σ 0) n0 t) (t + 1) (k + 1)) (by show _ = if _ then _ else _; rw [if_pos hbit, Int.max_eq_left (by omega)]) ?_
                        refine lv_istore (lv' := [(4, .int (iI (pmF (pgF (σ 0) n0 t) (t + 1) (k + 1)))), (6, .int (iI (pgF (σ 0) n0 t ((t + 1) ^^^ 2 ^ k)))), (0, .ref o), (1, .int (iI (↑al))), (2, .int (iI (sg (nzB (σ 0)) n0))), (3, .int (iI (↑(t + 1)))), (5, .int (iI (↑k)))]) hx hb dX4_payments_151 hl (by decide) rfl (fun ls hl => ?_)
                        refine z_iinc (y := ↑(k + 1)) (lv' := [(5, .int (iI (↑(k + 1)))), (4, .int (iI (pmF (pgF (σ 0) n0 t) (t + 1) (k + 1)))), (6, .int (iI (pgF (σ 0) n0 t ((t + 1) ^^^ 2 ^ k)))), (0, .ref o), (1, .int (iI (↑al))), (2, .int (iI (sg (nzB (σ 0)) n0))), (3, .int (iI (↑(t + 1))))]) hX dX4_payments_153 hl (k := 6) rfl (by omega) (by decide) rfl (fun ls hl => ?_)
                        refine lv_goto (tgt := 86) hx hb dX4_payments_156 (by decide) ?_
                        exact ih86 (k + 1) (gU q19 (t + 1) (psF (σ 0) (t + 1) k + mNet (σ 0) k)) (by omega) (by omega) (by rw [gU_eq]; exact (if_pos hbit).symm) _ _ _ hP hS (lv_sub hl [3, 4, 5, 6, 1, 0] rfl)
                      · skip
                        refine lv_iload hx hb dX4_payments_144 (lv_at hl 0 rfl) ?_
                        refine lv_goto (tgt := 151) hx hb dX4_payments_146 (by decide) ?_
                        refine z_top (y := pmF (pgF (σ 0) n0 t) (t + 1) (k + 1)) (by show _ = if _ then _ else _; rw [if_pos hbit, Int.max_eq_right (by omega)]) ?_
                        refine lv_istore (lv' := [(4, .int (iI (pmF (pgF (σ 0) n0 t) (t + 1) (k + 1)))), (6, .int (iI (pgF (σ 0) n0 t ((t + 1) ^^^ 2 ^ k)))), (0, .ref o), (1, .int (iI (↑al))), (2, .int (iI (sg (nzB (σ 0)) n0))), (3, .int (iI (↑(t + 1)))), (5, .int (iI (↑k)))]) hx hb dX4_payments_151 hl (by decide) rfl (fun ls hl => ?_)
                        refine z_iinc (y := ↑(k + 1)) (lv' := [(5, .int (iI (↑(k + 1)))), (4, .int (iI (pmF (pgF (σ 0) n0 t) (t + 1) (k + 1)))), (6, .int (iI (pgF (σ 0) n0 t ((t + 1) ^^^ 2 ^ k)))), (0, .ref o), (1, .int (iI (↑al))), (2, .int (iI (sg (nzB (σ 0)) n0))), (3, .int (iI (↑(t + 1))))]) hX dX4_payments_153 hl (k := 6) rfl (by omega) (by decide) rfl (fun ls hl => ?_)
                        refine lv_goto (tgt := 86) hx hb dX4_payments_156 (by decide) ?_
                        exact ih86 (k + 1) (gU q19 (t + 1) (psF (σ 0) (t + 1) k + mNet (σ 0) k)) (by omega) (by omega) (by rw [gU_eq]; exact (if_pos hbit).symm) _ _ _ hP hS (lv_sub hl [3, 4, 5, 6, 1, 0] rfl)
                    · skip
                      have hbit : ¬ (t + 1) / 2 ^ k % 2 = 1 := by omega
                      refine lv_goto (tgt := 153) hx hb dX4_payments_106 (by decide) ?_
                      refine z_iinc (y := ↑(k + 1)) (lv' := [(5, .int (iI (↑(k + 1)))), (0, .ref o), (1, .int (iI (↑al))), (2, .int (iI (sg (nzB (σ 0)) n0))), (3, .int (iI (↑(t + 1)))), (4, .int (iI (pmF (pgF (σ 0) n0 t) (t + 1) k)))]) hX dX4_payments_153 hl (k := 5) rfl (by omega) (by decide) rfl (fun ls hl => ?_)
                      refine lv_goto (tgt := 86) hx hb dX4_payments_156 (by decide) ?_
                      rw [show pmF (pgF (σ 0) n0 t) (t + 1) k = pmF (pgF (σ 0) n0 t) (t + 1) (k + 1) from (if_neg hbit).symm] at hl
                      exact ih86 (k + 1) (q19) (by omega) (by omega) (by rw [h19]; exact (if_neg hbit).symm) _ _ _ hP hS (lv_sub hl [1, 2, 3, 4, 5, 0] rfl)
              exact L86 (n0 + 1) (0) (gU q17 (t + 1) 0) (by omega) (by omega) (gU_eq) _ _ _ hP hS (lv_sub hl [2, 3, 4, 5, 1, 0] rfl)
        rw [show uA (uA (uA σ 8 0 0) 17 0 0) 18 0 0 = sA (sA (uA σ 8 0 0) 17 (gU (σ 17) 0 0)) 18 (gU (σ 18) 0 0) from by rw [uA_sA (uA (uA σ 8 0 0) 17 0 0), uA_sA (uA σ 8 0 0) 17, sA_i (by decide), uA_sA σ 8, sA_i (by decide), sA_i (by decide)]] at hP
        exact L68 (al + 1) (0) (gU (σ 17) 0 0) (gU (σ 18) 0 0) (by omega) (by omega) (fun j hj => by rw [show j = 0 by omega, gU_eq]; rfl) _ _ _ hP hS (lv_sub hl [1, 2, 3, 0] rfl)
      · skip
        refine lv_iload_n hx hb dX4_payments_44 rfl (lv_at hl 2 rfl) ?_
        refine lv_aload_n hx hb dX4_payments_45 rfl (lv_at hl 0 rfl) ?_
        refine lv_iload_n hx hb dX4_payments_46 rfl (lv_at hl 3 rfl) ?_
        refine m_calli (As := [.int (iI (↑i))]) (rest := [.int (iI (sg (nzB (σ 0)) i))]) hZ hX hK hD hA hE hP hS (c_net hZ (uA (uA (uA σ 8 0 0) 17 0 0) 18 0 0) _ i _ ⟨rfl, by omega⟩) (cwV 1 hX.hts (lw_V q2161 q2163 qs61 q89 q2164) rfl rfl rfl (by decide +kernel) ⟨Nat.le_of_ble_eq_true rfl, Nat.le_of_ble_eq_true rfl⟩) rfl hl.1 (lv_room (Nat.le_of_ble_eq_true rfl)) dX4_payments_47 ⟨Nat.le_refl _, Nat.le_refl _⟩ rfl (fun  H locs hP hS => ?_)
        refine z_top (y := mNet (σ 0) i) (by rw [uA_sA, sA_i (by decide), uA_sA, sA_i (by decide), uA_sA, sA_i (by decide)]) ?_
        refine z_if_ne (tgt := 57) hX (by have := mNet_bd hgo (p := i) (by omega); omega) dX4_payments_50 (by decide) (fun c_50 => ?_) (fun c_50 => ?_)
        · skip
          refine z_iconst hX dX4_payments_57 ?_
          refine W.eq (g2 := F0 m 58 ls [.int (iI (1)), .int (iI (sg (nzB (σ 0)) i))]) rfl ?_
          refine z_iadd hX dX4_payments_58 ?_
          refine z_top (y := sg (nzB (σ 0)) (i + 1)) (by show _ = _ + nzB (σ 0) i; unfold nzB; rw [bI_t (by omega)]) ?_
          refine lv_istore_n (lv' := [(2, .int (iI (sg (nzB (σ 0)) (i + 1)))), (0, .ref o), (1, .int (iI (↑al))), (3, .int (iI (↑i)))]) hx hb dX4_payments_59 rfl hl (by decide) rfl (fun ls hl => ?_)
          refine z_iinc (y := ↑(i + 1)) (lv' := [(3, .int (iI (↑(i + 1)))), (2, .int (iI (sg (nzB (σ 0)) (i + 1)))), (0, .ref o), (1, .int (iI (↑al)))]) hX dX4_payments_60 hl (k := 3) rfl (by omega) (by decide) rfl (fun ls hl => ?_)
          refine lv_goto (tgt := 34) hx hb dX4_payments_63 (by decide) ?_
          exact ih34 (i + 1) (by omega) (by omega) _ _ _ hP hS (lv_sub hl [2, 3, 1, 0] rfl)
        · skip
          refine z_iconst hX dX4_payments_53 ?_
          refine lv_goto (tgt := 58) hx hb dX4_payments_54 (by decide) ?_
          refine z_iadd hX dX4_payments_58 ?_
          refine z_top (y := sg (nzB (σ 0)) (i + 1)) (by show _ = _ + nzB (σ 0) i; unfold nzB; rw [bI_f (by omega)]) ?_
          refine lv_istore_n (lv' := [(2, .int (iI (sg (nzB (σ 0)) (i + 1)))), (0, .ref o), (1, .int (iI (↑al))), (3, .int (iI (↑i)))]) hx hb dX4_payments_59 rfl hl (by decide) rfl (fun ls hl => ?_)
          refine z_iinc (y := ↑(i + 1)) (lv' := [(3, .int (iI (↑(i + 1)))), (2, .int (iI (sg (nzB (σ 0)) (i + 1)))), (0, .ref o), (1, .int (iI (↑al)))]) hX dX4_payments_60 hl (k := 3) rfl (by omega) (by decide) rfl (fun ls hl => ?_)
          refine lv_goto (tgt := 34) hx hb dX4_payments_63 (by decide) ?_
          exact ih34 (i + 1) (by omega) (by omega) _ _ _ hP hS (lv_sub hl [2, 3, 1, 0] rfl)
  exact L34 (n0 + 1) (0) (by omega) (by omega) _ _ _ hP hS (lv_sub hl [3, 2, 1, 0] rfl)
set_option maxHeartbeats 4000000 in
theorem c_fewestPayments {l : Launch} {D : va_G} {Z : zZ} {o : Nat} {ad : Nat → Nat} {cA : Nat → ClassId} (hZ : zOk Z) (σ : zT) (sz : Nat) (n0 : Nat) (hn : σ 0 0 = n0 ∧ n0 ≤ 7) (B : Int) (hgo : gOk (σ 0) B) : MI l D Z o ad cA yX4_fewestPayments (ws_ yX4_fewestPayments cX4_fewestPayments 1 (some .int)) { frames := 4, cells := 0, slots := 0, locals := 92 } [.ref o] sz (σ) (fR ((payR σ n0))) := by
  refine w_met (cc := cX4_fewestPayments) (maxL := 1) (ret := some .int) (own := RX4) (by decide) rfl rfl mW_ok (Nat.le_of_ble_eq_true rfl) ?_
  intro p e s m below meth c hX hsz hK hP hD hA hE hS hR ls hl
  have hx := hX.1
  have hb := hX.2.1
  have hl : lv_has ls 1 [(0, .ref o)] := hl
  refine lv_aload_n hx hb dX4_fewestPayments_0 rfl (lv_at hl 0 rfl) ?_
  refine m_callR (As := []) (rest := []) hZ hX hK hD hA hE hP hS (c_payments hZ (σ) _ n0 hn B hgo) (cwV 0 hX.hts (lw_V q2181 q2183 qs63 q89 q2184) rfl rfl rfl (by decide +kernel) ⟨Nat.le_of_ble_eq_true rfl, Nat.le_of_ble_eq_true rfl⟩) rfl hl.1 (lv_room (Nat.le_of_ble_eq_true rfl)) dX4_fewestPayments_1 ⟨Nat.le_refl _, Nat.le_refl _⟩ rfl (fun z y H locs hq hP hS => ?_)
  exact w_iret hX hP hS (⟨_, rfl, hq⟩) dX4_fewestPayments_4
set_option maxHeartbeats 4000000 in
theorem c_fewestPaymentsByTrying {l : Launch} {D : va_G} {Z : zZ} {o : Nat} {ad : Nat → Nat} {cA : Nat → ClassId} (hZ : zOk Z) (σ : zT) (sz : Nat) (n0 : Nat) (hn : σ 0 0 = n0 ∧ n0 ≤ 7) (B : Int) (hgo : gOk (σ 0) B) : MI l D Z o ad cA yX4_fewestPaymentsByTrying (ws_ yX4_fewestPaymentsByTrying cX4_fewestPaymentsByTrying 1 (some .int)) { frames := 4, cells := 0, slots := 0, locals := 92 } [.ref o] sz (σ) (fR ((payR σ n0))) := by
  refine w_met (cc := cX4_fewestPaymentsByTrying) (maxL := 1) (ret := some .int) (own := RX4) (by decide) rfl rfl mW_ok (Nat.le_of_ble_eq_true rfl) ?_
  intro p e s m below meth c hX hsz hK hP hD hA hE hS hR ls hl
  have hx := hX.1
  have hb := hX.2.1
  have hl : lv_has ls 1 [(0, .ref o)] := hl
  refine lv_aload_n hx hb dX4_fewestPaymentsByTrying_0 rfl (lv_at hl 0 rfl) ?_
  refine m_callR (As := []) (rest := []) hZ hX hK hD hA hE hP hS (c_payments hZ (σ) _ n0 hn B hgo) (cwV 0 hX.hts (lw_V q2181 q2183 qs63 q89 q2184) rfl rfl rfl (by decide +kernel) ⟨Nat.le_of_ble_eq_true rfl, Nat.le_of_ble_eq_true rfl⟩) rfl hl.1 (lv_room (Nat.le_of_ble_eq_true rfl)) dX4_fewestPaymentsByTrying_1 ⟨Nat.le_refl _, Nat.le_refl _⟩ rfl (fun z y H locs hq hP hS => ?_)
  exact w_iret hX hP hS (⟨_, rfl, hq⟩) dX4_fewestPaymentsByTrying_4
