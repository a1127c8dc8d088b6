/-! the twin: questions about parties, totals -/
set_option maxRecDepth 100000
set_option maxHeartbeats 4000000 in
theorem c_partyCount {l : Launch} {D : va_G} {Z : zZ} {o : Nat} {ad : Nat → Nat} {cA : Nat → ClassId} (hZ : zOk Z) (σ : zT) (sz : Nat) : MI l D Z o ad cA yX4_partyCount (ws_ yX4_partyCount cX4_partyCount 1 (some .int)) { frames := 0, cells := 0, slots := 0, locals := 0 } [.ref o] sz (σ) (fI (σ 0 0) (uA σ 8 0 0)) := by
  refine w_met (cc := cX4_partyCount) (maxL := 1) (ret := some .int) (own := RX4) (by decide) rfl rfl mW_ok (Nat.le_of_ble_eq_true rfl) ?_
  intro p e s m below meth c hX hsz hK hP hD hA hE hS hR ls hl
  have hx := hX.1
  have hb := hX.2.1
  have hl : lv_has ls 1 [(0, .ref o)] := hl
  refine lv_aload_n hx hb dX4_partyCount_0 rfl (lv_at hl 0 rfl) ?_
  refine z_iconst hX dX4_partyCount_1 ?_
  refine m_put hX hK hD hP hS 8 (by decide) q1916 rfl rfl rfl mW_f8 dX4_partyCount_2 (fun H locs hP hS => ?_)
  refine lv_aload_n hx hb dX4_partyCount_5 rfl (lv_at hl 0 rfl) ?_
  refine m_get hX hK hP 0 (by decide) q1908 rfl dX4_partyCount_6 ?_
  refine z_iconst hX dX4_partyCount_9 ?_
  refine m_ld hX hK hP mW_e0 0 (by decide) (by decide) dX4_partyCount_10 ?_
  refine z_top (y := σ 0 0) (by rw [uA_nj (by decide)]) ?_
  exact w_iret hX hP hS (⟨rfl, rfl⟩) dX4_partyCount_11
set_option maxHeartbeats 4000000 in
theorem c_day {l : Launch} {D : va_G} {Z : zZ} {o : Nat} {ad : Nat → Nat} {cA : Nat → ClassId} (hZ : zOk Z) (σ : zT) (sz : Nat) : MI l D Z o ad cA yX4_day (ws_ yX4_day cX4_day 1 (some .int)) { frames := 0, cells := 0, slots := 0, locals := 0 } [.ref o] sz (σ) (fI (σ 0 1) (uA σ 8 0 0)) := by
  refine w_met (cc := cX4_day) (maxL := 1) (ret := some .int) (own := RX4) (by decide) rfl rfl mW_ok (Nat.le_of_ble_eq_true rfl) ?_
  intro p e s m below meth c hX hsz hK hP hD hA hE hS hR ls hl
  have hx := hX.1
  have hb := hX.2.1
  have hl : lv_has ls 1 [(0, .ref o)] := hl
  refine lv_aload_n hx hb dX4_day_0 rfl (lv_at hl 0 rfl) ?_
  refine z_iconst hX dX4_day_1 ?_
  refine m_put hX hK hD hP hS 8 (by decide) q1916 rfl rfl rfl mW_f8 dX4_day_2 (fun H locs hP hS => ?_)
  refine lv_aload_n hx hb dX4_day_5 rfl (lv_at hl 0 rfl) ?_
  refine m_get hX hK hP 0 (by decide) q1908 rfl dX4_day_6 ?_
  refine z_iconst hX dX4_day_9 ?_
  refine m_ld hX hK hP mW_e0 1 (by decide) (by decide) dX4_day_10 ?_
  refine z_top (y := σ 0 1) (by rw [uA_nj (by decide)]) ?_
  exact w_iret hX hP hS (⟨rfl, rfl⟩) dX4_day_11
set_option maxHeartbeats 4000000 in
theorem c_writtenOff {l : Launch} {D : va_G} {Z : zZ} {o : Nat} {ad : Nat → Nat} {cA : Nat → ClassId} (hZ : zOk Z) (σ : zT) (sz : Nat) : MI l D Z o ad cA yX4_writtenOff (ws_ yX4_writtenOff cX4_writtenOff 1 (some .int)) { frames := 0, cells := 0, slots := 0, locals := 0 } [.ref o] sz (σ) (fI (σ 0 3) (uA σ 8 0 0)) := by
  refine w_met (cc := cX4_writtenOff) (maxL := 1) (ret := some .int) (own := RX4) (by decide) rfl rfl mW_ok (Nat.le_of_ble_eq_true rfl) ?_
  intro p e s m below meth c hX hsz hK hP hD hA hE hS hR ls hl
  have hx := hX.1
  have hb := hX.2.1
  have hl : lv_has ls 1 [(0, .ref o)] := hl
  refine lv_aload_n hx hb dX4_writtenOff_0 rfl (lv_at hl 0 rfl) ?_
  refine z_iconst hX dX4_writtenOff_1 ?_
  refine m_put hX hK hD hP hS 8 (by decide) q1916 rfl rfl rfl mW_f8 dX4_writtenOff_2 (fun H locs hP hS => ?_)
  refine lv_aload_n hx hb dX4_writtenOff_5 rfl (lv_at hl 0 rfl) ?_
  refine m_get hX hK hP 0 (by decide) q1908 rfl dX4_writtenOff_6 ?_
  refine z_iconst hX dX4_writtenOff_9 ?_
  refine m_ld hX hK hP mW_e0 3 (by decide) (by decide) dX4_writtenOff_10 ?_
  refine z_top (y := σ 0 3) (by rw [uA_nj (by decide)]) ?_
  exact w_iret hX hP hS (⟨rfl, rfl⟩) dX4_writtenOff_11
set_option maxHeartbeats 4000000 in
theorem c_defaults {l : Launch} {D : va_G} {Z : zZ} {o : Nat} {ad : Nat → Nat} {cA : Nat → ClassId} (hZ : zOk Z) (σ : zT) (sz : Nat) : MI l D Z o ad cA yX4_defaults (ws_ yX4_defaults cX4_defaults 1 (some .int)) { frames := 0, cells := 0, slots := 0, locals := 0 } [.ref o] sz (σ) (fI (σ 0 4) (uA σ 8 0 0)) := by
  refine w_met (cc := cX4_defaults) (maxL := 1) (ret := some .int) (own := RX4) (by decide) rfl rfl mW_ok (Nat.le_of_ble_eq_true rfl) ?_
  intro p e s m below meth c hX hsz hK hP hD hA hE hS hR ls hl
  have hx := hX.1
  have hb := hX.2.1
  have hl : lv_has ls 1 [(0, .ref o)] := hl
  refine lv_aload_n hx hb dX4_defaults_0 rfl (lv_at hl 0 rfl) ?_
  refine z_iconst hX dX4_defaults_1 ?_
  refine m_put hX hK hD hP hS 8 (by decide) q1916 rfl rfl rfl mW_f8 dX4_defaults_2 (fun H locs hP hS => ?_)
  refine lv_aload_n hx hb dX4_defaults_5 rfl (lv_at hl 0 rfl) ?_
  refine m_get hX hK hP 0 (by decide) q1908 rfl dX4_defaults_6 ?_
  refine z_iconst hX dX4_defaults_9 ?_
  refine m_ld hX hK hP mW_e0 4 (by decide) (by decide) dX4_defaults_10 ?_
  refine z_top (y := σ 0 4) (by rw [uA_nj (by decide)]) ?_
  exact w_iret hX hP hS (⟨rfl, rfl⟩) dX4_defaults_11
set_option maxHeartbeats 4000000 in
theorem c_owedAll {l : Launch} {D : va_G} {Z : zZ} {o : Nat} {ad : Nat → Nat} {cA : Nat → ClassId} (hZ : zOk Z) (σ : zT) (sz : Nat) : MI l D Z o ad cA yX4_owedAll (ws_ yX4_owedAll cX4_owedAll 3 (some .int)) { frames := 0, cells := 0, slots := 0, locals := 0 } [.ref o] sz (σ) (fI (sg (fun k => σ 0 (12 + k)) 49) (σ)) := by
  refine w_met (cc := cX4_owedAll) (maxL := 3) (ret := some .int) (own := RX4) (by decide) rfl rfl mW_ok (Nat.le_of_ble_eq_true rfl) ?_
  intro p e s m below meth c hX hsz hK hP hD hA hE hS hR ls hl
  have hx := hX.1
  have hb := hX.2.1
  have hl : lv_has ls 3 [(0, .ref o)] := hl
  refine z_iconst hX dX4_owedAll_0 ?_
  refine z_top (y := sg (fun k => σ 0 (12 + k)) 0) (rfl) ?_
  refine lv_istore_n (lv' := [(1, .int (iI (sg (fun k => σ 0 (12 + k)) 0))), (0, .ref o)]) hx hb dX4_owedAll_1 rfl hl (by decide) rfl (fun ls hl => ?_)
  refine z_iconst hX dX4_owedAll_2 ?_
  refine z_top (y := ↑(0 : Nat)) (rfl) ?_
  refine lv_istore_n (lv' := [(2, .int (iI (↑(0 : Nat)))), (1, .int (iI (sg (fun k => σ 0 (12 + k)) 0))), (0, .ref o)]) hx hb dX4_owedAll_3 rfl hl (by decide) rfl (fun ls hl => ?_)
  have L4 : ∀ (n : Nat) (i : Nat), (49 < i + n) → (i ≤ 49) → ∀ (H : Heap) (locs : List Loc) (ls : Array Slot), va_P D vwCl (mW o ad cA (σ)) H → va_S (wA (mW o ad cA) sz) s.heap H locs → lv_has ls 3 [(0, .ref o), (1, .int (iI (sg (fun k => σ 0 (12 + k)) i))), (2, .int (iI (↑i)))] → W p l e (headSpec (ws_ yX4_owedAll cX4_owedAll 3 (some .int)) { frames := 0, cells := 0, slots := 0, locals := 0 }).room s m ([.ref o] : List Value).toArray below meth c H locs 0 0 (MQ below (wQi D vwCl (mW o ad cA) (fI (sg (fun k => σ 0 (12 + k)) 49) (σ)) sz) ([.ref o] : List Value).toArray s 0 0 (wA (mW o ad cA) sz)) (F0 m 4 ls []) := by
    intro n
    induction n with
    | zero =>
      intro i hf hi H locs ls hP hS hl
      exact absurd hf (by omega)
    | succ n ih4 =>
      intro i hf hi H locs ls hP hS hl
      refine lv_iload_n hx hb dX4_owedAll_4 rfl (lv_at hl 2 rfl) ?_
      refine z_bipush hX dX4_owedAll_5 (by decide) ?_
      refine z_icmp_ge (tgt := 28) hX (by omega) dX4_owedAll_7 (by decide) (fun c_7 => ?_) (fun c_7 => ?_)
      · skip
        obtain rfl : i = 49 := by omega
        refine lv_iload_n hx hb dX4_owedAll_28 rfl (lv_at hl 1 rfl) ?_
        exact w_iret hX hP hS (⟨rfl, rfl⟩) dX4_owedAll_29
      · skip
        refine W.eq (g2 := F0 m 10 ls []) rfl ?_
        refine lv_iload_n hx hb dX4_owedAll_10 rfl (lv_at hl 1 rfl) ?_
        refine lv_aload_n hx hb dX4_owedAll_11 rfl (lv_at hl 0 rfl) ?_
        refine m_get hX hK hP 0 (by decide) q1908 rfl dX4_owedAll_12 ?_
        refine z_bipush hX dX4_owedAll_15 (by decide) ?_
        refine lv_iload_n hx hb dX4_owedAll_17 rfl (lv_at hl 2 rfl) ?_
        refine z_iadd hX dX4_owedAll_18 ?_
        refine m_ld hX hK hP mW_e0 (12 + i) (by omega) (by decide) dX4_owedAll_19 ?_
        refine z_iadd hX dX4_owedAll_20 ?_
        refine z_top (y := sg (fun k => σ 0 (12 + k)) (i + 1)) (rfl) ?_
        refine lv_istore_n (lv' := [(1, .int (iI (sg (fun k => σ 0 (12 + k)) (i + 1)))), (0, .ref o), (2, .int (iI (↑i)))]) hx hb dX4_owedAll_21 rfl hl (by decide) rfl (fun ls hl => ?_)
        refine z_iinc (y := ↑(i + 1)) (lv' := [(2, .int (iI (↑(i + 1)))), (1, .int (iI (sg (fun k => σ 0 (12 + k)) (i + 1)))), (0, .ref o)]) hX dX4_owedAll_22 hl (k := 2) rfl (by omega) (by decide) rfl (fun ls hl => ?_)
        refine lv_goto (tgt := 4) hx hb dX4_owedAll_25 (by decide) ?_
        exact ih4 (i + 1) (by omega) (by omega) _ _ _ hP hS (lv_sub hl [2, 1, 0] rfl)
  exact L4 (50) (0) (by omega) (by omega) _ _ _ hP hS (lv_sub hl [2, 1, 0] rfl)
set_option maxHeartbeats 4000000 in
theorem c_cashAll {l : Launch} {D : va_G} {Z : zZ} {o : Nat} {ad : Nat → Nat} {cA : Nat → ClassId} (hZ : zOk Z) (σ : zT) (sz : Nat) : MI l D Z o ad cA yX4_cashAll (ws_ yX4_cashAll cX4_cashAll 3 (some .int)) { frames := 0, cells := 0, slots := 0, locals := 0 } [.ref o] sz (σ) (fI (sg (fun k => σ 0 (5 + k)) 7) (σ)) := by
  refine w_met (cc := cX4_cashAll) (maxL := 3) (ret := some .int) (own := RX4) (by decide) rfl rfl mW_ok (Nat.le_of_ble_eq_true rfl) ?_
  intro p e s m below meth c hX hsz hK hP hD hA hE hS hR ls hl
  have hx := hX.1
  have hb := hX.2.1
  have hl : lv_has ls 3 [(0, .ref o)] := hl
  refine z_iconst hX dX4_cashAll_0 ?_
  refine z_top (y := sg (fun k => σ 0 (5 + k)) 0) (rfl) ?_
  refine lv_istore_n (lv' := [(1, .int (iI (sg (fun k => σ 0 (5 + k)) 0))), (0, .ref o)]) hx hb dX4_cashAll_1 rfl hl (by decide) rfl (fun ls hl => ?_)
  refine z_iconst hX dX4_cashAll_2 ?_
  refine z_top (y := ↑(0 : Nat)) (rfl) ?_
  refine lv_istore_n (lv' := [(2, .int (iI (↑(0 : Nat)))), (1, .int (iI (sg (fun k => σ 0 (5 + k)) 0))), (0, .ref o)]) hx hb dX4_cashAll_3 rfl hl (by decide) rfl (fun ls hl => ?_)
  have L4 : ∀ (n : Nat) (i : Nat), (7 < i + n) → (i ≤ 7) → ∀ (H : Heap) (locs : List Loc) (ls : Array Slot), va_P D vwCl (mW o ad cA (σ)) H → va_S (wA (mW o ad cA) sz) s.heap H locs → lv_has ls 3 [(0, .ref o), (1, .int (iI (sg (fun k => σ 0 (5 + k)) i))), (2, .int (iI (↑i)))] → W p l e (headSpec (ws_ yX4_cashAll cX4_cashAll 3 (some .int)) { frames := 0, cells := 0, slots := 0, locals := 0 }).room s m ([.ref o] : List Value).toArray below meth c H locs 0 0 (MQ below (wQi D vwCl (mW o ad cA) (fI (sg (fun k => σ 0 (5 + k)) 7) (σ)) sz) ([.ref o] : List Value).toArray s 0 0 (wA (mW o ad cA) sz)) (F0 m 4 ls []) := by
    intro n
    induction n with
    | zero =>
      intro i hf hi H locs ls hP hS hl
      exact absurd hf (by omega)
    | succ n ih4 =>
      intro i hf hi H locs ls hP hS hl
      refine lv_iload_n hx hb dX4_cashAll_4 rfl (lv_at hl 2 rfl) ?_
      refine z_bipush hX dX4_cashAll_5 (by decide) ?_
      refine z_icmp_ge (tgt := 27) hX (by omega) dX4_cashAll_7 (by decide) (fun c_7 => ?_) (fun c_7 => ?_)
      · skip
        obtain rfl : i = 7 := by omega
        refine lv_iload_n hx hb dX4_cashAll_27 rfl (lv_at hl 1 rfl) ?_
        exact w_iret hX hP hS (⟨rfl, rfl⟩) dX4_cashAll_28
      · skip
        refine W.eq (g2 := F0 m 10 ls []) rfl ?_
        refine lv_iload_n hx hb dX4_cashAll_10 rfl (lv_at hl 1 rfl) ?_
        refine lv_aload_n hx hb dX4_cashAll_11 rfl (lv_at hl 0 rfl) ?_
        refine m_get hX hK hP 0 (by decide) q1908 rfl dX4_cashAll_12 ?_
        refine z_iconst hX dX4_cashAll_15 ?_
        refine lv_iload_n hx hb dX4_cashAll_16 rfl (lv_at hl 2 rfl) ?_
        refine z_iadd hX dX4_cashAll_17 ?_
        refine m_ld hX hK hP mW_e0 (5 + (i)) (by omega) (by decide) dX4_cashAll_18 ?_
        refine z_iadd hX dX4_cashAll_19 ?_
        refine z_top (y := sg (fun k => σ 0 (5 + k)) (i + 1)) (rfl) ?_
        refine lv_istore_n (lv' := [(1, .int (iI (sg (fun k => σ 0 (5 + k)) (i + 1)))), (0, .ref o), (2, .int (iI (↑i)))]) hx hb dX4_cashAll_20 rfl hl (by decide) rfl (fun ls hl => ?_)
        refine z_iinc (y := ↑(i + 1)) (lv' := [(2, .int (iI (↑(i + 1)))), (1, .int (iI (sg (fun k => σ 0 (5 + k)) (i + 1)))), (0, .ref o)]) hX dX4_cashAll_21 hl (k := 2) rfl (by omega) (by decide) rfl (fun ls hl => ?_)
        refine lv_goto (tgt := 4) hx hb dX4_cashAll_24 (by decide) ?_
        exact ih4 (i + 1) (by omega) (by omega) _ _ _ hP hS (lv_sub hl [2, 1, 0] rfl)
  exact L4 (8) (0) (by omega) (by omega) _ _ _ hP hS (lv_sub hl [2, 1, 0] rfl)
set_option maxHeartbeats 4000000 in
theorem c_debtTotal {l : Launch} {D : va_G} {Z : zZ} {o : Nat} {ad : Nat → Nat} {cA : Nat → ClassId} (hZ : zOk Z) (σ : zT) (sz : Nat) : MI l D Z o ad cA yX4_debtTotal (ws_ yX4_debtTotal cX4_debtTotal 1 (some .int)) { frames := 1, cells := 0, slots := 0, locals := 22 } [.ref o] sz (σ) (fI (sg (fun k => σ 0 (12 + k)) 49) (uA σ 8 0 0)) := by
  refine w_met (cc := cX4_debtTotal) (maxL := 1) (ret := some .int) (own := RX4) (by decide) rfl rfl mW_ok (Nat.le_of_ble_eq_true rfl) ?_
  intro p e s m below meth c hX hsz hK hP hD hA hE hS hR ls hl
  have hx := hX.1
  have hb := hX.2.1
  have hl : lv_has ls 1 [(0, .ref o)] := hl
  refine lv_aload_n hx hb dX4_debtTotal_0 rfl (lv_at hl 0 rfl) ?_
  refine z_iconst hX dX4_debtTotal_1 ?_
  refine m_put hX hK hD hP hS 8 (by decide) q1916 rfl rfl rfl mW_f8 dX4_debtTotal_2 (fun H locs hP hS => ?_)
  refine lv_aload_n hx hb dX4_debtTotal_5 rfl (lv_at hl 0 rfl) ?_
  refine m_calli (As := []) (rest := []) hZ hX hK hD hA hE hP hS (c_owedAll hZ (uA σ 8 0 0) _) (cwV 0 hX.hts (lw_V q2197 q2199 qs64 q89 q2200) rfl rfl rfl (by decide +kernel) ⟨Nat.le_of_ble_eq_true rfl, Nat.le_of_ble_eq_true rfl⟩) rfl hl.1 (lv_room (Nat.le_of_ble_eq_true rfl)) dX4_debtTotal_6 ⟨Nat.le_refl _, Nat.le_refl _⟩ rfl (fun  H locs hP hS => ?_)
  refine z_top (y := sg (fun k => σ 0 (12 + k)) 49) (by rw [uA_sA, sA_i (by decide)]) ?_
  exact w_iret hX hP hS (⟨rfl, rfl⟩) dX4_debtTotal_9
set_option maxHeartbeats 4000000 in
theorem c_debtByAccounts {l : Launch} {D : va_G} {Z : zZ} {o : Nat} {ad : Nat → Nat} {cA : Nat → ClassId} (hZ : zOk Z) (σ : zT) (sz : Nat) : MI l D Z o ad cA yX4_debtByAccounts (ws_ yX4_debtByAccounts cX4_debtByAccounts 1 (some .int)) { frames := 1, cells := 0, slots := 0, locals := 22 } [.ref o] sz (σ) (fI (sg (fun k => σ 0 (12 + k)) 49) (uA σ 8 0 0)) := by
  refine w_met (cc := cX4_debtByAccounts) (maxL := 1) (ret := some .int) (own := RX4) (by decide) rfl rfl mW_ok (Nat.le_of_ble_eq_true rfl) ?_
  intro p e s m below meth c hX hsz hK hP hD hA hE hS hR ls hl
  have hx := hX.1
  have hb := hX.2.1
  have hl : lv_has ls 1 [(0, .ref o)] := hl
  refine lv_aload_n hx hb dX4_debtByAccounts_0 rfl (lv_at hl 0 rfl) ?_
  refine z_iconst hX dX4_debtByAccounts_1 ?_
  refine m_put hX hK hD hP hS 8 (by decide) q1916 rfl rfl rfl mW_f8 dX4_debtByAccounts_2 (fun H locs hP hS => ?_)
  refine lv_aload_n hx hb dX4_debtByAccounts_5 rfl (lv_at hl 0 rfl) ?_
  refine m_calli (As := []) (rest := []) hZ hX hK hD hA hE hP hS (c_owedAll hZ (uA σ 8 0 0) _) (cwV 0 hX.hts (lw_V q2197 q2199 qs64 q89 q2200) rfl rfl rfl (by decide +kernel) ⟨Nat.le_of_ble_eq_true rfl, Nat.le_of_ble_eq_true rfl⟩) rfl hl.1 (lv_room (Nat.le_of_ble_eq_true rfl)) dX4_debtByAccounts_6 ⟨Nat.le_refl _, Nat.le_refl _⟩ rfl (fun  H locs hP hS => ?_)
  refine z_top (y := sg (fun k => σ 0 (12 + k)) 49) (by rw [uA_sA, sA_i (by decide)]) ?_
  exact w_iret hX hP hS (⟨rfl, rfl⟩) dX4_debtByAccounts_9
set_option maxHeartbeats 4000000 in
theorem c_cashTotal {l : Launch} {D : va_G} {Z : zZ} {o : Nat} {ad : Nat → Nat} {cA : Nat → ClassId} (hZ : zOk Z) (σ : zT) (sz : Nat) : MI l D Z o ad cA yX4_cashTotal (ws_ yX4_cashTotal cX4_cashTotal 1 (some .int)) { frames := 1, cells := 0, slots := 0, locals := 22 } [.ref o] sz (σ) (fI (sg (fun k => σ 0 (5 + k)) 7) (uA σ 8 0 0)) := by
  refine w_met (cc := cX4_cashTotal) (maxL := 1) (ret := some .int) (own := RX4) (by decide) rfl rfl mW_ok (Nat.le_of_ble_eq_true rfl) ?_
  intro p e s m below meth c hX hsz hK hP hD hA hE hS hR ls hl
  have hx := hX.1
  have hb := hX.2.1
  have hl : lv_has ls 1 [(0, .ref o)] := hl
  refine lv_aload_n hx hb dX4_cashTotal_0 rfl (lv_at hl 0 rfl) ?_
  refine z_iconst hX dX4_cashTotal_1 ?_
  refine m_put hX hK hD hP hS 8 (by decide) q1916 rfl rfl rfl mW_f8 dX4_cashTotal_2 (fun H locs hP hS => ?_)
  refine lv_aload_n hx hb dX4_cashTotal_5 rfl (lv_at hl 0 rfl) ?_
  refine m_calli (As := []) (rest := []) hZ hX hK hD hA hE hP hS (c_cashAll hZ (uA σ 8 0 0) _) (cwV 0 hX.hts (lw_V q2209 q2211 qs65 q89 q2212) rfl rfl rfl (by decide +kernel) ⟨Nat.le_of_ble_eq_true rfl, Nat.le_of_ble_eq_true rfl⟩) rfl hl.1 (lv_room (Nat.le_of_ble_eq_true rfl)) dX4_cashTotal_6 ⟨Nat.le_refl _, Nat.le_refl _⟩ rfl (fun  H locs hP hS => ?_)
  refine z_top (y := sg (fun k => σ 0 (5 + k)) 7) (by rw [uA_sA, sA_i (by decide)]) ?_
  exact w_iret hX hP hS (⟨rfl, rfl⟩) dX4_cashTotal_9
set_option maxHeartbeats 4000000 in
theorem c_cash {l : Launch} {D : va_G} {Z : zZ} {o : Nat} {ad : Nat → Nat} {cA : Nat → ClassId} (hZ : zOk Z) (σ : zT) (sz : Nat) (P : Int) (hP0 : (-2147483648 ≤ P ∧ P ≤ 2147483647)) (B : Int) (hgo : gOk (σ 0) B) : MI l D Z o ad cA yX4_cash (ws_ yX4_cash cX4_cash 2 (some .int)) { frames := 3, cells := 0, slots := 0, locals := 64 } [.ref o, .int (iI (P))] sz (σ) (fR ((qcR σ (bI (¬ mIs (σ 0) P)) (σ 0 (5 + P.toNat))))) := by
  refine w_met (cc := cX4_cash) (maxL := 2) (ret := some .int) (own := RX4) (by decide) rfl rfl mW_ok (Nat.le_of_ble_eq_true rfl) ?_
  intro p e s m below meth c hX hsz hK hP hD hA hE hS hR ls hl
  have hx := hX.1
  have hb := hX.2.1
  have hl : lv_has ls 2 [(0, .ref o), (1, .int (iI (P)))] := hl
  have hg := hgo.1
  refine lv_aload_n hx hb dX4_cash_0 rfl (lv_at hl 0 rfl) ?_
  refine lv_iload_n hx hb dX4_cash_1 rfl (lv_at hl 1 rfl) ?_
  refine m_calli (As := [.int (iI (P))]) (rest := []) hZ hX hK hD hA hE hP hS (c_isNone hZ (σ) _ (P) (by omega) hg) (cwV 1 hX.hts (lw_V q2002 q2004 qs44 q89 q2005) rfl rfl rfl (by decide +kernel) ⟨Nat.le_of_ble_eq_true rfl, Nat.le_of_ble_eq_true rfl⟩) rfl hl.1 (lv_room (Nat.le_of_ble_eq_true rfl)) dX4_cash_2 ⟨Nat.le_refl _, Nat.le_refl _⟩ rfl (fun  H locs hP hS => ?_)
  refine z_if_eqB (tgt := 12) hX dX4_cash_5 (by decide) (fun c_5 => ?_) (fun c_5 => ?_)
  · skip
    have c_5 : mIs (σ 0) P := Decidable.of_not_not c_5
    have c_5' : 0 ≤ P ∧ P ≤ σ 0 0 - 1 := c_5
    refine lv_aload_n hx hb dX4_cash_12 rfl (lv_at hl 0 rfl) ?_
    refine m_get hX hK hP 0 (by decide) q1908 rfl dX4_cash_13 ?_
    refine z_iconst hX dX4_cash_16 ?_
    refine lv_iload_n hx hb dX4_cash_17 rfl (lv_at hl 1 rfl) ?_
    refine z_iadd hX dX4_cash_18 ?_
    refine W.eq (g2 := F0 m 19 ls [.int (iI (5 + P)), .ref (ad 0)]) rfl ?_
    refine m_ld hX hK hP mW_e0 (5 + P.toNat) (by omega) (by decide) dX4_cash_19 ?_
    refine z_top (y := σ 0 (5 + P.toNat)) (by rw [uA_nj (by decide)]) ?_
    exact w_iret hX hP hS (qcR_y (fun h => h c_5)) dX4_cash_20
  · skip
    refine z_iconst hX dX4_cash_8 ?_
    refine lv_goto (tgt := 20) hx hb dX4_cash_9 (by decide) ?_
    exact w_iret hX hP hS (qcR_n c_5) dX4_cash_20
set_option maxHeartbeats 4000000 in
theorem c_claims {l : Launch} {D : va_G} {Z : zZ} {o : Nat} {ad : Nat → Nat} {cA : Nat → ClassId} (hZ : zOk Z) (σ : zT) (sz : Nat) (P : Int) (hP0 : (-2147483648 ≤ P ∧ P ≤ 2147483647)) (B : Int) (hgo : gOk (σ 0) B) : MI l D Z o ad cA yX4_claims (ws_ yX4_claims cX4_claims 2 (some .int)) { frames := 3, cells := 0, slots := 0, locals := 64 } [.ref o, .int (iI (P))] sz (σ) (fR ((qcR σ (bI (¬ mIs (σ 0) P)) (mCl (σ 0) P.toNat)))) := by
  refine w_met (cc := cX4_claims) (maxL := 2) (ret := some .int) (own := RX4) (by decide) rfl rfl mW_ok (Nat.le_of_ble_eq_true rfl) ?_
  intro p e s m below meth c hX hsz hK hP hD hA hE hS hR ls hl
  have hx := hX.1
  have hb := hX.2.1
  have hl : lv_has ls 2 [(0, .ref o), (1, .int (iI (P)))] := hl
  have hg := hgo.1
  refine lv_aload_n hx hb dX4_claims_0 rfl (lv_at hl 0 rfl) ?_
  refine lv_iload_n hx hb dX4_claims_1 rfl (lv_at hl 1 rfl) ?_
  refine m_calli (As := [.int (iI (P))]) (rest := []) hZ hX hK hD hA hE hP hS (c_isNone hZ (σ) _ (P) (by omega) hg) (cwV 1 hX.hts (lw_V q2002 q2004 qs44 q89 q2005) rfl rfl rfl (by decide +kernel) ⟨Nat.le_of_ble_eq_true rfl, Nat.le_of_ble_eq_true rfl⟩) rfl hl.1 (lv_room (Nat.le_of_ble_eq_true rfl)) dX4_claims_2 ⟨Nat.le_refl _, Nat.le_refl _⟩ rfl (fun  H locs hP hS => ?_)
  refine z_if_eqB (tgt := 12) hX dX4_claims_5 (by decide) (fun c_5 => ?_) (fun c_5 => ?_)
  · skip
    have c_5 : mIs (σ 0) P := Decidable.of_not_not c_5
    have c_5' : 0 ≤ P ∧ P ≤ σ 0 0 - 1 := c_5
    refine lv_aload_n hx hb dX4_claims_12 rfl (lv_at hl 0 rfl) ?_
    refine lv_iload_n hx hb dX4_claims_13 rfl (lv_at hl 1 rfl) ?_
    refine m_calli (As := [.int (iI (P))]) (rest := []) hZ hX hK hD hA hE hP hS (c_claimed hZ (uA σ 8 0 (bI (¬ mIs (σ 0) P))) _ P.toNat _ (by omega)) (cwV 1 hX.hts (lw_V q2093 q2095 qs55 q89 q2096) rfl rfl rfl (by decide +kernel) ⟨Nat.le_of_ble_eq_true rfl, Nat.le_of_ble_eq_true rfl⟩) rfl hl.1 (lv_room (Nat.le_of_ble_eq_true rfl)) dX4_claims_14 ⟨Nat.le_refl _, Nat.le_refl _⟩ rfl (fun  H locs hP hS => ?_)
    refine z_top (y := mCl (σ 0) P.toNat) (by rw [uA_sA, sA_i (by decide)]) ?_
    exact w_iret hX hP hS (qcR_y (fun h => h c_5)) dX4_claims_17
  · skip
    refine z_iconst hX dX4_claims_8 ?_
    refine lv_goto (tgt := 17) hx hb dX4_claims_9 (by decide) ?_
    exact w_iret hX hP hS (qcR_n c_5) dX4_claims_17
set_option maxHeartbeats 4000000 in
theorem c_obligations {l : Launch} {D : va_G} {Z : zZ} {o : Nat} {ad : Nat → Nat} {cA : Nat → ClassId} (hZ : zOk Z) (σ : zT) (sz : Nat) (P : Int) (hP0 : (-2147483648 ≤ P ∧ P ≤ 2147483647)) (B : Int) (hgo : gOk (σ 0) B) : MI l D Z o ad cA yX4_obligations (ws_ yX4_obligations cX4_obligations 2 (some .int)) { frames := 3, cells := 0, slots := 0, locals := 64 } [.ref o, .int (iI (P))] sz (σ) (fR ((qcR σ (bI (¬ mIs (σ 0) P)) (mOb (σ 0) P.toNat)))) := by
  refine w_met (cc := cX4_obligations) (maxL := 2) (ret := some .int) (own := RX4) (by decide) rfl rfl mW_ok (Nat.le_of_ble_eq_true rfl) ?_
  intro p e s m below meth c hX hsz hK hP hD hA hE hS hR ls hl
  have hx := hX.1
  have hb := hX.2.1
  have hl : lv_has ls 2 [(0, .ref o), (1, .int (iI (P)))] := hl
  have hg := hgo.1
  refine lv_aload_n hx hb dX4_obligations_0 rfl (lv_at hl 0 rfl) ?_
  refine lv_iload_n hx hb dX4_obligations_1 rfl (lv_at hl 1 rfl) ?_
  refine m_calli (As := [.int (iI (P))]) (rest := []) hZ hX hK hD hA hE hP hS (c_isNone hZ (σ) _ (P) (by omega) hg) (cwV 1 hX.hts (lw_V q2002 q2004 qs44 q89 q2005) rfl rfl rfl (by decide +kernel) ⟨Nat.le_of_ble_eq_true rfl, Nat.le_of_ble_eq_true rfl⟩) rfl hl.1 (lv_room (Nat.le_of_ble_eq_true rfl)) dX4_obligations_2 ⟨Nat.le_refl _, Nat.le_refl _⟩ rfl (fun  H locs hP hS => ?_)
  refine z_if_eqB (tgt := 12) hX dX4_obligations_5 (by decide) (fun c_5 => ?_) (fun c_5 => ?_)
  · skip
    have c_5 : mIs (σ 0) P := Decidable.of_not_not c_5
    have c_5' : 0 ≤ P ∧ P ≤ σ 0 0 - 1 := c_5
    refine lv_aload_n hx hb dX4_obligations_12 rfl (lv_at hl 0 rfl) ?_
    refine lv_iload_n hx hb dX4_obligations_13 rfl (lv_at hl 1 rfl) ?_
    refine m_calli (As := [.int (iI (P))]) (rest := []) hZ hX hK hD hA hE hP hS (c_obliged hZ (uA σ 8 0 (bI (¬ mIs (σ 0) P))) _ P.toNat _ (by omega)) (cwV 1 hX.hts (lw_V q2089 q2091 qs54 q89 q2092) rfl rfl rfl (by decide +kernel) ⟨Nat.le_of_ble_eq_true rfl, Nat.le_of_ble_eq_true rfl⟩) rfl hl.1 (lv_room (Nat.le_of_ble_eq_true rfl)) dX4_obligations_14 ⟨Nat.le_refl _, Nat.le_refl _⟩ rfl (fun  H locs hP hS => ?_)
    refine z_top (y := mOb (σ 0) P.toNat) (by rw [uA_sA, sA_i (by decide)]) ?_
    exact w_iret hX hP hS (qcR_y (fun h => h c_5)) dX4_obligations_17
  · skip
    refine z_iconst hX dX4_obligations_8 ?_
    refine lv_goto (tgt := 17) hx hb dX4_obligations_9 (by decide) ?_
    exact w_iret hX hP hS (qcR_n c_5) dX4_obligations_17
set_option maxHeartbeats 4000000 in
theorem c_netPosition {l : Launch} {D : va_G} {Z : zZ} {o : Nat} {ad : Nat → Nat} {cA : Nat → ClassId} (hZ : zOk Z) (σ : zT) (sz : Nat) (P : Int) (hP0 : (-2147483648 ≤ P ∧ P ≤ 2147483647)) (B : Int) (hgo : gOk (σ 0) B) : MI l D Z o ad cA yX4_netPosition (ws_ yX4_netPosition cX4_netPosition 2 (some .int)) { frames := 3, cells := 0, slots := 0, locals := 66 } [.ref o, .int (iI (P))] sz (σ) (fR ((qcR σ (bI (¬ mIs (σ 0) P)) (mNet (σ 0) P.toNat)))) := by
  refine w_met (cc := cX4_netPosition) (maxL := 2) (ret := some .int) (own := RX4) (by decide) rfl rfl mW_ok (Nat.le_of_ble_eq_true rfl) ?_
  intro p e s m below meth c hX hsz hK hP hD hA hE hS hR ls hl
  have hx := hX.1
  have hb := hX.2.1
  have hl : lv_has ls 2 [(0, .ref o), (1, .int (iI (P)))] := hl
  have hg := hgo.1
  refine lv_aload_n hx hb dX4_netPosition_0 rfl (lv_at hl 0 rfl) ?_
  refine lv_iload_n hx hb dX4_netPosition_1 rfl (lv_at hl 1 rfl) ?_
  refine m_calli (As := [.int (iI (P))]) (rest := []) hZ hX hK hD hA hE hP hS (c_isNone hZ (σ) _ (P) (by omega) hg) (cwV 1 hX.hts (lw_V q2002 q2004 qs44 q89 q2005) rfl rfl rfl (by decide +kernel) ⟨Nat.le_of_ble_eq_true rfl, Nat.le_of_ble_eq_true rfl⟩) rfl hl.1 (lv_room (Nat.le_of_ble_eq_true rfl)) dX4_netPosition_2 ⟨Nat.le_refl _, Nat.le_refl _⟩ rfl (fun  H locs hP hS => ?_)
  refine z_if_eqB (tgt := 12) hX dX4_netPosition_5 (by decide) (fun c_5 => ?_) (fun c_5 => ?_)
  · skip
    have c_5 : mIs (σ 0) P := Decidable.of_not_not c_5
    have c_5' : 0 ≤ P ∧ P ≤ σ 0 0 - 1 := c_5
    refine lv_aload_n hx hb dX4_netPosition_12 rfl (lv_at hl 0 rfl) ?_
    refine lv_iload_n hx hb dX4_netPosition_13 rfl (lv_at hl 1 rfl) ?_
    refine m_calli (As := [.int (iI (P))]) (rest := []) hZ hX hK hD hA hE hP hS (c_net hZ (uA σ 8 0 (bI (¬ mIs (σ 0) P))) _ P.toNat _ (by omega)) (cwV 1 hX.hts (lw_V q2161 q2163 qs61 q89 q2164) rfl rfl rfl (by decide +kernel) ⟨Nat.le_of_ble_eq_true rfl, Nat.le_of_ble_eq_true rfl⟩) rfl hl.1 (lv_room (Nat.le_of_ble_eq_true rfl)) dX4_netPosition_14 ⟨Nat.le_refl _, Nat.le_refl _⟩ rfl (fun  H locs hP hS => ?_)
    refine z_top (y := mNet (σ 0) P.toNat) (by rw [uA_sA, sA_i (by decide)]) ?_
    exact w_iret hX hP hS (qcR_y (fun h => h c_5)) dX4_netPosition_17
  · skip
    refine z_iconst hX dX4_netPosition_8 ?_
    refine lv_goto (tgt := 17) hx hb dX4_netPosition_9 (by decide) ?_
    exact w_iret hX hP hS (qcR_n c_5) dX4_netPosition_17
set_option maxHeartbeats 4000000 in
theorem c_debt {l : Launch} {D : va_G} {Z : zZ} {o : Nat} {ad : Nat → Nat} {cA : Nat → ClassId} (hZ : zOk Z) (σ : zT) (sz : Nat) (P P2 : Int) (hP0 : (-2147483648 ≤ P ∧ P ≤ 2147483647)) (hP2 : (-2147483648 ≤ P2 ∧ P2 ≤ 2147483647)) (B : Int) (hgo : gOk (σ 0) B) : MI l D Z o ad cA yX4_debt (ws_ yX4_debt cX4_debt 3 (some .int)) { frames := 3, cells := 0, slots := 0, locals := 65 } [.ref o, .int (iI (P)), .int (iI (P2))] sz (σ) (fR ((qcR σ (bI (¬ (mIs (σ 0) P ∧ mIs (σ 0) P2))) (σ 0 (12 + 7 * P.toNat + P2.toNat))))) := by
  refine w_met (cc := cX4_debt) (maxL := 3) (ret := some .int) (own := RX4) (by decide) rfl rfl mW_ok (Nat.le_of_ble_eq_true rfl) ?_
  intro p e s m below meth c hX hsz hK hP hD hA hE hS hR ls hl
  have hx := hX.1
  have hb := hX.2.1
  have hl : lv_has ls 3 [(0, .ref o), (1, .int (iI (P))), (2, .int (iI (P2)))] := hl
  have hg := hgo.1
  refine lv_aload_n hx hb dX4_debt_0 rfl (lv_at hl 0 rfl) ?_
  refine lv_iload_n hx hb dX4_debt_1 rfl (lv_at hl 1 rfl) ?_
  refine lv_iload_n hx hb dX4_debt_2 rfl (lv_at hl 2 rfl) ?_
  refine m_calli (As := [.int (iI (P)), .int (iI (P2))]) (rest := []) hZ hX hK hD hA hE hP hS (c_areNone hZ (σ) _ (P) (P2) (by omega) (by omega) hg) (cwV 2 hX.hts (lw_V q2014 q2016 qs46 q89 q2017) rfl rfl rfl (by decide +kernel) ⟨Nat.le_of_ble_eq_true rfl, Nat.le_of_ble_eq_true rfl⟩) rfl hl.1 (lv_room (Nat.le_of_ble_eq_true rfl)) dX4_debt_3 ⟨Nat.le_refl _, Nat.le_refl _⟩ rfl (fun  H locs hP hS => ?_)
  refine z_if_eqB (tgt := 13) hX dX4_debt_6 (by decide) (fun c_6 => ?_) (fun c_6 => ?_)
  · skip
    have c_6 : mIs (σ 0) P ∧ mIs (σ 0) P2 := Decidable.of_not_not c_6
    have c_6' : (0 ≤ P ∧ P ≤ σ 0 0 - 1) ∧ 0 ≤ P2 ∧ P2 ≤ σ 0 0 - 1 := c_6
    have hd := hgo.2.2.1 P.toNat P2.toNat (by omega) (by omega)
    have hd2 := hgo.2.2.1 P2.toNat P.toNat (by omega) (by omega)
    have hc := hgo.2.1 P.toNat (by omega)
    refine lv_aload_n hx hb dX4_debt_13 rfl (lv_at hl 0 rfl) ?_
    refine lv_iload_n hx hb dX4_debt_14 rfl (lv_at hl 1 rfl) ?_
    refine lv_iload_n hx hb dX4_debt_15 rfl (lv_at hl 2 rfl) ?_
    refine m_calli (As := [.int (iI (P)), .int (iI (P2))]) (rest := []) hZ hX hK hD hA hE hP hS (c_owes hZ (uA σ 8 0 (bI (¬ (mIs (σ 0) P ∧ mIs (σ 0) P2)))) _ P.toNat P2.toNat _ _ (by omega) (by omega)) (cwV 2 hX.hts (lw_V q2018 q2020 qs47 q89 q2021) rfl rfl rfl (by decide +kernel) ⟨Nat.le_of_ble_eq_true rfl, Nat.le_of_ble_eq_true rfl⟩) rfl hl.1 (lv_room (Nat.le_of_ble_eq_true rfl)) dX4_debt_16 ⟨Nat.le_refl _, Nat.le_refl _⟩ rfl (fun  H locs hP hS => ?_)
    refine z_top (y := σ 0 (12 + 7 * P.toNat + P2.toNat)) (by rw [uA_nj (by decide)]) ?_
    refine W.eq (g2 := F0 m 19 ls [.int (iI (σ 0 (12 + 7 * P.toNat + P2.toNat)))]) rfl ?_
    exact w_iret hX hP hS (qcR_y (fun h => h c_6)) dX4_debt_19
  · skip
    refine z_iconst hX dX4_debt_9 ?_
    refine lv_goto (tgt := 19) hx hb dX4_debt_10 (by decide) ?_
    exact w_iret hX hP hS (qcR_n c_6) dX4_debt_19
set_option maxHeartbeats 4000000 in
theorem c_isInsolvent {l : Launch} {D : va_G} {Z : zZ} {o : Nat} {ad : Nat → Nat} {cA : Nat → ClassId} (hZ : zOk Z) (σ : zT) (sz : Nat) (P : Int) (hP0 : (-2147483648 ≤ P ∧ P ≤ 2147483647)) (B : Int) (hgo : gOk (σ 0) B) (hB : B ≤ 2000000) : MI l D Z o ad cA yX4_isInsolvent (ws_ yX4_isInsolvent cX4_isInsolvent 2 (some .boolean)) { frames := 3, cells := 0, slots := 0, locals := 66 } [.ref o, .int (iI (P))] sz (σ) (fR ((qcR σ (bI (¬ mIs (σ 0) P)) (bI (0 < mLk (σ 0) P.toNat))))) := by
  refine w_met (cc := cX4_isInsolvent) (maxL := 2) (ret := some .boolean) (own := RX4) (by decide) rfl rfl mW_ok (Nat.le_of_ble_eq_true rfl) ?_
  intro p e s m below meth c hX hsz hK hP hD hA hE hS hR ls hl
  have hx := hX.1
  have hb := hX.2.1
  have hl : lv_has ls 2 [(0, .ref o), (1, .int (iI (P)))] := hl
  have hg := hgo.1
  refine lv_aload_n hx hb dX4_isInsolvent_0 rfl (lv_at hl 0 rfl) ?_
  refine lv_iload_n hx hb dX4_isInsolvent_1 rfl (lv_at hl 1 rfl) ?_
  refine m_calli (As := [.int (iI (P))]) (rest := []) hZ hX hK hD hA hE hP hS (c_isNone hZ (σ) _ (P) (by omega) hg) (cwV 1 hX.hts (lw_V q2002 q2004 qs44 q89 q2005) rfl rfl rfl (by decide +kernel) ⟨Nat.le_of_ble_eq_true rfl, Nat.le_of_ble_eq_true rfl⟩) rfl hl.1 (lv_room (Nat.le_of_ble_eq_true rfl)) dX4_isInsolvent_2 ⟨Nat.le_refl _, Nat.le_refl _⟩ rfl (fun  H locs hP hS => ?_)
  refine z_if_neB (tgt := 20) hX dX4_isInsolvent_5 (by decide) (fun c_5 => ?_) (fun c_5 => ?_)
  · skip
    refine z_iconst hX dX4_isInsolvent_20 ?_
    exact w_zret hX hP hS (by decide) (by first | exact qcR_n c_5 | exact ⟨0, rfl, rfl, Or.inr ⟨bI_f (fun h => h c_5), (bI_f (by omega)).symm⟩⟩) dX4_isInsolvent_21
  · skip
    have c_5 : mIs (σ 0) P := Decidable.of_not_not c_5
    have c_5' : 0 ≤ P ∧ P ≤ σ 0 0 - 1 := c_5
    have hlk := mLk_bd hgo hB (p := P.toNat) (by omega)
    refine lv_aload_n hx hb dX4_isInsolvent_8 rfl (lv_at hl 0 rfl) ?_
    refine lv_iload_n hx hb dX4_isInsolvent_9 rfl (lv_at hl 1 rfl) ?_
    refine m_calli (As := [.int (iI (P))]) (rest := []) hZ hX hK hD hA hE hP hS (c_lacks hZ (uA σ 8 0 (bI (¬ mIs (σ 0) P))) _ P.toNat _ (by omega)) (cwV 1 hX.hts (lw_V q2085 q2087 qs53 q89 q2088) rfl rfl rfl (by decide +kernel) ⟨Nat.le_of_ble_eq_true rfl, Nat.le_of_ble_eq_true rfl⟩) rfl hl.1 (lv_room (Nat.le_of_ble_eq_true rfl)) dX4_isInsolvent_10 ⟨Nat.le_refl _, Nat.le_refl _⟩ rfl (fun  H locs hP hS => ?_)
    refine z_top (y := mLk (σ 0) P.toNat) (by rw [uA_sA, sA_i (by decide)]) ?_
    refine W.eq (g2 := F0 m 13 ls [.int (iI (mLk (σ 0) P.toNat))]) rfl ?_
    refine z_if_le (tgt := 20) hX (by omega) dX4_isInsolvent_13 (by decide) (fun c_13 => ?_) (fun c_13 => ?_)
    · skip
      refine z_iconst hX dX4_isInsolvent_20 ?_
      exact w_zret hX hP hS (by decide) (by first | exact qcR_n c_5 | exact ⟨0, rfl, rfl, Or.inr ⟨bI_f (fun h => h c_5), (bI_f (by omega)).symm⟩⟩) dX4_isInsolvent_21
    · skip
      refine z_iconst hX dX4_isInsolvent_16 ?_
      refine lv_goto (tgt := 21) hx hb dX4_isInsolvent_17 (by decide) ?_
      exact w_zret hX hP hS (by decide) (⟨1, rfl, rfl, Or.inr ⟨bI_f (fun h => h c_5), (bI_t c_13).symm⟩⟩) dX4_isInsolvent_21
set_option maxHeartbeats 4000000 in
theorem c_isAhead {l : Launch} {D : va_G} {Z : zZ} {o : Nat} {ad : Nat → Nat} {cA : Nat → ClassId} (hZ : zOk Z) (σ : zT) (sz : Nat) (d1 d2 : Nat) (E1 E2 : Int) (h1 : E1 = d1 ∧ d1 < 7) (h2 : E2 = d2 ∧ d2 < 7) (B : Int) (hgo : gOk (σ 0) B) (hB : B ≤ 2000000) : MI l D Z o ad cA yX4_isAhead (ws_ yX4_isAhead cX4_isAhead 3 (some .boolean)) { frames := 3, cells := 0, slots := 0, locals := 66 } [.ref o, .int (iI (E1)), .int (iI (E2))] sz (σ) (fI (bI (mAhd (σ 0) d1 d2)) (σ)) := by
  obtain ⟨rfl, h1⟩ := h1
  obtain ⟨rfl, h2⟩ := h2
  refine w_met (cc := cX4_isAhead) (maxL := 3) (ret := some .boolean) (own := RX4) (by decide) rfl rfl mW_ok (Nat.le_of_ble_eq_true rfl) ?_
  intro p e s m below meth c hX hsz hK hP hD hA hE hS hR ls hl
  have hx := hX.1
  have hb := hX.2.1
  have hl : lv_has ls 3 [(0, .ref o), (1, .int (iI (↑d1))), (2, .int (iI (↑d2)))] := hl
  have n1 := mNet_bd hgo h1
  have n2 := mNet_bd hgo h2
  have k1 := hgo.2.1 d1 h1
  have k2 := hgo.2.1 d2 h2
  refine lv_aload_n hx hb dX4_isAhead_0 rfl (lv_at hl 0 rfl) ?_
  refine lv_iload_n hx hb dX4_isAhead_1 rfl (lv_at hl 1 rfl) ?_
  refine m_calli (As := [.int (iI (↑d1))]) (rest := []) hZ hX hK hD hA hE hP hS (c_net hZ (σ) _ d1 _ ⟨rfl, by omega⟩) (cwV 1 hX.hts (lw_V q2161 q2163 qs61 q89 q2164) rfl rfl rfl (by decide +kernel) ⟨Nat.le_of_ble_eq_true rfl, Nat.le_of_ble_eq_true rfl⟩) rfl hl.1 (lv_room (Nat.le_of_ble_eq_true rfl)) dX4_isAhead_2 ⟨Nat.le_refl _, Nat.le_refl _⟩ rfl (fun  H locs hP hS => ?_)
  refine lv_aload_n hx hb dX4_isAhead_5 rfl (lv_at hl 0 rfl) ?_
  refine lv_iload_n hx hb dX4_isAhead_6 rfl (lv_at hl 2 rfl) ?_
  refine m_calli (As := [.int (iI (↑d2))]) (rest := [.int (iI (mNet (σ 0) d1))]) hZ hX hK hD hA hE hP hS (c_net hZ (σ) _ d2 _ ⟨rfl, by omega⟩) (cwV 1 hX.hts (lw_V q2161 q2163 qs61 q89 q2164) rfl rfl rfl (by decide +kernel) ⟨Nat.le_of_ble_eq_true rfl, Nat.le_of_ble_eq_true rfl⟩) rfl hl.1 (lv_room (Nat.le_of_ble_eq_true rfl)) dX4_isAhead_7 ⟨Nat.le_refl _, Nat.le_refl _⟩ rfl (fun  H locs hP hS => ?_)
  refine z_icmp_eq (tgt := 32) hX (by omega) dX4_isAhead_10 (by decide) (fun c_10 => ?_) (fun c_10 => ?_)
  · skip
    refine lv_aload_n hx hb dX4_isAhead_32 rfl (lv_at hl 0 rfl) ?_
    refine m_get hX hK hP 0 (by decide) q1908 rfl dX4_isAhead_33 ?_
    refine W.eq (g2 := F0 m 36 ls [.ref (ad 0)]) rfl ?_
    refine z_iconst hX dX4_isAhead_36 ?_
    refine lv_iload_n hx hb dX4_isAhead_37 rfl (lv_at hl 1 rfl) ?_
    refine z_iadd hX dX4_isAhead_38 ?_
    refine m_ld hX hK hP mW_e0 (5 + d1) (by omega) (by decide) dX4_isAhead_39 ?_
    refine lv_aload_n hx hb dX4_isAhead_40 rfl (lv_at hl 0 rfl) ?_
    refine m_get hX hK hP 0 (by decide) q1908 rfl dX4_isAhead_41 ?_
    refine z_iconst hX dX4_isAhead_44 ?_
    refine lv_iload_n hx hb dX4_isAhead_45 rfl (lv_at hl 2 rfl) ?_
    refine z_iadd hX dX4_isAhead_46 ?_
    refine m_ld hX hK hP mW_e0 (5 + d2) (by omega) (by decide) dX4_isAhead_47 ?_
    refine W.eq (g2 := F0 m 48 ls [.int (iI (σ 0 (5 + d2))), .int (iI (σ 0 (5 + d1)))]) rfl ?_
    refine z_icmp_eq (tgt := 78) hX (by omega) dX4_isAhead_48 (by decide) (fun c_48 => ?_) (fun c_48 => ?_)
    · skip
      refine lv_iload_n hx hb dX4_isAhead_78 rfl (lv_at hl 1 rfl) ?_
      refine lv_iload_n hx hb dX4_isAhead_79 rfl (lv_at hl 2 rfl) ?_
      refine z_icmp_ge (tgt := 87) hX (by omega) dX4_isAhead_80 (by decide) (fun c_80 => ?_) (fun c_80 => ?_)
      · skip
        refine z_iconst hX dX4_isAhead_87 ?_
        exact w_zret hX hP hS (by decide) (by first | exact ⟨by rw [bI_t (by omega)], rfl⟩ | exact ⟨by rw [bI_f (by omega)], rfl⟩) dX4_isAhead_88
      · skip
        refine z_iconst hX dX4_isAhead_83 ?_
        refine lv_goto (tgt := 88) hx hb dX4_isAhead_84 (by decide) ?_
        exact w_zret hX hP hS (by decide) (by first | exact ⟨by rw [bI_t (by omega)], rfl⟩ | exact ⟨by rw [bI_f (by omega)], rfl⟩) dX4_isAhead_88
    · skip
      refine lv_aload_n hx hb dX4_isAhead_51 rfl (lv_at hl 0 rfl) ?_
      refine W.eq (g2 := F0 m 52 ls [.ref o]) rfl ?_
      refine m_get hX hK hP 0 (by decide) q1908 rfl dX4_isAhead_52 ?_
      refine z_iconst hX dX4_isAhead_55 ?_
      refine lv_iload_n hx hb dX4_isAhead_56 rfl (lv_at hl 1 rfl) ?_
      refine z_iadd hX dX4_isAhead_57 ?_
      refine m_ld hX hK hP mW_e0 (5 + d1) (by omega) (by decide) dX4_isAhead_58 ?_
      refine lv_aload_n hx hb dX4_isAhead_59 rfl (lv_at hl 0 rfl) ?_
      refine m_get hX hK hP 0 (by decide) q1908 rfl dX4_isAhead_60 ?_
      refine z_iconst hX dX4_isAhead_63 ?_
      refine lv_iload_n hx hb dX4_isAhead_64 rfl (lv_at hl 2 rfl) ?_
      refine z_iadd hX dX4_isAhead_65 ?_
      refine W.eq (g2 := F0 m 66 ls [.int (iI (5 + (↑d2))), .ref (ad 0), .int (iI (σ 0 (5 + d1)))]) rfl ?_
      refine m_ld hX hK hP mW_e0 (5 + d2) (by omega) (by decide) dX4_isAhead_66 ?_
      refine z_icmp_ge (tgt := 74) hX (by omega) dX4_isAhead_67 (by decide) (fun c_67 => ?_) (fun c_67 => ?_)
      · skip
        refine z_iconst hX dX4_isAhead_74 ?_
        refine lv_goto (tgt := 88) hx hb dX4_isAhead_75 (by decide) ?_
        exact w_zret hX hP hS (by decide) (by first | exact ⟨by rw [bI_t (by omega)], rfl⟩ | exact ⟨by rw [bI_f (by omega)], rfl⟩) dX4_isAhead_88
      · skip
        refine z_iconst hX dX4_isAhead_70 ?_
        refine lv_goto (tgt := 88) hx hb dX4_isAhead_71 (by decide) ?_
        exact w_zret hX hP hS (by decide) (by first | exact ⟨by rw [bI_t (by omega)], rfl⟩ | exact ⟨by rw [bI_f (by omega)], rfl⟩) dX4_isAhead_88
  · skip
    refine lv_aload_n hx hb dX4_isAhead_13 rfl (lv_at hl 0 rfl) ?_
    refine lv_iload_n hx hb dX4_isAhead_14 rfl (lv_at hl 1 rfl) ?_
    refine W.eq (g2 := F0 m 15 ls [.int (iI (↑d1)), .ref o]) rfl ?_
    refine m_calli (As := [.int (iI (↑d1))]) (rest := []) hZ hX hK hD hA hE hP hS (c_net hZ (σ) _ d1 _ ⟨rfl, by omega⟩) (cwV 1 hX.hts (lw_V q2161 q2163 qs61 q89 q2164) rfl rfl rfl (by decide +kernel) ⟨Nat.le_of_ble_eq_true rfl, Nat.le_of_ble_eq_true rfl⟩) rfl hl.1 (lv_room (Nat.le_of_ble_eq_true rfl)) dX4_isAhead_15 ⟨Nat.le_refl _, Nat.le_refl _⟩ rfl (fun  H locs hP hS => ?_)
    refine lv_aload_n hx hb dX4_isAhead_18 rfl (lv_at hl 0 rfl) ?_
    refine lv_iload_n hx hb dX4_isAhead_19 rfl (lv_at hl 2 rfl) ?_
    refine m_calli (As := [.int (iI (↑d2))]) (rest := [.int (iI (mNet (σ 0) d1))]) hZ hX hK hD hA hE hP hS (c_net hZ (σ) _ d2 _ ⟨rfl, by omega⟩) (cwV 1 hX.hts (lw_V q2161 q2163 qs61 q89 q2164) rfl rfl rfl (by decide +kernel) ⟨Nat.le_of_ble_eq_true rfl, Nat.le_of_ble_eq_true rfl⟩) rfl hl.1 (lv_room (Nat.le_of_ble_eq_true rfl)) dX4_isAhead_20 ⟨Nat.le_refl _, Nat.le_refl _⟩ rfl (fun  H locs hP hS => ?_)
    refine z_icmp_ge (tgt := 30) hX (by omega) dX4_isAhead_23 (by decide) (fun c_23 => ?_) (fun c_23 => ?_)
    · skip
      refine z_iconst hX dX4_isAhead_30 ?_
      exact w_zret hX hP hS (by decide) (by first | exact ⟨by rw [bI_t (by omega)], rfl⟩ | exact ⟨by rw [bI_f (by omega)], rfl⟩) dX4_isAhead_31
    · skip
      refine z_iconst hX dX4_isAhead_26 ?_
      refine lv_goto (tgt := 31) hx hb dX4_isAhead_27 (by decide) ?_
      exact w_zret hX hP hS (by decide) (by first | exact ⟨by rw [bI_t (by omega)], rfl⟩ | exact ⟨by rw [bI_f (by omega)], rfl⟩) dX4_isAhead_31
set_option maxHeartbeats 4000000 in
theorem c_partyAtRank {l : Launch} {D : va_G} {Z : zZ} {o : Nat} {ad : Nat → Nat} {cA : Nat → ClassId} (hZ : zOk Z) (σ : zT) (sz : Nat) (P : Int) (hP0 : (-2147483648 ≤ P ∧ P ≤ 2147483647)) (n0 : Nat) (hn : σ 0 0 = n0 ∧ n0 ≤ 7) (B : Int) (hgo : gOk (σ 0) B) (hB : B ≤ 2000000) : MI l D Z o ad cA yX4_partyAtRank (ws_ yX4_partyAtRank cX4_partyAtRank 5 (some .int)) { frames := 4, cells := 0, slots := 0, locals := 88 } [.ref o, .int (iI (P))] sz (σ) (fR ((parR σ n0 P))) := by
  refine w_met (cc := cX4_partyAtRank) (maxL := 5) (ret := some .int) (own := RX4) (by decide) rfl rfl mW_ok (Nat.le_of_ble_eq_true rfl) ?_
  intro p e s m below meth c hX hsz hK hP hD hA hE hS hR ls hl
  have hx := hX.1
  have hb := hX.2.1
  have hl : lv_has ls 5 [(0, .ref o), (1, .int (iI (P)))] := hl
  refine z_iconst hX dX4_partyAtRank_0 ?_
  refine z_top (y := ↑(0 : Nat)) (rfl) ?_
  refine lv_istore_n (lv' := [(2, .int (iI (↑(0 : Nat)))), (0, .ref o), (1, .int (iI (P)))]) hx hb dX4_partyAtRank_1 rfl hl (by decide) rfl (fun ls hl => ?_)
  have L2 : ∀ (n : Nat) (k : Nat), (n0 < k + n) → (k ≤ n0) → (parF (σ 0) n0 P = tryF (paB (σ 0) n0 P) k (n0 - k)) → ∀ (H : Heap) (locs : List Loc) (ls : Array Slot), va_P D vwCl (mW o ad cA (σ)) H → va_S (wA (mW o ad cA) sz) s.heap H locs → lv_has ls 5 [(0, .ref o), (1, .int (iI (P))), (2, .int (iI (↑k)))] → W p l e (headSpec (ws_ yX4_partyAtRank cX4_partyAtRank 5 (some .int)) { frames := 4, cells := 0, slots := 0, locals := 88 }).room s m ([.ref o, .int (iI (P))] : List Value).toArray below meth c H locs 0 0 (MQ below (wQi D vwCl (mW o ad cA) (fR ((parR σ n0 P))) sz) ([.ref o, .int (iI (P))] : List Value).toArray s 0 0 (wA (mW o ad cA) sz)) (F0 m 2 ls []) := by
    intro n
    induction n with
    | zero =>
      intro k hf hk hF H locs ls hP hS hl
      exact absurd hf (by omega)
    | succ n ih2 =>
      intro k hf hk hF H locs ls hP hS hl
      refine lv_iload_n hx hb dX4_partyAtRank_2 rfl (lv_at hl 2 rfl) ?_
      refine lv_aload_n hx hb dX4_partyAtRank_3 rfl (lv_at hl 0 rfl) ?_
      refine m_get hX hK hP 0 (by decide) q1908 rfl dX4_partyAtRank_4 ?_
      refine z_iconst hX dX4_partyAtRank_7 ?_
      refine m_ld hX hK hP mW_e0 0 (by decide) (by decide) dX4_partyAtRank_8 ?_
      refine z_icmp_ge (tgt := 79) hX (by omega) dX4_partyAtRank_9 (by decide) (fun c_9 => ?_) (fun c_9 => ?_)
      · skip
        refine lv_aload_n hx hb dX4_partyAtRank_79 rfl (lv_at hl 0 rfl) ?_
        refine W.eq (g2 := F0 m 80 ls [.ref o]) rfl ?_
        refine z_iconst hX dX4_partyAtRank_80 ?_
        refine m_put hX hK hD hP hS 8 (by decide) q1916 rfl rfl rfl mW_f8 dX4_partyAtRank_81 (fun H locs hP hS => ?_)
        refine z_iconst hX dX4_partyAtRank_84 ?_
        exact w_iret hX hP hS (⟨_, rfl, Or.inr ⟨by rw [hF, show n0 - k = 0 from by omega]; rfl, rfl, rfl⟩⟩) dX4_partyAtRank_85
      · skip
        refine z_iconst hX dX4_partyAtRank_12 ?_
        refine z_top (y := sg (rkB (σ 0) k) 0) (rfl) ?_
        refine lv_istore_n (lv' := [(3, .int (iI (sg (rkB (σ 0) k) 0))), (0, .ref o), (1, .int (iI (P))), (2, .int (iI (↑k)))]) hx hb dX4_partyAtRank_13 rfl hl (by decide) rfl (fun ls hl => ?_)
        refine z_iconst hX dX4_partyAtRank_14 ?_
        refine z_top (y := ↑(0 : Nat)) (rfl) ?_
        refine lv_istore (lv' := [(4, .int (iI (↑(0 : Nat)))), (3, .int (iI (sg (rkB (σ 0) k) 0))), (0, .ref o), (1, .int (iI (P))), (2, .int (iI (↑k)))]) hx hb dX4_partyAtRank_15 hl (by decide) rfl (fun ls hl => ?_)
        have L17 : ∀ (n : Nat) (i : Nat), (n0 < i + n) → (i ≤ n0) → ∀ (H : Heap) (locs : List Loc) (ls : Array Slot), va_P D vwCl (mW o ad cA (σ)) H → va_S (wA (mW o ad cA) sz) s.heap H locs → lv_has ls 5 [(0, .ref o), (1, .int (iI (P))), (2, .int (iI (↑k))), (3, .int (iI (sg (rkB (σ 0) k) i))), (4, .int (iI (↑i)))] → W p l e (headSpec (ws_ yX4_partyAtRank cX4_partyAtRank 5 (some .int)) { frames := 4, cells := 0, slots := 0, locals := 88 }).room s m ([.ref o, .int (iI (P))] : List Value).toArray below meth c H locs 0 0 (MQ below (wQi D vwCl (mW o ad cA) (fR ((parR σ n0 P))) sz) ([.ref o, .int (iI (P))] : List Value).toArray s 0 0 (wA (mW o ad cA) sz)) (F0 m 17 ls []) := by
          intro n
          induction n with
          | zero =>
            intro i hf hi H locs ls hP hS hl
            exact absurd hf (by omega)
          | succ n ih17 =>
            intro i hf hi H locs ls hP hS hl
            refine lv_iload hx hb dX4_partyAtRank_17 (lv_at hl 4 rfl) ?_
            refine lv_aload_n hx hb dX4_partyAtRank_19 rfl (lv_at hl 0 rfl) ?_
            refine W.eq (g2 := F0 m 20 ls [.ref o, .int (iI (↑i))]) rfl ?_
            refine m_get hX hK hP 0 (by decide) q1908 rfl dX4_partyAtRank_20 ?_
            refine z_iconst hX dX4_partyAtRank_23 ?_
            refine m_ld hX hK hP mW_e0 0 (by decide) (by decide) dX4_partyAtRank_24 ?_
            refine z_icmp_ge (tgt := 58) hX (by omega) dX4_partyAtRank_25 (by decide) (fun c_25 => ?_) (fun c_25 => ?_)
            · skip
              obtain rfl : n0 = i := by omega
              have hrk := rkF_bd (g := σ 0) (n := n0) (k := k) (i := n0) (by omega)
              refine lv_iload_n hx hb dX4_partyAtRank_58 rfl (lv_at hl 3 rfl) ?_
              refine lv_iload_n hx hb dX4_partyAtRank_59 rfl (lv_at hl 1 rfl) ?_
              refine z_icmp_eq (tgt := 66) hX (by omega) dX4_partyAtRank_60 (by decide) (fun c_60 => ?_) (fun c_60 => ?_)
              · skip
                refine lv_aload_n hx hb dX4_partyAtRank_66 rfl (lv_at hl 0 rfl) ?_
                refine z_iconst hX dX4_partyAtRank_67 ?_
                refine m_put hX hK hD hP hS 8 (by decide) q1916 rfl rfl rfl mW_f8 dX4_partyAtRank_68 (fun H locs hP hS => ?_)
                refine W.eq (g2 := F0 m 71 ls []) rfl ?_
                refine lv_iload_n hx hb dX4_partyAtRank_71 rfl (lv_at hl 2 rfl) ?_
                exact w_iret hX hP hS (⟨_, rfl, Or.inl ⟨k, by rw [hF, show n0 - k = (n0 - (k + 1)) + 1 from by omega, tryF_some (if_pos c_60)], rfl, rfl⟩⟩) dX4_partyAtRank_72
              · skip
                refine lv_goto (tgt := 73) hx hb dX4_partyAtRank_63 (by decide) ?_
                refine z_iinc (y := ↑(k + 1)) (lv' := [(2, .int (iI (↑(k + 1)))), (0, .ref o), (1, .int (iI (P))), (3, .int (iI (sg (rkB (σ 0) k) n0))), (4, .int (iI (↑n0)))]) hX dX4_partyAtRank_73 hl (k := 2) rfl (by omega) (by decide) rfl (fun ls hl => ?_)
                refine lv_goto (tgt := 2) hx hb dX4_partyAtRank_76 (by decide) ?_
                exact ih2 (k + 1) (by omega) (by omega) (by rw [hF, show n0 - k = (n0 - (k + 1)) + 1 from by omega, tryF_none (if_neg c_60)]) _ _ _ hP hS (lv_sub hl [1, 2, 0] rfl)
            · skip
              refine lv_iload_n hx hb dX4_partyAtRank_28 rfl (lv_at hl 3 rfl) ?_
              refine lv_iload hx hb dX4_partyAtRank_29 (lv_at hl 4 rfl) ?_
              refine lv_iload_n hx hb dX4_partyAtRank_31 rfl (lv_at hl 2 rfl) ?_
              refine z_icmp_eq (tgt := 49) hX (by omega) dX4_partyAtRank_32 (by decide) (fun c_32 => ?_) (fun c_32 => ?_)
              · skip
                refine z_iconst hX dX4_partyAtRank_49 ?_
                refine W.eq (g2 := F0 m 50 ls [.int (iI (0)), .int (iI (sg (rkB (σ 0) k) i))]) rfl ?_
                refine z_iadd hX dX4_partyAtRank_50 ?_
                refine z_top (y := sg (rkB (σ 0) k) (i + 1)) (by show _ = _ + rkB (σ 0) k i; unfold rkB; rw [bI_f (fun h => by first | exact c_42 h.2 | (have := h.1; omega))]) ?_
                refine lv_istore_n (lv' := [(3, .int (iI (sg (rkB (σ 0) k) (i + 1)))), (0, .ref o), (1, .int (iI (P))), (2, .int (iI (↑k))), (4, .int (iI (↑i)))]) hx hb dX4_partyAtRank_51 rfl hl (by decide) rfl (fun ls hl => ?_)
                refine z_iinc (y := ↑(i + 1)) (lv' := [(4, .int (iI (↑(i + 1)))), (3, .int (iI (sg (rkB (σ 0) k) (i + 1)))), (0, .ref o), (1, .int (iI (P))), (2, .int (iI (↑k)))]) hX dX4_partyAtRank_52 hl (k := 4) rfl (by omega) (by decide) rfl (fun ls hl => ?_)
                refine lv_goto (tgt := 17) hx hb dX4_partyAtRank_55 (by decide) ?_
                exact ih17 (i + 1) (by omega) (by omega) _ _ _ hP hS (lv_sub hl [2, 3, 4, 1, 0] rfl)
              · skip
                refine lv_aload_n hx hb dX4_partyAtRank_35 rfl (lv_at hl 0 rfl) ?_
                refine lv_iload hx hb dX4_partyAtRank_36 (lv_at hl 4 rfl) ?_
                refine lv_iload_n hx hb dX4_partyAtRank_38 rfl (lv_at hl 2 rfl) ?_
                refine m_calli (As := [.int (iI (↑i)), .int (iI (↑k))]) (rest := [.int (iI (sg (rkB (σ 0) k) i))]) hZ hX hK hD hA hE hP hS (c_isAhead hZ (σ) _ i k _ _ ⟨rfl, by omega⟩ ⟨rfl, by omega⟩ B hgo hB) (cwV 2 hX.hts (lw_V q2173 q2175 qs62 q89 q2176) rfl rfl rfl (by decide +kernel) ⟨Nat.le_of_ble_eq_true rfl, Nat.le_of_ble_eq_true rfl⟩) rfl hl.1 (lv_room (Nat.le_of_ble_eq_true rfl)) dX4_partyAtRank_39 ⟨Nat.le_refl _, Nat.le_refl _⟩ rfl (fun  H locs hP hS => ?_)
                refine z_if_eqB (tgt := 49) hX dX4_partyAtRank_42 (by decide) (fun c_42 => ?_) (fun c_42 => ?_)
                · skip
                  refine z_iconst hX dX4_partyAtRank_49 ?_
                  refine W.eq (g2 := F0 m 50 ls [.int (iI (0)), .int (iI (sg (rkB (σ 0) k) i))]) rfl ?_
                  refine z_iadd hX dX4_partyAtRank_50 ?_
                  refine z_top (y := sg (rkB (σ 0) k) (i + 1)) (by show _ = _ + rkB (σ 0) k i; unfold rkB; rw [bI_f (fun h => by first | exact c_42 h.2 | (have := h.1; omega))]) ?_
                  refine lv_istore_n (lv' := [(3, .int (iI (sg (rkB (σ 0) k) (i + 1)))), (0, .ref o), (1, .int (iI (P))), (2, .int (iI (↑k))), (4, .int (iI (↑i)))]) hx hb dX4_partyAtRank_51 rfl hl (by decide) rfl (fun ls hl => ?_)
                  refine z_iinc (y := ↑(i + 1)) (lv' := [(4, .int (iI (↑(i + 1)))), (3, .int (iI (sg (rkB (σ 0) k) (i + 1)))), (0, .ref o), (1, .int (iI (P))), (2, .int (iI (↑k)))]) hX dX4_partyAtRank_52 hl (k := 4) rfl (by omega) (by decide) rfl (fun ls hl => ?_)
                  refine lv_goto (tgt := 17) hx hb dX4_partyAtRank_55 (by decide) ?_
                  exact ih17 (i + 1) (by omega) (by omega) _ _ _ hP hS (lv_sub hl [2, 3, 4, 1, 0] rfl)
                · skip
                  refine z_iconst hX dX4_partyAtRank_45 ?_
                  refine lv_goto (tgt := 50) hx hb dX4_partyAtRank_46 (by decide) ?_
                  refine z_iadd hX dX4_partyAtRank_50 ?_
                  refine z_top (y := sg (rkB (σ 0) k) (i + 1)) (by show _ = _ + rkB (σ 0) k i; unfold rkB; rw [bI_t ⟨by omega, c_42⟩]) ?_
                  refine lv_istore_n (lv' := [(3, .int (iI (sg (rkB (σ 0) k) (i + 1)))), (0, .ref o), (1, .int (iI (P))), (2, .int (iI (↑k))), (4, .int (iI (↑i)))]) hx hb dX4_partyAtRank_51 rfl hl (by decide) rfl (fun ls hl => ?_)
                  refine z_iinc (y := ↑(i + 1)) (lv' := [(4, .int (iI (↑(i + 1)))), (3, .int (iI (sg (rkB (σ 0) k) (i + 1)))), (0, .ref o), (1, .int (iI (P))), (2, .int (iI (↑k)))]) hX dX4_partyAtRank_52 hl (k := 4) rfl (by omega) (by decide) rfl (fun ls hl => ?_)
                  refine lv_goto (tgt := 17) hx hb dX4_partyAtRank_55 (by decide) ?_
                  exact ih17 (i + 1) (by omega) (by omega) _ _ _ hP hS (lv_sub hl [2, 3, 4, 1, 0] rfl)
        exact L17 (n0 + 1) (0) (by omega) (by omega) _ _ _ hP hS (lv_sub hl [2, 3, 4, 1, 0] rfl)
  exact L2 (n0 + 1) (0) (by omega) (by omega) (rfl) _ _ _ hP hS (lv_sub hl [1, 2, 0] rfl)
