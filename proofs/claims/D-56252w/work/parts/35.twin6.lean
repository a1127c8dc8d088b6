/-! the twin: netting all, questions about cycles -/
set_option maxRecDepth 100000
set_option maxHeartbeats 4000000 in
theorem c_netAll {l : Launch} {D : va_G} {Z : zZ} {o : Nat} {ad : Nat → Nat} {cA : Nat → ClassId} (hZ : zOk Z) (σ : zT) (sz : Nat) (n0 : Nat) (hn : σ 0 0 = n0 ∧ n0 ≤ 7) (B : Int) (hgo : gOk (σ 0) B) (n6 : Nat) (h6 : σ 6 0 = n6 ∧ n6 ≤ 8) (h7 : σ 7 0 = 0 ∨ σ 7 0 = 1) (F : Nat) (hFm : gMu (σ 0) < F) : MI l D Z o ad cA yX4_netAll (ws_ yX4_netAll cX4_netAll 3 (some .int)) { frames := 9, cells := 0, slots := 0, locals := 226 } [.ref o] sz (σ) (fR ((naR σ n0 n6 F))) := by
  refine w_met (cc := cX4_netAll) (maxL := 3) (ret := some .int) (own := RX4) (by decide) rfl rfl mW_ok (Nat.le_of_ble_eq_true rfl) ?_
  intro p e s m below meth c hX hsz hK hP hD hA hE hS hR ls hl
  have hx := hX.1
  have hb := hX.2.1
  have hl : lv_has ls 3 [(0, .ref o)] := hl
  refine lv_aload_n hx hb dX4_netAll_0 rfl (lv_at hl 0 rfl) ?_
  refine lv_aload_n hx hb dX4_netAll_1 rfl (lv_at hl 0 rfl) ?_
  refine m_get hX hK hP 0 (by decide) q1908 rfl dX4_netAll_2 ?_
  refine m_callv (As := [.ref (ad 0)]) (rest := []) hZ hX hK hD hA hE hP hS (c_keeps hZ (σ) _ _ 0 _ (fun _ => mW_e0) (by decide) (by decide) (by decide) n6 (by simpa [uA, sA] using h6) (by simpa [uA, sA] using h7)) (cwV 1 hX.hts (lw_V q1991 q1993 qs43 q89 q1994) rfl rfl rfl (by decide +kernel) ⟨Nat.le_of_ble_eq_true rfl, Nat.le_of_ble_eq_true rfl⟩) rfl hl.1 (lv_room (Nat.le_of_ble_eq_true rfl)) dX4_netAll_5 ⟨Nat.le_refl _, Nat.le_refl _⟩ rfl (fun  H locs hP hS => ?_)
  refine z_iconst hX dX4_netAll_8 ?_
  refine z_top (y := ↑(0 : Nat)) (rfl) ?_
  refine lv_istore_n (lv' := [(1, .int (iI (↑(0 : Nat)))), (0, .ref o)]) hx hb dX4_netAll_9 rfl hl (by decide) rfl (fun ls hl => ?_)
  refine lv_aload_n hx hb dX4_netAll_10 rfl (lv_at hl 1 rfl) ?_
  refine m_callR (As := []) (rest := []) hZ hX hK hD hA hE hP hS (c_looks hZ (kF 0 σ n6) _ n0 (by rw [kF_i (by decide) (by decide) (by decide)]; exact hn) B (by rw [kF_i (by decide) (by decide) (by decide)]; exact hgo)) (cwV 0 hX.hts (lw_V q2041 q2043 qs49 q89 q2044) rfl rfl rfl (by decide +kernel) ⟨Nat.le_of_ble_eq_true rfl, Nat.le_of_ble_eq_true rfl⟩) rfl hl.1 (lv_room (Nat.le_of_ble_eq_true rfl)) dX4_netAll_11 ⟨Nat.le_refl _, Nat.le_refl _⟩ rfl (fun z y H locs hq hP hS => ?_)
  obtain ⟨c1, hy2, hlc1⟩ := hq
  rw [hy2] at hP
  rw [kF_i (by decide) (by decide) (by decide)] at hlc1
  have hzc1 := lR_z (by omega) hlc1
  refine lv_istore_n (lv' := [(2, .int (iI (z))), (1, .int (iI (↑(0 : Nat)))), (0, .ref o)]) hx hb dX4_netAll_14 rfl hl (by decide) rfl (fun ls hl => ?_)
  have L15 : ∀ (n : Nat) (k f : Nat) (G c1 : Nat → Int) (z1 : Int), (f < n) → (gOk G B ∧ G 0 = n0 ∧ gMu G < f) → (naF n0 F (σ 0) = ((naF n0 f G).1, (naF n0 f G).2 + k)) → (lR G n0 c1 z1) → ∀ (H : Heap) (locs : List Loc) (ls : Array Slot), va_P D vwCl (mW o ad cA (sA (sA (kF 0 σ n6) 15 c1) 0 G)) H → va_S (wA (mW o ad cA) sz) s.heap H locs → lv_has ls 3 [(0, .ref o), (1, .int (iI (↑k))), (2, .int (iI (z1)))] → W p l e (headSpec (ws_ yX4_netAll cX4_netAll 3 (some .int)) { frames := 9, cells := 0, slots := 0, locals := 226 }).room s m ([.ref o] : List Value).toArray below meth c H locs 0 0 (MQ below (wQi D vwCl (mW o ad cA) (fR ((naR σ n0 n6 F))) sz) ([.ref o] : List Value).toArray s 0 0 (wA (mW o ad cA) sz)) (F0 m 15 ls []) := by
    intro n
    induction n with
    | zero =>
      intro k f G c1 z1 hf hG hN hl1 H locs ls hP hS hl
      exact absurd hf (by omega)
    | succ n ih15 =>
      intro k f G c1 z1 hf hG hN hl1 H locs ls hP hS hl
      obtain ⟨f', rfl⟩ : ∃ f', f = f' + 1 := ⟨f - 1, by have := gMu_nn hG.1; omega⟩
      have hz1 := lR_z (by omega) hl1
      refine W.eq (g2 := F0 m 15 ls []) rfl ?_
      refine lv_iload_n hx hb dX4_netAll_15 rfl (lv_at hl 2 rfl) ?_
      refine z_if_le (tgt := 36) hX (by omega) dX4_netAll_16 (by decide) (fun c_16 => ?_) (fun c_16 => ?_)
      · skip
        have hno := lR_none hl1 (by omega)
        refine lv_iload_n hx hb dX4_netAll_36 rfl (lv_at hl 1 rfl) ?_
        exact w_iret hX hP hS (⟨_, rfl, c1, by rw [hN, naF_none hno], by rw [hN, naF_none hno]; simp⟩) dX4_netAll_37
      · skip
        obtain ⟨q, hlq, hlz, hla⟩ := lR_some hl1 (by omega)
        refine lv_aload_n hx hb dX4_netAll_19 rfl (lv_at hl 0 rfl) ?_
        refine lv_iload_n hx hb dX4_netAll_20 rfl (lv_at hl 2 rfl) ?_
        refine m_calli (As := [.int (iI (z1))]) (rest := []) hZ hX hK hD hA hE hP hS (c_nets hZ (sA (sA (kF 0 σ n6) 15 c1) 0 G) _ n0 ⟨by rw [sA_j]; exact hG.2.1, hn.2⟩ B (by rw [sA_j]; exact hG.1) q (by rw [sA_j]; exact lookF_ok hlq) (by rw [sA_i (by decide), sA_j]; exact hla) _ hlz) (cwV 1 hX.hts (lw_V q2049 q2051 qs51 q89 q2052) rfl rfl rfl (by decide +kernel) ⟨Nat.le_of_ble_eq_true rfl, Nat.le_of_ble_eq_true rfl⟩) rfl hl.1 (lv_room (Nat.le_of_ble_eq_true rfl)) dX4_netAll_21 ⟨Nat.le_refl _, Nat.le_refl _⟩ rfl (fun  H locs hP hS => ?_)
        rw [show sA (sA (sA (kF 0 σ n6) 15 c1) 0 G) 0 (sNets ((sA (sA (kF 0 σ n6) 15 c1) 0 G) 0) q) = sA (sA (kF 0 σ n6) 15 c1) 0 (sNets G q) from by rw [sA_sA, sA_j]] at hP
        refine lv_pop hx hb dX4_netAll_24 rfl ?_
        refine z_iinc (y := ↑(k + 1)) (lv' := [(1, .int (iI (↑(k + 1)))), (0, .ref o), (2, .int (iI (z1)))]) hX dX4_netAll_25 hl (k := 1) rfl (by omega) (by decide) rfl (fun ls hl => ?_)
        refine lv_aload_n hx hb dX4_netAll_28 rfl (lv_at hl 1 rfl) ?_
        refine W.eq (g2 := F0 m 29 ls [.ref o]) rfl ?_
        refine m_callR (As := []) (rest := []) hZ hX hK hD hA hE hP hS (c_looks hZ (sA (sA (kF 0 σ n6) 15 c1) 0 (sNets G q)) _ n0 ⟨by rw [sA_j, sNets_lo (lookF_ok hlq) (by omega) (by omega) (by omega)]; exact hG.2.1, hn.2⟩ B (by rw [sA_j]; exact sNets_ok (lookF_ok hlq) (by omega) hG.1)) (cwV 0 hX.hts (lw_V q2041 q2043 qs49 q89 q2044) rfl rfl rfl (by decide +kernel) ⟨Nat.le_of_ble_eq_true rfl, Nat.le_of_ble_eq_true rfl⟩) rfl hl.1 (lv_room (Nat.le_of_ble_eq_true rfl)) dX4_netAll_29 ⟨Nat.le_refl _, Nat.le_refl _⟩ rfl (fun z2 y H locs hq hP hS => ?_)
        obtain ⟨c2, hy2, hlc2⟩ := hq
        rw [hy2, sA_comm (by decide), sA_sA] at hP
        rw [sA_j] at hlc2
        refine lv_istore_n (lv' := [(2, .int (iI (z2))), (1, .int (iI (↑(k + 1)))), (0, .ref o)]) hx hb dX4_netAll_32 rfl hl (by decide) rfl (fun ls hl => ?_)
        refine lv_goto (tgt := 15) hx hb dX4_netAll_33 (by decide) ?_
        exact ih15 (k + 1) (f') (sNets G q) (c2) (z2) (by omega) (⟨sNets_ok (lookF_ok hlq) (by omega) hG.1, by rw [sNets_lo (lookF_ok hlq) (by omega) (by omega) (by omega)]; exact hG.2.1, by have := sNets_mu (lookF_ok hlq) (show n0 ≤ 7 by omega); omega⟩) (by rw [hN, naF_some hlq]; exact congrArg (Prod.mk _) (by omega)) (hlc2) _ _ _ hP hS (lv_sub hl [2, 1, 0] rfl)
  rw [show sA (kF 0 σ n6) 15 c1 = sA (sA (kF 0 σ n6) 15 c1) 0 (σ 0) from by rw [show σ 0 = (sA (kF 0 σ n6) 15 c1) 0 from by rw [sA_i (by decide), kF_i (by decide) (by decide) (by decide)], sA_self]] at hP
  exact L15 (F + 1) (0) (F) (σ 0) (c1) (z) (by omega) (⟨hgo, hn.1, hFm⟩) (by rw [Nat.add_zero]) (hlc1) _ _ _ hP hS (lv_sub hl [2, 1, 0] rfl)
set_option maxHeartbeats 4000000 in
theorem c_hasCycle {l : Launch} {D : va_G} {Z : zZ} {o : Nat} {ad : Nat → Nat} {cA : Nat → ClassId} (hZ : zOk Z) (σ : zT) (sz : Nat) (n0 : Nat) (hn : σ 0 0 = n0 ∧ n0 ≤ 7) (B : Int) (hgo : gOk (σ 0) B) : MI l D Z o ad cA yX4_hasCycle (ws_ yX4_hasCycle cX4_hasCycle 1 (some .boolean)) { frames := 9, cells := 0, slots := 0, locals := 226 } [.ref o] sz (σ) (fR ((hcR σ n0))) := by
  refine w_met (cc := cX4_hasCycle) (maxL := 1) (ret := some .boolean) (own := RX4) (by decide) rfl rfl mW_ok (Nat.le_of_ble_eq_true rfl) ?_
  intro p e s m below meth c hX hsz hK hP hD hA hE hS hR ls hl
  have hx := hX.1
  have hb := hX.2.1
  have hl : lv_has ls 1 [(0, .ref o)] := hl
  refine lv_aload_n hx hb dX4_hasCycle_0 rfl (lv_at hl 0 rfl) ?_
  refine z_iconst hX dX4_hasCycle_1 ?_
  refine m_put hX hK hD hP hS 8 (by decide) q1916 rfl rfl rfl mW_f8 dX4_hasCycle_2 (fun H locs hP hS => ?_)
  refine lv_aload_n hx hb dX4_hasCycle_5 rfl (lv_at hl 0 rfl) ?_
  refine m_callR (As := []) (rest := []) hZ hX hK hD hA hE hP hS (c_looks hZ (uA σ 8 0 0) _ n0 (by rw [uA_sA, sA_i (by decide)]; exact hn) B (by rw [uA_sA, sA_i (by decide)]; exact hgo)) (cwV 0 hX.hts (lw_V q2041 q2043 qs49 q89 q2044) rfl rfl rfl (by decide +kernel) ⟨Nat.le_of_ble_eq_true rfl, Nat.le_of_ble_eq_true rfl⟩) rfl hl.1 (lv_room (Nat.le_of_ble_eq_true rfl)) dX4_hasCycle_6 ⟨Nat.le_refl _, Nat.le_refl _⟩ rfl (fun z y H locs hq hP hS => ?_)
  obtain ⟨c1, hy2, hlc1⟩ := hq
  rw [hy2] at hP
  rw [uA_sA, sA_i (by decide)] at hlc1
  have hzc1 := lR_z (by omega) hlc1
  refine z_if_le (tgt := 16) hX (by omega) dX4_hasCycle_9 (by decide) (fun c_9 => ?_) (fun c_9 => ?_)
  · skip
    refine z_iconst hX dX4_hasCycle_16 ?_
    exact w_zret hX hP hS (by decide) (⟨0, rfl, c1, rfl, by
      rw [lR_none hlc1 (by omega)]; rfl⟩) dX4_hasCycle_17
  · skip
    refine z_iconst hX dX4_hasCycle_12 ?_
    refine lv_goto (tgt := 17) hx hb dX4_hasCycle_13 (by decide) ?_
    exact w_zret hX hP hS (by decide) (⟨1, rfl, c1, rfl, by
      obtain ⟨q, h1, -⟩ := lR_some hlc1 (by omega)
      rw [h1]; rfl⟩) dX4_hasCycle_17
set_option maxHeartbeats 4000000 in
theorem c_hasCycleByLeavingOut {l : Launch} {D : va_G} {Z : zZ} {o : Nat} {ad : Nat → Nat} {cA : Nat → ClassId} (hZ : zOk Z) (σ : zT) (sz : Nat) (n0 : Nat) (hn : σ 0 0 = n0 ∧ n0 ≤ 7) (B : Int) (hgo : gOk (σ 0) B) : MI l D Z o ad cA yX4_hasCycleByLeavingOut (ws_ yX4_hasCycleByLeavingOut cX4_hasCycleByLeavingOut 1 (some .boolean)) { frames := 9, cells := 0, slots := 0, locals := 226 } [.ref o] sz (σ) (fR ((hcR σ n0))) := by
  refine w_met (cc := cX4_hasCycleByLeavingOut) (maxL := 1) (ret := some .boolean) (own := RX4) (by decide) rfl rfl mW_ok (Nat.le_of_ble_eq_true rfl) ?_
  intro p e s m below meth c hX hsz hK hP hD hA hE hS hR ls hl
  have hx := hX.1
  have hb := hX.2.1
  have hl : lv_has ls 1 [(0, .ref o)] := hl
  refine lv_aload_n hx hb dX4_hasCycleByLeavingOut_0 rfl (lv_at hl 0 rfl) ?_
  refine z_iconst hX dX4_hasCycleByLeavingOut_1 ?_
  refine m_put hX hK hD hP hS 8 (by decide) q1916 rfl rfl rfl mW_f8 dX4_hasCycleByLeavingOut_2 (fun H locs hP hS => ?_)
  refine lv_aload_n hx hb dX4_hasCycleByLeavingOut_5 rfl (lv_at hl 0 rfl) ?_
  refine m_callR (As := []) (rest := []) hZ hX hK hD hA hE hP hS (c_looks hZ (uA σ 8 0 0) _ n0 (by rw [uA_sA, sA_i (by decide)]; exact hn) B (by rw [uA_sA, sA_i (by decide)]; exact hgo)) (cwV 0 hX.hts (lw_V q2041 q2043 qs49 q89 q2044) rfl rfl rfl (by decide +kernel) ⟨Nat.le_of_ble_eq_true rfl, Nat.le_of_ble_eq_true rfl⟩) rfl hl.1 (lv_room (Nat.le_of_ble_eq_true rfl)) dX4_hasCycleByLeavingOut_6 ⟨Nat.le_refl _, Nat.le_refl _⟩ rfl (fun z y H locs hq hP hS => ?_)
  obtain ⟨c1, hy2, hlc1⟩ := hq
  rw [hy2] at hP
  rw [uA_sA, sA_i (by decide)] at hlc1
  have hzc1 := lR_z (by omega) hlc1
  refine z_if_le (tgt := 16) hX (by omega) dX4_hasCycleByLeavingOut_9 (by decide) (fun c_9 => ?_) (fun c_9 => ?_)
  · skip
    refine z_iconst hX dX4_hasCycleByLeavingOut_16 ?_
    exact w_zret hX hP hS (by decide) (⟨0, rfl, c1, rfl, by
      rw [lR_none hlc1 (by omega)]; rfl⟩) dX4_hasCycleByLeavingOut_17
  · skip
    refine z_iconst hX dX4_hasCycleByLeavingOut_12 ?_
    refine lv_goto (tgt := 17) hx hb dX4_hasCycleByLeavingOut_13 (by decide) ?_
    exact w_zret hX hP hS (by decide) (⟨1, rfl, c1, rfl, by
      obtain ⟨q, h1, -⟩ := lR_some hlc1 (by omega)
      rw [h1]; rfl⟩) dX4_hasCycleByLeavingOut_17
set_option maxHeartbeats 4000000 in
theorem c_cycleSize {l : Launch} {D : va_G} {Z : zZ} {o : Nat} {ad : Nat → Nat} {cA : Nat → ClassId} (hZ : zOk Z) (σ : zT) (sz : Nat) (n0 : Nat) (hn : σ 0 0 = n0 ∧ n0 ≤ 7) (B : Int) (hgo : gOk (σ 0) B) : MI l D Z o ad cA yX4_cycleSize (ws_ yX4_cycleSize cX4_cycleSize 2 (some .int)) { frames := 9, cells := 0, slots := 0, locals := 226 } [.ref o] sz (σ) (fR ((qR σ n0 (fun q => (q.length : Int))))) := by
  refine w_met (cc := cX4_cycleSize) (maxL := 2) (ret := some .int) (own := RX4) (by decide) rfl rfl mW_ok (Nat.le_of_ble_eq_true rfl) ?_
  intro p e s m below meth c hX hsz hK hP hD hA hE hS hR ls hl
  have hx := hX.1
  have hb := hX.2.1
  have hl : lv_has ls 2 [(0, .ref o)] := hl
  refine lv_aload_n hx hb dX4_cycleSize_0 rfl (lv_at hl 0 rfl) ?_
  refine m_callR (As := []) (rest := []) hZ hX hK hD hA hE hP hS (c_looks hZ (σ) _ n0 hn B hgo) (cwV 0 hX.hts (lw_V q2041 q2043 qs49 q89 q2044) rfl rfl rfl (by decide +kernel) ⟨Nat.le_of_ble_eq_true rfl, Nat.le_of_ble_eq_true rfl⟩) rfl hl.1 (lv_room (Nat.le_of_ble_eq_true rfl)) dX4_cycleSize_1 ⟨Nat.le_refl _, Nat.le_refl _⟩ rfl (fun z y H locs hq hP hS => ?_)
  obtain ⟨c1, hy2, hlc1⟩ := hq
  rw [hy2] at hP
  have hzc1 := lR_z (by omega) hlc1
  refine lv_istore_n (lv' := [(1, .int (iI (z))), (0, .ref o)]) hx hb dX4_cycleSize_4 rfl hl (by decide) rfl (fun ls hl => ?_)
  refine lv_aload_n hx hb dX4_cycleSize_5 rfl (lv_at hl 1 rfl) ?_
  refine lv_iload_n hx hb dX4_cycleSize_6 rfl (lv_at hl 0 rfl) ?_
  refine z_if_ne (tgt := 14) hX (by omega) dX4_cycleSize_7 (by decide) (fun c_7 => ?_) (fun c_7 => ?_)
  · skip
    obtain ⟨q, hlq, hlz, hla⟩ := lR_some hlc1 c_7
    refine z_iconst hX dX4_cycleSize_14 ?_
    refine m_calli (As := [.int (iI (0))]) (rest := []) hZ hX hK hD hA hE hP hS (c_fails hZ (sA σ 15 c1) _ (0) (by omega)) (cwV 1 hX.hts (lw_V q1987 q1989 qs42 q89 q1990) rfl rfl rfl (by decide +kernel) ⟨Nat.le_of_ble_eq_true rfl, Nat.le_of_ble_eq_true rfl⟩) rfl hl.1 (lv_room (Nat.le_of_ble_eq_true rfl)) dX4_cycleSize_15 ⟨Nat.le_refl _, Nat.le_refl _⟩ rfl (fun  H locs hP hS => ?_)
    refine z_if_eqB (tgt := 25) hX dX4_cycleSize_18 (by decide) (fun h9 => ?_) (fun h9 => absurd h9 (by decide))
    refine W.eq (g2 := F0 m 25 ls []) rfl ?_
    refine lv_iload_n hx hb dX4_cycleSize_25 rfl (lv_at hl 0 rfl) ?_
    exact w_iret hX hP hS (⟨_, rfl, c1, Or.inr ⟨q, hlq, hlz, rfl⟩⟩) dX4_cycleSize_26
  · skip
    refine z_iconst hX dX4_cycleSize_10 ?_
    refine lv_goto (tgt := 15) hx hb dX4_cycleSize_11 (by decide) ?_
    refine m_calli (As := [.int (iI (1))]) (rest := []) hZ hX hK hD hA hE hP hS (c_fails hZ (sA σ 15 c1) _ (1) (by omega)) (cwV 1 hX.hts (lw_V q1987 q1989 qs42 q89 q1990) rfl rfl rfl (by decide +kernel) ⟨Nat.le_of_ble_eq_true rfl, Nat.le_of_ble_eq_true rfl⟩) rfl hl.1 (lv_room (Nat.le_of_ble_eq_true rfl)) dX4_cycleSize_15 ⟨Nat.le_refl _, Nat.le_refl _⟩ rfl (fun  H locs hP hS => ?_)
    refine z_if_eqB (tgt := 25) hX dX4_cycleSize_18 (by decide) (fun h9 => absurd h9 (by decide)) (fun h9 => ?_)
    refine z_iconst hX dX4_cycleSize_21 ?_
    refine lv_goto (tgt := 26) hx hb dX4_cycleSize_22 (by decide) ?_
    exact w_iret hX hP hS (⟨0, rfl, c1, Or.inl ⟨lR_none hlc1 c_7, rfl, rfl⟩⟩) dX4_cycleSize_26
set_option maxHeartbeats 4000000 in
theorem c_cycleAmount {l : Launch} {D : va_G} {Z : zZ} {o : Nat} {ad : Nat → Nat} {cA : Nat → ClassId} (hZ : zOk Z) (σ : zT) (sz : Nat) (n0 : Nat) (hn : σ 0 0 = n0 ∧ n0 ≤ 7) (B : Int) (hgo : gOk (σ 0) B) : MI l D Z o ad cA yX4_cycleAmount (ws_ yX4_cycleAmount cX4_cycleAmount 2 (some .int)) { frames := 9, cells := 0, slots := 0, locals := 226 } [.ref o] sz (σ) (fR ((qR σ n0 (fun q => smF (σ 0) q q.length)))) := by
  refine w_met (cc := cX4_cycleAmount) (maxL := 2) (ret := some .int) (own := RX4) (by decide) rfl rfl mW_ok (Nat.le_of_ble_eq_true rfl) ?_
  intro p e s m below meth c hX hsz hK hP hD hA hE hS hR ls hl
  have hx := hX.1
  have hb := hX.2.1
  have hl : lv_has ls 2 [(0, .ref o)] := hl
  refine lv_aload_n hx hb dX4_cycleAmount_0 rfl (lv_at hl 0 rfl) ?_
  refine m_callR (As := []) (rest := []) hZ hX hK hD hA hE hP hS (c_looks hZ (σ) _ n0 hn B hgo) (cwV 0 hX.hts (lw_V q2041 q2043 qs49 q89 q2044) rfl rfl rfl (by decide +kernel) ⟨Nat.le_of_ble_eq_true rfl, Nat.le_of_ble_eq_true rfl⟩) rfl hl.1 (lv_room (Nat.le_of_ble_eq_true rfl)) dX4_cycleAmount_1 ⟨Nat.le_refl _, Nat.le_refl _⟩ rfl (fun z y H locs hq hP hS => ?_)
  obtain ⟨c1, hy2, hlc1⟩ := hq
  rw [hy2] at hP
  have hzc1 := lR_z (by omega) hlc1
  refine lv_istore_n (lv' := [(1, .int (iI (z))), (0, .ref o)]) hx hb dX4_cycleAmount_4 rfl hl (by decide) rfl (fun ls hl => ?_)
  refine lv_aload_n hx hb dX4_cycleAmount_5 rfl (lv_at hl 1 rfl) ?_
  refine lv_iload_n hx hb dX4_cycleAmount_6 rfl (lv_at hl 0 rfl) ?_
  refine z_if_ne (tgt := 14) hX (by omega) dX4_cycleAmount_7 (by decide) (fun c_7 => ?_) (fun c_7 => ?_)
  · skip
    obtain ⟨q, hlq, hlz, hla⟩ := lR_some hlc1 c_7
    refine z_iconst hX dX4_cycleAmount_14 ?_
    refine m_calli (As := [.int (iI (0))]) (rest := []) hZ hX hK hD hA hE hP hS (c_fails hZ (sA σ 15 c1) _ (0) (by omega)) (cwV 1 hX.hts (lw_V q1987 q1989 qs42 q89 q1990) rfl rfl rfl (by decide +kernel) ⟨Nat.le_of_ble_eq_true rfl, Nat.le_of_ble_eq_true rfl⟩) rfl hl.1 (lv_room (Nat.le_of_ble_eq_true rfl)) dX4_cycleAmount_15 ⟨Nat.le_refl _, Nat.le_refl _⟩ rfl (fun  H locs hP hS => ?_)
    refine z_if_eqB (tgt := 25) hX dX4_cycleAmount_18 (by decide) (fun h9 => ?_) (fun h9 => absurd h9 (by decide))
    refine W.eq (g2 := F0 m 25 ls []) rfl ?_
    refine lv_aload_n hx hb dX4_cycleAmount_25 rfl (lv_at hl 1 rfl) ?_
    refine lv_iload_n hx hb dX4_cycleAmount_26 rfl (lv_at hl 0 rfl) ?_
    refine m_calli (As := [.int (iI (z))]) (rest := []) hZ hX hK hD hA hE hP hS (c_smallest hZ (uA (sA σ 15 c1) 8 0 0) _ n0 hn B hgo q (lookF_ok hlq) hla _ hlz) (cwV 1 hX.hts (lw_V q2053 q2055 qs52 q89 q2056) rfl rfl rfl (by decide +kernel) ⟨Nat.le_of_ble_eq_true rfl, Nat.le_of_ble_eq_true rfl⟩) rfl hl.1 (lv_room (Nat.le_of_ble_eq_true rfl)) dX4_cycleAmount_27 ⟨Nat.le_refl _, Nat.le_refl _⟩ rfl (fun  H locs hP hS => ?_)
    exact w_iret hX hP hS (⟨_, rfl, c1, Or.inr ⟨q, hlq, rfl, rfl⟩⟩) dX4_cycleAmount_30
  · skip
    refine z_iconst hX dX4_cycleAmount_10 ?_
    refine lv_goto (tgt := 15) hx hb dX4_cycleAmount_11 (by decide) ?_
    refine m_calli (As := [.int (iI (1))]) (rest := []) hZ hX hK hD hA hE hP hS (c_fails hZ (sA σ 15 c1) _ (1) (by omega)) (cwV 1 hX.hts (lw_V q1987 q1989 qs42 q89 q1990) rfl rfl rfl (by decide +kernel) ⟨Nat.le_of_ble_eq_true rfl, Nat.le_of_ble_eq_true rfl⟩) rfl hl.1 (lv_room (Nat.le_of_ble_eq_true rfl)) dX4_cycleAmount_15 ⟨Nat.le_refl _, Nat.le_refl _⟩ rfl (fun  H locs hP hS => ?_)
    refine z_if_eqB (tgt := 25) hX dX4_cycleAmount_18 (by decide) (fun h9 => absurd h9 (by decide)) (fun h9 => ?_)
    refine z_iconst hX dX4_cycleAmount_21 ?_
    refine lv_goto (tgt := 30) hx hb dX4_cycleAmount_22 (by decide) ?_
    refine W.eq (g2 := F0 m 30 ls [.int (iI (0))]) rfl ?_
    exact w_iret hX hP hS (⟨0, rfl, c1, Or.inl ⟨lR_none hlc1 c_7, rfl, rfl⟩⟩) dX4_cycleAmount_30
set_option maxHeartbeats 4000000 in
theorem c_cycleParty {l : Launch} {D : va_G} {Z : zZ} {o : Nat} {ad : Nat → Nat} {cA : Nat → ClassId} (hZ : zOk Z) (σ : zT) (sz : Nat) (P : Int) (hP0 : (-2147483648 ≤ P ∧ P ≤ 2147483647)) (n0 : Nat) (hn : σ 0 0 = n0 ∧ n0 ≤ 7) (B : Int) (hgo : gOk (σ 0) B) : MI l D Z o ad cA yX4_cycleParty (ws_ yX4_cycleParty cX4_cycleParty 3 (some .int)) { frames := 9, cells := 0, slots := 0, locals := 226 } [.ref o, .int (iI (P))] sz (σ) (fR ((cpR σ n0 P))) := by
  refine w_met (cc := cX4_cycleParty) (maxL := 3) (ret := some .int) (own := RX4) (by decide) rfl rfl mW_ok (Nat.le_of_ble_eq_true rfl) ?_
  intro p e s m below meth c hX hsz hK hP hD hA hE hS hR ls hl
  have hx := hX.1
  have hb := hX.2.1
  have hl : lv_has ls 3 [(0, .ref o), (1, .int (iI (P)))] := hl
  refine lv_aload_n hx hb dX4_cycleParty_0 rfl (lv_at hl 0 rfl) ?_
  refine m_callR (As := []) (rest := []) hZ hX hK hD hA hE hP hS (c_looks hZ (σ) _ n0 hn B hgo) (cwV 0 hX.hts (lw_V q2041 q2043 qs49 q89 q2044) rfl rfl rfl (by decide +kernel) ⟨Nat.le_of_ble_eq_true rfl, Nat.le_of_ble_eq_true rfl⟩) rfl hl.1 (lv_room (Nat.le_of_ble_eq_true rfl)) dX4_cycleParty_1 ⟨Nat.le_refl _, Nat.le_refl _⟩ rfl (fun z y H locs hq hP hS => ?_)
  obtain ⟨c1, hy2, hlc1⟩ := hq
  rw [hy2] at hP
  have hzc1 := lR_z (by omega) hlc1
  refine lv_istore_n (lv' := [(2, .int (iI (z))), (0, .ref o), (1, .int (iI (P)))]) hx hb dX4_cycleParty_4 rfl hl (by decide) rfl (fun ls hl => ?_)
  refine lv_aload_n hx hb dX4_cycleParty_5 rfl (lv_at hl 1 rfl) ?_
  refine lv_iload_n hx hb dX4_cycleParty_6 rfl (lv_at hl 0 rfl) ?_
  refine z_if_ne (tgt := 14) hX (by omega) dX4_cycleParty_7 (by decide) (fun c_7 => ?_) (fun c_7 => ?_)
  · skip
    obtain ⟨q, hlq, hlz, hla⟩ := lR_some hlc1 c_7
    refine lv_iload_n hx hb dX4_cycleParty_14 rfl (lv_at hl 2 rfl) ?_
    refine z_iconst hX dX4_cycleParty_15 ?_
    refine lv_iload_n hx hb dX4_cycleParty_16 rfl (lv_at hl 0 rfl) ?_
    refine W.eq (g2 := F0 m 17 ls [.int (iI (z)), .int (iI (0)), .int (iI (P)), .ref o]) rfl ?_
    refine z_iconst hX dX4_cycleParty_17 ?_
    refine z_isub hX dX4_cycleParty_18 ?_
    refine p_callSi (As := [.int (iI (P)), .int (iI (0)), .int (iI (z - 1))]) (rest := [.ref o]) hZ hX hK hA hE hP hS (c_in hZ _ (P) (0) (z - 1) (by omega)) (va_cwS 3 hX.hts (lw_S q1984 q1985 q89 q1986) rfl rfl rfl (by decide +kernel) ⟨Nat.le_of_ble_eq_true rfl, Nat.le_of_ble_eq_true rfl⟩) rfl hl.1 (lv_room (Nat.le_of_ble_eq_true rfl)) dX4_cycleParty_19 ⟨Nat.le_refl _, Nat.le_refl _⟩ rfl (fun  H locs hP hS => ?_)
    refine z_if_eqB (tgt := 29) hX dX4_cycleParty_22 (by decide) (fun c_22 => ?_) (fun c_22 => ?_)
    · skip
      refine z_iconst hX dX4_cycleParty_29 ?_
      refine m_calli (As := [.int (iI (2))]) (rest := []) hZ hX hK hD hA hE hP hS (c_fails hZ (sA σ 15 c1) _ (2) (by omega)) (cwV 1 hX.hts (lw_V q1987 q1989 qs42 q89 q1990) rfl rfl rfl (by decide +kernel) ⟨Nat.le_of_ble_eq_true rfl, Nat.le_of_ble_eq_true rfl⟩) rfl hl.1 (lv_room (Nat.le_of_ble_eq_true rfl)) dX4_cycleParty_30 ⟨Nat.le_refl _, Nat.le_refl _⟩ rfl (fun  H locs hP hS => ?_)
      refine z_if_eqB (tgt := 40) hX dX4_cycleParty_33 (by decide) (fun h9 => absurd h9 (by decide)) (fun h9 => ?_)
      refine z_iconst hX dX4_cycleParty_36 ?_
      refine lv_goto (tgt := 46) hx hb dX4_cycleParty_37 (by decide) ?_
      exact w_iret hX hP hS (⟨0, rfl, c1, by first | exact Or.inl ⟨lR_none hlc1 c_7, rfl, rfl⟩ | exact Or.inr ⟨q, hlq, Or.inr ⟨by rw [← hlz]; exact c_22, rfl, rfl⟩⟩⟩) dX4_cycleParty_46
    · skip
      have c_22' : 0 ≤ P ∧ P ≤ z - 1 := c_22
      refine W.eq (g2 := F0 m 25 ls [.ref o]) rfl ?_
      refine z_iconst hX dX4_cycleParty_25 ?_
      refine lv_goto (tgt := 30) hx hb dX4_cycleParty_26 (by decide) ?_
      refine m_calli (As := [.int (iI (0))]) (rest := []) hZ hX hK hD hA hE hP hS (c_fails hZ (sA σ 15 c1) _ (0) (by omega)) (cwV 1 hX.hts (lw_V q1987 q1989 qs42 q89 q1990) rfl rfl rfl (by decide +kernel) ⟨Nat.le_of_ble_eq_true rfl, Nat.le_of_ble_eq_true rfl⟩) rfl hl.1 (lv_room (Nat.le_of_ble_eq_true rfl)) dX4_cycleParty_30 ⟨Nat.le_refl _, Nat.le_refl _⟩ rfl (fun  H locs hP hS => ?_)
      refine z_if_eqB (tgt := 40) hX dX4_cycleParty_33 (by decide) (fun h9 => ?_) (fun h9 => absurd h9 (by decide))
      refine lv_aload_n hx hb dX4_cycleParty_40 rfl (lv_at hl 1 rfl) ?_
      refine m_get hX hK hP 15 (by decide) q1923 rfl dX4_cycleParty_41 ?_
      refine lv_iload_n hx hb dX4_cycleParty_44 rfl (lv_at hl 2 rfl) ?_
      refine m_ld hX hK hP mW_e15 (P.toNat) (by have h9 := (lookF_ok hlq).2.2.1; omega) (by decide) dX4_cycleParty_45 ?_
      refine z_top (y := ↑(qk q P.toNat)) (by rw [uA_nj (by decide), sA_j]; exact hla _ (by omega)) ?_
      exact w_iret hX hP hS (⟨_, rfl, c1, Or.inr ⟨q, hlq, Or.inl ⟨by rw [← hlz]; exact c_22, rfl, rfl⟩⟩⟩) dX4_cycleParty_46
  · skip
    refine z_iconst hX dX4_cycleParty_10 ?_
    refine lv_goto (tgt := 30) hx hb dX4_cycleParty_11 (by decide) ?_
    refine m_calli (As := [.int (iI (1))]) (rest := []) hZ hX hK hD hA hE hP hS (c_fails hZ (sA σ 15 c1) _ (1) (by omega)) (cwV 1 hX.hts (lw_V q1987 q1989 qs42 q89 q1990) rfl rfl rfl (by decide +kernel) ⟨Nat.le_of_ble_eq_true rfl, Nat.le_of_ble_eq_true rfl⟩) rfl hl.1 (lv_room (Nat.le_of_ble_eq_true rfl)) dX4_cycleParty_30 ⟨Nat.le_refl _, Nat.le_refl _⟩ rfl (fun  H locs hP hS => ?_)
    refine z_if_eqB (tgt := 40) hX dX4_cycleParty_33 (by decide) (fun h9 => absurd h9 (by decide)) (fun h9 => ?_)
    refine z_iconst hX dX4_cycleParty_36 ?_
    refine lv_goto (tgt := 46) hx hb dX4_cycleParty_37 (by decide) ?_
    exact w_iret hX hP hS (⟨0, rfl, c1, by first | exact Or.inl ⟨lR_none hlc1 c_7, rfl, rfl⟩ | exact Or.inr ⟨q, hlq, Or.inr ⟨by rw [← hlz]; exact c_22, rfl, rfl⟩⟩⟩) dX4_cycleParty_46
