/-! the twin's leaves -/
set_option maxRecDepth 100000
set_option maxHeartbeats 4000000 in
theorem c_thrown {l : Launch} {D : va_G} {Z : zZ} {o : Nat} {ad : Nat → Nat} {cA : Nat → ClassId} (hZ : zOk Z) (σ : zT) (sz : Nat) : MI l D Z o ad cA yX4_thrown (ws_ yX4_thrown cX4_thrown 1 (some .int)) { frames := 0, cells := 0, slots := 0, locals := 0 } [.ref o] sz (σ) (fI (σ 8 0) (σ)) := by
  refine w_met (cc := cX4_thrown) (maxL := 1) (ret := some .int) (own := RX4) (by decide) rfl rfl mW_ok (Nat.le_of_ble_eq_true rfl) ?_
  intro p e s m below meth c hX hsz hK hP hD hA hE hS hR ls hl
  have hx := hX.1
  have hb := hX.2.1
  have hl : lv_has ls 1 [(0, .ref o)] := hl
  refine lv_aload_n hx hb dX4_thrown_0 rfl (lv_at hl 0 rfl) ?_
  refine m_get hX hK hP 8 (by decide) q1916 rfl dX4_thrown_1 ?_
  exact w_iret hX hP hS (⟨rfl, rfl⟩) dX4_thrown_4
set_option maxHeartbeats 4000000 in
theorem c_fails {l : Launch} {D : va_G} {Z : zZ} {o : Nat} {ad : Nat → Nat} {cA : Nat → ClassId} (hZ : zOk Z) (σ : zT) (sz : Nat) (P : Int) (hP0 : (-2147483648 ≤ P ∧ P ≤ 2147483647)) : MI l D Z o ad cA yX4_fails (ws_ yX4_fails cX4_fails 2 (some .boolean)) { frames := 0, cells := 0, slots := 0, locals := 0 } [.ref o, .int (iI (P))] sz (σ) (fI (bI (0 < P)) (uA σ 8 0 P)) := by
  refine w_met (cc := cX4_fails) (maxL := 2) (ret := some .boolean) (own := RX4) (by decide) rfl rfl mW_ok (Nat.le_of_ble_eq_true rfl) ?_
  intro p e s m below meth c hX hsz hK hP hD hA hE hS hR ls hl
  have hx := hX.1
  have hb := hX.2.1
  have hl : lv_has ls 2 [(0, .ref o), (1, .int (iI (P)))] := hl
  refine lv_aload_n hx hb dX4_fails_0 rfl (lv_at hl 0 rfl) ?_
  refine lv_iload_n hx hb dX4_fails_1 rfl (lv_at hl 1 rfl) ?_
  refine m_put hX hK hD hP hS 8 (by decide) q1916 rfl rfl rfl mW_f8 dX4_fails_2 (fun H locs hP hS => ?_)
  refine lv_iload_n hx hb dX4_fails_5 rfl (lv_at hl 1 rfl) ?_
  refine z_if_le (tgt := 13) hX (by omega) dX4_fails_6 (by decide) (fun c_6 => ?_) (fun c_6 => ?_)
  · skip
    refine z_iconst hX dX4_fails_13 ?_
    exact w_zret hX hP hS (by decide) (⟨by rw [bI_f (by omega)], rfl⟩) dX4_fails_14
  · skip
    refine z_iconst hX dX4_fails_9 ?_
    refine lv_goto (tgt := 14) hx hb dX4_fails_10 (by decide) ?_
    refine W.eq (g2 := F0 m 14 ls [.int (iI (1))]) rfl ?_
    exact w_zret hX hP hS (by decide) (⟨by rw [bI_t (by omega)], rfl⟩) dX4_fails_14
set_option maxHeartbeats 4000000 in
theorem c_in {l : Launch} {D : va_G} {Z : zZ} {cA : Nat → ClassId} (hZ : zOk Z) (sz : Nat) (v lo hi : Int) (hr : (-2147483648 ≤ v ∧ v ≤ 2147483647) ∧ (-2147483648 ≤ lo ∧ lo ≤ 2147483647) ∧ (-2147483648 ≤ hi ∧ hi ≤ 2147483647)) : PI l D Z cA yX4_in (ws_ yX4_in cX4_in 3 (some .boolean)) { frames := 0, cells := 0, slots := 0, locals := 0 } [.int (iI (v)), .int (iI (lo)), .int (iI (hi))] sz (fun r _ => r = iI (bI (lo ≤ v ∧ v ≤ hi))) := by
  refine w_met (cc := cX4_in) (maxL := 3) (ret := some .boolean) (own := RX4) (by decide) rfl rfl w0_ok (Nat.le_of_ble_eq_true rfl) ?_
  intro p e s m below meth c hX hsz hK hP hD hA hE hS hR ls hl
  have hx := hX.1
  have hb := hX.2.1
  have hl : lv_has ls 3 [(0, .int (iI (v))), (1, .int (iI (lo))), (2, .int (iI (hi)))] := hl
  refine lv_iload_n hx hb dX4_in_0 rfl (lv_at hl 0 rfl) ?_
  refine lv_iload_n hx hb dX4_in_1 rfl (lv_at hl 1 rfl) ?_
  refine z_icmp_lt (tgt := 14) hX (by omega) dX4_in_2 (by decide) (fun c_2 => ?_) (fun c_2 => ?_)
  · skip
    refine z_iconst hX dX4_in_14 ?_
    exact w_zret hX hP hS (by decide) (by rw [bI_f (by omega)]) dX4_in_15
  · skip
    refine lv_iload_n hx hb dX4_in_5 rfl (lv_at hl 0 rfl) ?_
    refine lv_iload_n hx hb dX4_in_6 rfl (lv_at hl 2 rfl) ?_
    refine z_icmp_gt (tgt := 14) hX (by omega) dX4_in_7 (by decide) (fun c_7 => ?_) (fun c_7 => ?_)
    · skip
      refine z_iconst hX dX4_in_14 ?_
      refine W.eq (g2 := F0 m 15 ls [.int (iI (0))]) rfl ?_
      exact w_zret hX hP hS (by decide) (by rw [bI_f (by omega)]) dX4_in_15
    · skip
      refine z_iconst hX dX4_in_10 ?_
      refine lv_goto (tgt := 15) hx hb dX4_in_11 (by decide) ?_
      exact w_zret hX hP hS (by decide) (by rw [bI_t (by omega)]) dX4_in_15
set_option maxHeartbeats 4000000 in
theorem c_least {l : Launch} {D : va_G} {Z : zZ} {cA : Nat → ClassId} (hZ : zOk Z) (sz : Nat) (v u : Int) (hr : (-2147483648 ≤ v ∧ v ≤ 2147483647) ∧ (-2147483648 ≤ u ∧ u ≤ 2147483647)) : PI l D Z cA yX4_least (ws_ yX4_least cX4_least 2 (some .int)) { frames := 0, cells := 0, slots := 0, locals := 0 } [.int (iI (v)), .int (iI (u))] sz (fun r _ => r = iI (min v u)) := by
  refine w_met (cc := cX4_least) (maxL := 2) (ret := some .int) (own := RX4) (by decide) rfl rfl w0_ok (Nat.le_of_ble_eq_true rfl) ?_
  intro p e s m below meth c hX hsz hK hP hD hA hE hS hR ls hl
  have hx := hX.1
  have hb := hX.2.1
  have hl : lv_has ls 2 [(0, .int (iI (v))), (1, .int (iI (u)))] := hl
  refine lv_iload_n hx hb dX4_least_0 rfl (lv_at hl 0 rfl) ?_
  refine lv_iload_n hx hb dX4_least_1 rfl (lv_at hl 1 rfl) ?_
  refine z_icmp_ge (tgt := 9) hX (by omega) dX4_least_2 (by decide) (fun c_2 => ?_) (fun c_2 => ?_)
  · skip
    refine lv_iload_n hx hb dX4_least_9 rfl (lv_at hl 1 rfl) ?_
    exact w_iret hX hP hS (by rw [Int.min_eq_right (by omega)]) dX4_least_10
  · skip
    refine lv_iload_n hx hb dX4_least_5 rfl (lv_at hl 0 rfl) ?_
    refine lv_goto (tgt := 10) hx hb dX4_least_6 (by decide) ?_
    exact w_iret hX hP hS (by rw [Int.min_eq_left (by omega)]) dX4_least_10
set_option maxHeartbeats 4000000 in
theorem c_owes {l : Launch} {D : va_G} {Z : zZ} {o : Nat} {ad : Nat → Nat} {cA : Nat → ClassId} (hZ : zOk Z) (σ : zT) (sz : Nat) (d1 d2 : Nat) (E1 E2 : Int) (h1 : E1 = d1 ∧ d1 < 7) (h2 : E2 = d2 ∧ d2 < 7) : MI l D Z o ad cA yX4_owes (ws_ yX4_owes cX4_owes 3 (some .int)) { frames := 0, cells := 0, slots := 0, locals := 0 } [.ref o, .int (iI (E1)), .int (iI (E2))] sz (σ) (fI (σ 0 (12 + 7 * d1 + d2)) (σ)) := by
  obtain ⟨rfl, h1⟩ := h1
  obtain ⟨rfl, h2⟩ := h2
  refine w_met (cc := cX4_owes) (maxL := 3) (ret := some .int) (own := RX4) (by decide) rfl rfl mW_ok (Nat.le_of_ble_eq_true rfl) ?_
  intro p e s m below meth c hX hsz hK hP hD hA hE hS hR ls hl
  have hx := hX.1
  have hb := hX.2.1
  have hl : lv_has ls 3 [(0, .ref o), (1, .int (iI (↑d1))), (2, .int (iI (↑d2)))] := hl
  refine lv_aload_n hx hb dX4_owes_0 rfl (lv_at hl 0 rfl) ?_
  refine m_get hX hK hP 0 (by decide) q1908 rfl dX4_owes_1 ?_
  refine z_bipush hX dX4_owes_4 (by decide) ?_
  refine z_bipush hX dX4_owes_6 (by decide) ?_
  refine lv_iload_n hx hb dX4_owes_8 rfl (lv_at hl 1 rfl) ?_
  refine z_imul hX dX4_owes_9 ?_
  refine z_iadd hX dX4_owes_10 ?_
  refine lv_iload_n hx hb dX4_owes_11 rfl (lv_at hl 2 rfl) ?_
  refine z_iadd hX dX4_owes_12 ?_
  refine W.eq (g2 := F0 m 13 ls [.int (iI ((12 + (7 * (↑d1))) + (↑d2))), .ref (ad 0)]) rfl ?_
  refine m_ld hX hK hP mW_e0 (12 + 7 * d1 + d2) (by omega) (by decide) dX4_owes_13 ?_
  exact w_iret hX hP hS (⟨rfl, rfl⟩) dX4_owes_14
set_option maxHeartbeats 4000000 in
theorem c_isParty {l : Launch} {D : va_G} {Z : zZ} {o : Nat} {ad : Nat → Nat} {cA : Nat → ClassId} (hZ : zOk Z) (σ : zT) (sz : Nat) (P : Int) (hP0 : (-2147483648 ≤ P ∧ P ≤ 2147483647)) (hg : 0 ≤ σ 0 0 ∧ σ 0 0 ≤ 7) : MI l D Z o ad cA yX4_isParty (ws_ yX4_isParty cX4_isParty 2 (some .boolean)) { frames := 1, cells := 0, slots := 0, locals := 22 } [.ref o, .int (iI (P))] sz (σ) (fI (bI (mIs (σ 0) P)) (σ)) := by
  refine w_met (cc := cX4_isParty) (maxL := 2) (ret := some .boolean) (own := RX4) (by decide) rfl rfl mW_ok (Nat.le_of_ble_eq_true rfl) ?_
  intro p e s m below meth c hX hsz hK hP hD hA hE hS hR ls hl
  have hx := hX.1
  have hb := hX.2.1
  have hl : lv_has ls 2 [(0, .ref o), (1, .int (iI (P)))] := hl
  refine lv_iload_n hx hb dX4_isParty_0 rfl (lv_at hl 1 rfl) ?_
  refine z_iconst hX dX4_isParty_1 ?_
  refine lv_aload_n hx hb dX4_isParty_2 rfl (lv_at hl 0 rfl) ?_
  refine m_get hX hK hP 0 (by decide) q1908 rfl dX4_isParty_3 ?_
  refine z_iconst hX dX4_isParty_6 ?_
  refine m_ld hX hK hP mW_e0 0 (by decide) (by decide) dX4_isParty_7 ?_
  refine z_iconst hX dX4_isParty_8 ?_
  refine z_isub hX dX4_isParty_9 ?_
  refine p_callSi (As := [.int (iI (P)), .int (iI (0)), .int (iI ((σ 0 0) - 1))]) (rest := []) hZ hX hK hA hE hP hS (c_in hZ _ (P) 0 ((σ 0 0) - 1) (by have := hg; omega)) (va_cwS 3 hX.hts (lw_S q1984 q1985 q89 q1986) rfl rfl rfl (by decide +kernel) ⟨Nat.le_of_ble_eq_true rfl, Nat.le_of_ble_eq_true rfl⟩) rfl hl.1 (lv_room (Nat.le_of_ble_eq_true rfl)) dX4_isParty_10 ⟨Nat.le_refl _, Nat.le_refl _⟩ rfl (fun  H locs hP hS => ?_)
  refine W.eq (g2 := F0 m 13 ls [.int (iI (bI (0 ≤ P ∧ P ≤ (σ 0 0) - 1)))]) rfl ?_
  exact w_zret hX hP hS (bI_01) (⟨rfl, rfl⟩) dX4_isParty_13
set_option maxHeartbeats 4000000 in
theorem c_isNone {l : Launch} {D : va_G} {Z : zZ} {o : Nat} {ad : Nat → Nat} {cA : Nat → ClassId} (hZ : zOk Z) (σ : zT) (sz : Nat) (P : Int) (hP0 : (-2147483648 ≤ P ∧ P ≤ 2147483647)) (hg : 0 ≤ σ 0 0 ∧ σ 0 0 ≤ 7) : MI l D Z o ad cA yX4_isNone (ws_ yX4_isNone cX4_isNone 2 (some .boolean)) { frames := 2, cells := 0, slots := 0, locals := 43 } [.ref o, .int (iI (P))] sz (σ) (fI (bI (¬ mIs (σ 0) P)) (uA σ 8 0 (bI (¬ mIs (σ 0) P)))) := by
  refine w_met (cc := cX4_isNone) (maxL := 2) (ret := some .boolean) (own := RX4) (by decide) rfl rfl mW_ok (Nat.le_of_ble_eq_true rfl) ?_
  intro p e s m below meth c hX hsz hK hP hD hA hE hS hR ls hl
  have hx := hX.1
  have hb := hX.2.1
  have hl : lv_has ls 2 [(0, .ref o), (1, .int (iI (P)))] := hl
  refine lv_aload_n hx hb dX4_isNone_0 rfl (lv_at hl 0 rfl) ?_
  refine lv_aload_n hx hb dX4_isNone_1 rfl (lv_at hl 0 rfl) ?_
  refine lv_iload_n hx hb dX4_isNone_2 rfl (lv_at hl 1 rfl) ?_
  refine m_calli (As := [.int (iI (P))]) (rest := [.ref o]) hZ hX hK hD hA hE hP hS (c_isParty hZ (σ) _ (P) (by omega) (by first | exact hg | simpa [uA] using hg)) (cwV 1 hX.hts (lw_V q2006 q2008 qs45 q89 q2009) rfl rfl rfl (by decide +kernel) ⟨Nat.le_of_ble_eq_true rfl, Nat.le_of_ble_eq_true rfl⟩) rfl hl.1 (lv_room (Nat.le_of_ble_eq_true rfl)) dX4_isNone_3 ⟨Nat.le_refl _, Nat.le_refl _⟩ rfl (fun  H locs hP hS => ?_)
  refine z_if_eqB (tgt := 13) hX dX4_isNone_6 (by decide) (fun c_6 => ?_) (fun c_6 => ?_)
  · skip
    refine z_iconst hX dX4_isNone_13 ?_
    refine m_calli (As := [.int (iI (1))]) (rest := []) hZ hX hK hD hA hE hP hS (c_fails hZ (σ) _ (1) (by omega)) (cwV 1 hX.hts (lw_V q1987 q1989 qs42 q89 q1990) rfl rfl rfl (by decide +kernel) ⟨Nat.le_of_ble_eq_true rfl, Nat.le_of_ble_eq_true rfl⟩) rfl hl.1 (lv_room (Nat.le_of_ble_eq_true rfl)) dX4_isNone_14 ⟨Nat.le_refl _, Nat.le_refl _⟩ rfl (fun  H locs hP hS => ?_)
    exact w_zret hX hP hS (bI_01) (by rw [bI_t (P := ¬ mIs (σ 0) P) c_6, bI_t (P := (0 : Int) < 1) (by decide)]; exact ⟨rfl, rfl⟩) dX4_isNone_17
  · skip
    refine z_iconst hX dX4_isNone_9 ?_
    refine lv_goto (tgt := 14) hx hb dX4_isNone_10 (by decide) ?_
    refine m_calli (As := [.int (iI (0))]) (rest := []) hZ hX hK hD hA hE hP hS (c_fails hZ (σ) _ (0) (by omega)) (cwV 1 hX.hts (lw_V q1987 q1989 qs42 q89 q1990) rfl rfl rfl (by decide +kernel) ⟨Nat.le_of_ble_eq_true rfl, Nat.le_of_ble_eq_true rfl⟩) rfl hl.1 (lv_room (Nat.le_of_ble_eq_true rfl)) dX4_isNone_14 ⟨Nat.le_refl _, Nat.le_refl _⟩ rfl (fun  H locs hP hS => ?_)
    exact w_zret hX hP hS (bI_01) (by rw [bI_f (P := ¬ mIs (σ 0) P) (fun h => h c_6), bI_f (P := (0 : Int) < 0) (by decide)]; exact ⟨rfl, rfl⟩) dX4_isNone_17
set_option maxHeartbeats 4000000 in
theorem c_areNone {l : Launch} {D : va_G} {Z : zZ} {o : Nat} {ad : Nat → Nat} {cA : Nat → ClassId} (hZ : zOk Z) (σ : zT) (sz : Nat) (P P2 : Int) (hP0 : (-2147483648 ≤ P ∧ P ≤ 2147483647)) (hP2 : (-2147483648 ≤ P2 ∧ P2 ≤ 2147483647)) (hg : 0 ≤ σ 0 0 ∧ σ 0 0 ≤ 7) : MI l D Z o ad cA yX4_areNone (ws_ yX4_areNone cX4_areNone 3 (some .boolean)) { frames := 2, cells := 0, slots := 0, locals := 43 } [.ref o, .int (iI (P)), .int (iI (P2))] sz (σ) (fI (bI (¬ (mIs (σ 0) P ∧ mIs (σ 0) P2))) (uA σ 8 0 (bI (¬ (mIs (σ 0) P ∧ mIs (σ 0) P2))))) := by
  refine w_met (cc := cX4_areNone) (maxL := 3) (ret := some .boolean) (own := RX4) (by decide) rfl rfl mW_ok (Nat.le_of_ble_eq_true rfl) ?_
  intro p e s m below meth c hX hsz hK hP hD hA hE hS hR ls hl
  have hx := hX.1
  have hb := hX.2.1
  have hl : lv_has ls 3 [(0, .ref o), (1, .int (iI (P))), (2, .int (iI (P2)))] := hl
  refine lv_aload_n hx hb dX4_areNone_0 rfl (lv_at hl 0 rfl) ?_
  refine lv_aload_n hx hb dX4_areNone_1 rfl (lv_at hl 0 rfl) ?_
  refine lv_iload_n hx hb dX4_areNone_2 rfl (lv_at hl 1 rfl) ?_
  refine m_calli (As := [.int (iI (P))]) (rest := [.ref o]) hZ hX hK hD hA hE hP hS (c_isParty hZ (σ) _ (P) (by omega) (by first | exact hg | simpa [uA] using hg)) (cwV 1 hX.hts (lw_V q2006 q2008 qs45 q89 q2009) rfl rfl rfl (by decide +kernel) ⟨Nat.le_of_ble_eq_true rfl, Nat.le_of_ble_eq_true rfl⟩) rfl hl.1 (lv_room (Nat.le_of_ble_eq_true rfl)) dX4_areNone_3 ⟨Nat.le_refl _, Nat.le_refl _⟩ rfl (fun  H locs hP hS => ?_)
  refine z_if_eqB (tgt := 21) hX dX4_areNone_6 (by decide) (fun c_6 => ?_) (fun c_6 => ?_)
  · skip
    refine z_iconst hX dX4_areNone_21 ?_
    refine m_calli (As := [.int (iI (1))]) (rest := []) hZ hX hK hD hA hE hP hS (c_fails hZ (σ) _ (1) (by omega)) (cwV 1 hX.hts (lw_V q1987 q1989 qs42 q89 q1990) rfl rfl rfl (by decide +kernel) ⟨Nat.le_of_ble_eq_true rfl, Nat.le_of_ble_eq_true rfl⟩) rfl hl.1 (lv_room (Nat.le_of_ble_eq_true rfl)) dX4_areNone_22 ⟨Nat.le_refl _, Nat.le_refl _⟩ rfl (fun  H locs hP hS => ?_)
    exact w_zret hX hP hS (bI_01) (by rw [bI_t (P := ¬ (mIs (σ 0) P ∧ mIs (σ 0) P2)) (by first | exact (fun h => c_6 h.1) | exact (fun h => c_14 h.2)), bI_t (P := (0 : Int) < 1) (by decide)]; exact ⟨rfl, rfl⟩) dX4_areNone_25
  · skip
    refine lv_aload_n hx hb dX4_areNone_9 rfl (lv_at hl 0 rfl) ?_
    refine W.eq (g2 := F0 m 10 ls [.ref o, .ref o]) rfl ?_
    refine lv_iload_n hx hb dX4_areNone_10 rfl (lv_at hl 2 rfl) ?_
    refine m_calli (As := [.int (iI (P2))]) (rest := [.ref o]) hZ hX hK hD hA hE hP hS (c_isParty hZ (σ) _ (P2) (by omega) (by first | exact hg | simpa [uA] using hg)) (cwV 1 hX.hts (lw_V q2006 q2008 qs45 q89 q2009) rfl rfl rfl (by decide +kernel) ⟨Nat.le_of_ble_eq_true rfl, Nat.le_of_ble_eq_true rfl⟩) rfl hl.1 (lv_room (Nat.le_of_ble_eq_true rfl)) dX4_areNone_11 ⟨Nat.le_refl _, Nat.le_refl _⟩ rfl (fun  H locs hP hS => ?_)
    refine z_if_eqB (tgt := 21) hX dX4_areNone_14 (by decide) (fun c_14 => ?_) (fun c_14 => ?_)
    · skip
      refine z_iconst hX dX4_areNone_21 ?_
      refine m_calli (As := [.int (iI (1))]) (rest := []) hZ hX hK hD hA hE hP hS (c_fails hZ (σ) _ (1) (by omega)) (cwV 1 hX.hts (lw_V q1987 q1989 qs42 q89 q1990) rfl rfl rfl (by decide +kernel) ⟨Nat.le_of_ble_eq_true rfl, Nat.le_of_ble_eq_true rfl⟩) rfl hl.1 (lv_room (Nat.le_of_ble_eq_true rfl)) dX4_areNone_22 ⟨Nat.le_refl _, Nat.le_refl _⟩ rfl (fun  H locs hP hS => ?_)
      exact w_zret hX hP hS (bI_01) (by rw [bI_t (P := ¬ (mIs (σ 0) P ∧ mIs (σ 0) P2)) (by first | exact (fun h => c_6 h.1) | exact (fun h => c_14 h.2)), bI_t (P := (0 : Int) < 1) (by decide)]; exact ⟨rfl, rfl⟩) dX4_areNone_25
    · skip
      refine z_iconst hX dX4_areNone_17 ?_
      refine lv_goto (tgt := 22) hx hb dX4_areNone_18 (by decide) ?_
      refine m_calli (As := [.int (iI (0))]) (rest := []) hZ hX hK hD hA hE hP hS (c_fails hZ (σ) _ (0) (by omega)) (cwV 1 hX.hts (lw_V q1987 q1989 qs42 q89 q1990) rfl rfl rfl (by decide +kernel) ⟨Nat.le_of_ble_eq_true rfl, Nat.le_of_ble_eq_true rfl⟩) rfl hl.1 (lv_room (Nat.le_of_ble_eq_true rfl)) dX4_areNone_22 ⟨Nat.le_refl _, Nat.le_refl _⟩ rfl (fun  H locs hP hS => ?_)
      exact w_zret hX hP hS (bI_01) (by rw [bI_f (P := ¬ (mIs (σ 0) P ∧ mIs (σ 0) P2)) (fun h => h ⟨c_6, c_14⟩), bI_f (P := (0 : Int) < 0) (by decide)]; exact ⟨rfl, rfl⟩) dX4_areNone_25
set_option maxHeartbeats 4000000 in
theorem c_claimed {l : Launch} {D : va_G} {Z : zZ} {o : Nat} {ad : Nat → Nat} {cA : Nat → ClassId} (hZ : zOk Z) (σ : zT) (sz : Nat) (d1 : Nat) (E1 : Int) (h1 : E1 = d1 ∧ d1 < 7) : MI l D Z o ad cA yX4_claimed (ws_ yX4_claimed cX4_claimed 4 (some .int)) { frames := 1, cells := 0, slots := 0, locals := 22 } [.ref o, .int (iI (E1))] sz (σ) (fI (mCl (σ 0) d1) (σ)) := by
  obtain ⟨rfl, h1⟩ := h1
  refine w_met (cc := cX4_claimed) (maxL := 4) (ret := some .int) (own := RX4) (by decide) rfl rfl mW_ok (Nat.le_of_ble_eq_true rfl) ?_
  intro p e s m below meth c hX hsz hK hP hD hA hE hS hR ls hl
  have hx := hX.1
  have hb := hX.2.1
  have hl : lv_has ls 4 [(0, .ref o), (1, .int (iI (↑d1)))] := hl
  refine z_iconst hX dX4_claimed_0 ?_
  refine z_top (y := sg (fun k => σ 0 (12 + 7 * k + d1)) 0) (rfl) ?_
  refine lv_istore_n (lv' := [(2, .int (iI (sg (fun k => σ 0 (12 + 7 * k + d1)) 0))), (0, .ref o), (1, .int (iI (↑d1)))]) hx hb dX4_claimed_1 rfl hl (by decide) rfl (fun ls hl => ?_)
  refine z_iconst hX dX4_claimed_2 ?_
  refine z_top (y := ↑(0 : Nat)) (rfl) ?_
  refine lv_istore_n (lv' := [(3, .int (iI (↑(0 : Nat)))), (2, .int (iI (sg (fun k => σ 0 (12 + 7 * k + d1)) 0))), (0, .ref o), (1, .int (iI (↑d1)))]) hx hb dX4_claimed_3 rfl hl (by decide) rfl (fun ls hl => ?_)
  have L4 : ∀ (n : Nat) (i : Nat), (7 < i + n) → (i ≤ 7) → ∀ (H : Heap) (locs : List Loc) (ls : Array Slot), va_P D vwCl (mW o ad cA (σ)) H → va_S (wA (mW o ad cA) sz) s.heap H locs → lv_has ls 4 [(0, .ref o), (1, .int (iI (↑d1))), (2, .int (iI (sg (fun k => σ 0 (12 + 7 * k + d1)) i))), (3, .int (iI (↑i)))] → W p l e (headSpec (ws_ yX4_claimed cX4_claimed 4 (some .int)) { frames := 1, cells := 0, slots := 0, locals := 22 }).room s m ([.ref o, .int (iI (↑d1))] : List Value).toArray below meth c H locs 0 0 (MQ below (wQi D vwCl (mW o ad cA) (fI (mCl (σ 0) d1) (σ)) sz) ([.ref o, .int (iI (↑d1))] : List Value).toArray s 0 0 (wA (mW o ad cA) sz)) (F0 m 4 ls []) := by
    intro n
    induction n with
    | zero =>
      intro i hf hi H locs ls hP hS hl
      exact absurd hf (by omega)
    | succ n ih4 =>
      intro i hf hi H locs ls hP hS hl
      refine lv_iload_n hx hb dX4_claimed_4 rfl (lv_at hl 3 rfl) ?_
      refine z_bipush hX dX4_claimed_5 (by decide) ?_
      refine z_icmp_ge (tgt := 25) hX (by omega) dX4_claimed_7 (by decide) (fun c_7 => ?_) (fun c_7 => ?_)
      · skip
        refine lv_iload_n hx hb dX4_claimed_25 rfl (lv_at hl 2 rfl) ?_
        exact w_iret hX hP hS (⟨by rw [show i = 7 from by omega]; rfl, rfl⟩) dX4_claimed_26
      · skip
        refine W.eq (g2 := F0 m 10 ls []) rfl ?_
        refine lv_iload_n hx hb dX4_claimed_10 rfl (lv_at hl 2 rfl) ?_
        refine lv_aload_n hx hb dX4_claimed_11 rfl (lv_at hl 0 rfl) ?_
        refine lv_iload_n hx hb dX4_claimed_12 rfl (lv_at hl 3 rfl) ?_
        refine lv_iload_n hx hb dX4_claimed_13 rfl (lv_at hl 1 rfl) ?_
        refine m_calli (As := [.int (iI (↑i)), .int (iI (↑d1))]) (rest := [.int (iI (sg (fun k => σ 0 (12 + 7 * k + d1)) i))]) hZ hX hK hD hA hE hP hS (c_owes hZ (σ) _ i d1 _ _ (by omega) (by omega)) (cwV 2 hX.hts (lw_V q2018 q2020 qs47 q89 q2021) rfl rfl rfl (by decide +kernel) ⟨Nat.le_of_ble_eq_true rfl, Nat.le_of_ble_eq_true rfl⟩) rfl hl.1 (lv_room (Nat.le_of_ble_eq_true rfl)) dX4_claimed_14 ⟨Nat.le_refl _, Nat.le_refl _⟩ rfl (fun  H locs hP hS => ?_)
        refine z_iadd hX dX4_claimed_17 ?_
        refine z_top (y := sg (fun k => σ 0 (12 + 7 * k + d1)) (i + 1)) (rfl) ?_
        refine lv_istore_n (lv' := [(2, .int (iI (sg (fun k => σ 0 (12 + 7 * k + d1)) (i + 1)))), (0, .ref o), (1, .int (iI (↑d1))), (3, .int (iI (↑i)))]) hx hb dX4_claimed_18 rfl hl (by decide) rfl (fun ls hl => ?_)
        refine z_iinc (y := ↑(i + 1)) (lv' := [(3, .int (iI (↑(i + 1)))), (2, .int (iI (sg (fun k => σ 0 (12 + 7 * k + d1)) (i + 1)))), (0, .ref o), (1, .int (iI (↑d1)))]) hX dX4_claimed_19 hl (k := 3) rfl (by omega) (by decide) rfl (fun ls hl => ?_)
        refine lv_goto (tgt := 4) hx hb dX4_claimed_22 (by decide) ?_
        exact ih4 (i + 1) (by omega) (by omega) _ _ _ hP hS (lv_sub hl [2, 3, 1, 0] rfl)
  exact L4 (8) (0) (by omega) (by omega) _ _ _ hP hS (lv_sub hl [2, 3, 1, 0] rfl)
set_option maxHeartbeats 4000000 in
theorem c_obliged {l : Launch} {D : va_G} {Z : zZ} {o : Nat} {ad : Nat → Nat} {cA : Nat → ClassId} (hZ : zOk Z) (σ : zT) (sz : Nat) (d1 : Nat) (E1 : Int) (h1 : E1 = d1 ∧ d1 < 7) : MI l D Z o ad cA yX4_obliged (ws_ yX4_obliged cX4_obliged 4 (some .int)) { frames := 1, cells := 0, slots := 0, locals := 22 } [.ref o, .int (iI (E1))] sz (σ) (fI (mOb (σ 0) d1) (σ)) := by
  obtain ⟨rfl, h1⟩ := h1
  refine w_met (cc := cX4_obliged) (maxL := 4) (ret := some .int) (own := RX4) (by decide) rfl rfl mW_ok (Nat.le_of_ble_eq_true rfl) ?_
  intro p e s m below meth c hX hsz hK hP hD hA hE hS hR ls hl
  have hx := hX.1
  have hb := hX.2.1
  have hl : lv_has ls 4 [(0, .ref o), (1, .int (iI (↑d1)))] := hl
  refine z_iconst hX dX4_obliged_0 ?_
  refine z_top (y := sg (fun k => σ 0 (12 + 7 * d1 + k)) 0) (rfl) ?_
  refine lv_istore_n (lv' := [(2, .int (iI (sg (fun k => σ 0 (12 + 7 * d1 + k)) 0))), (0, .ref o), (1, .int (iI (↑d1)))]) hx hb dX4_obliged_1 rfl hl (by decide) rfl (fun ls hl => ?_)
  refine z_iconst hX dX4_obliged_2 ?_
  refine z_top (y := ↑(0 : Nat)) (rfl) ?_
  refine lv_istore_n (lv' := [(3, .int (iI (↑(0 : Nat)))), (2, .int (iI (sg (fun k => σ 0 (12 + 7 * d1 + k)) 0))), (0, .ref o), (1, .int (iI (↑d1)))]) hx hb dX4_obliged_3 rfl hl (by decide) rfl (fun ls hl => ?_)
  have L4 : ∀ (n : Nat) (i : Nat), (7 < i + n) → (i ≤ 7) → ∀ (H : Heap) (locs : List Loc) (ls : Array Slot), va_P D vwCl (mW o ad cA (σ)) H → va_S (wA (mW o ad cA) sz) s.heap H locs → lv_has ls 4 [(0, .ref o), (1, .int (iI (↑d1))), (2, .int (iI (sg (fun k => σ 0 (12 + 7 * d1 + k)) i))), (3, .int (iI (↑i)))] → W p l e (headSpec (ws_ yX4_obliged cX4_obliged 4 (some .int)) { frames := 1, cells := 0, slots := 0, locals := 22 }).room s m ([.ref o, .int (iI (↑d1))] : List Value).toArray below meth c H locs 0 0 (MQ below (wQi D vwCl (mW o ad cA) (fI (mOb (σ 0) d1) (σ)) sz) ([.ref o, .int (iI (↑d1))] : List Value).toArray s 0 0 (wA (mW o ad cA) sz)) (F0 m 4 ls []) := by
    intro n
    induction n with
    | zero =>
      intro i hf hi H locs ls hP hS hl
      exact absurd hf (by omega)
    | succ n ih4 =>
      intro i hf hi H locs ls hP hS hl
      refine lv_iload_n hx hb dX4_obliged_4 rfl (lv_at hl 3 rfl) ?_
      refine z_bipush hX dX4_obliged_5 (by decide) ?_
      refine z_icmp_ge (tgt := 25) hX (by omega) dX4_obliged_7 (by decide) (fun c_7 => ?_) (fun c_7 => ?_)
      · skip
        refine lv_iload_n hx hb dX4_obliged_25 rfl (lv_at hl 2 rfl) ?_
        exact w_iret hX hP hS (⟨by rw [show i = 7 from by omega]; rfl, rfl⟩) dX4_obliged_26
      · skip
        refine W.eq (g2 := F0 m 10 ls []) rfl ?_
        refine lv_iload_n hx hb dX4_obliged_10 rfl (lv_at hl 2 rfl) ?_
        refine lv_aload_n hx hb dX4_obliged_11 rfl (lv_at hl 0 rfl) ?_
        refine lv_iload_n hx hb dX4_obliged_12 rfl (lv_at hl 1 rfl) ?_
        refine lv_iload_n hx hb dX4_obliged_13 rfl (lv_at hl 3 rfl) ?_
        refine m_calli (As := [.int (iI (↑d1)), .int (iI (↑i))]) (rest := [.int (iI (sg (fun k => σ 0 (12 + 7 * d1 + k)) i))]) hZ hX hK hD hA hE hP hS (c_owes hZ (σ) _ d1 i _ _ (by omega) (by omega)) (cwV 2 hX.hts (lw_V q2018 q2020 qs47 q89 q2021) rfl rfl rfl (by decide +kernel) ⟨Nat.le_of_ble_eq_true rfl, Nat.le_of_ble_eq_true rfl⟩) rfl hl.1 (lv_room (Nat.le_of_ble_eq_true rfl)) dX4_obliged_14 ⟨Nat.le_refl _, Nat.le_refl _⟩ rfl (fun  H locs hP hS => ?_)
        refine z_iadd hX dX4_obliged_17 ?_
        refine z_top (y := sg (fun k => σ 0 (12 + 7 * d1 + k)) (i + 1)) (rfl) ?_
        refine lv_istore_n (lv' := [(2, .int (iI (sg (fun k => σ 0 (12 + 7 * d1 + k)) (i + 1)))), (0, .ref o), (1, .int (iI (↑d1))), (3, .int (iI (↑i)))]) hx hb dX4_obliged_18 rfl hl (by decide) rfl (fun ls hl => ?_)
        refine z_iinc (y := ↑(i + 1)) (lv' := [(3, .int (iI (↑(i + 1)))), (2, .int (iI (sg (fun k => σ 0 (12 + 7 * d1 + k)) (i + 1)))), (0, .ref o), (1, .int (iI (↑d1)))]) hX dX4_obliged_19 hl (k := 3) rfl (by omega) (by decide) rfl (fun ls hl => ?_)
        refine lv_goto (tgt := 4) hx hb dX4_obliged_22 (by decide) ?_
        exact ih4 (i + 1) (by omega) (by omega) _ _ _ hP hS (lv_sub hl [2, 3, 1, 0] rfl)
  exact L4 (8) (0) (by omega) (by omega) _ _ _ hP hS (lv_sub hl [2, 3, 1, 0] rfl)
set_option maxHeartbeats 4000000 in
theorem c_net {l : Launch} {D : va_G} {Z : zZ} {o : Nat} {ad : Nat → Nat} {cA : Nat → ClassId} (hZ : zOk Z) (σ : zT) (sz : Nat) (d1 : Nat) (E1 : Int) (h1 : E1 = d1 ∧ d1 < 7) : MI l D Z o ad cA yX4_net (ws_ yX4_net cX4_net 2 (some .int)) { frames := 2, cells := 0, slots := 0, locals := 45 } [.ref o, .int (iI (E1))] sz (σ) (fI (mNet (σ 0) d1) (σ)) := by
  obtain ⟨rfl, h1⟩ := h1
  refine w_met (cc := cX4_net) (maxL := 2) (ret := some .int) (own := RX4) (by decide) rfl rfl mW_ok (Nat.le_of_ble_eq_true rfl) ?_
  intro p e s m below meth c hX hsz hK hP hD hA hE hS hR ls hl
  have hx := hX.1
  have hb := hX.2.1
  have hl : lv_has ls 2 [(0, .ref o), (1, .int (iI (↑d1)))] := hl
  refine lv_aload_n hx hb dX4_net_0 rfl (lv_at hl 0 rfl) ?_
  refine lv_iload_n hx hb dX4_net_1 rfl (lv_at hl 1 rfl) ?_
  refine m_calli (As := [.int (iI (↑d1))]) (rest := []) hZ hX hK hD hA hE hP hS (c_claimed hZ (σ) _ d1 _ (by omega)) (cwV 1 hX.hts (lw_V q2093 q2095 qs55 q89 q2096) rfl rfl rfl (by decide +kernel) ⟨Nat.le_of_ble_eq_true rfl, Nat.le_of_ble_eq_true rfl⟩) rfl hl.1 (lv_room (Nat.le_of_ble_eq_true rfl)) dX4_net_2 ⟨Nat.le_refl _, Nat.le_refl _⟩ rfl (fun  H locs hP hS => ?_)
  refine lv_aload_n hx hb dX4_net_5 rfl (lv_at hl 0 rfl) ?_
  refine lv_iload_n hx hb dX4_net_6 rfl (lv_at hl 1 rfl) ?_
  refine m_calli (As := [.int (iI (↑d1))]) (rest := [.int (iI (mCl (σ 0) d1))]) hZ hX hK hD hA hE hP hS (c_obliged hZ (σ) _ d1 _ (by omega)) (cwV 1 hX.hts (lw_V q2089 q2091 qs54 q89 q2092) rfl rfl rfl (by decide +kernel) ⟨Nat.le_of_ble_eq_true rfl, Nat.le_of_ble_eq_true rfl⟩) rfl hl.1 (lv_room (Nat.le_of_ble_eq_true rfl)) dX4_net_7 ⟨Nat.le_refl _, Nat.le_refl _⟩ rfl (fun  H locs hP hS => ?_)
  refine z_isub hX dX4_net_10 ?_
  exact w_iret hX hP hS (⟨rfl, rfl⟩) dX4_net_11
set_option maxHeartbeats 4000000 in
theorem c_lacks {l : Launch} {D : va_G} {Z : zZ} {o : Nat} {ad : Nat → Nat} {cA : Nat → ClassId} (hZ : zOk Z) (σ : zT) (sz : Nat) (d1 : Nat) (E1 : Int) (h1 : E1 = d1 ∧ d1 < 7) : MI l D Z o ad cA yX4_lacks (ws_ yX4_lacks cX4_lacks 2 (some .int)) { frames := 2, cells := 0, slots := 0, locals := 45 } [.ref o, .int (iI (E1))] sz (σ) (fI (mLk (σ 0) d1) (σ)) := by
  obtain ⟨rfl, h1⟩ := h1
  refine w_met (cc := cX4_lacks) (maxL := 2) (ret := some .int) (own := RX4) (by decide) rfl rfl mW_ok (Nat.le_of_ble_eq_true rfl) ?_
  intro p e s m below meth c hX hsz hK hP hD hA hE hS hR ls hl
  have hx := hX.1
  have hb := hX.2.1
  have hl : lv_has ls 2 [(0, .ref o), (1, .int (iI (↑d1)))] := hl
  refine lv_aload_n hx hb dX4_lacks_0 rfl (lv_at hl 0 rfl) ?_
  refine lv_iload_n hx hb dX4_lacks_1 rfl (lv_at hl 1 rfl) ?_
  refine m_calli (As := [.int (iI (↑d1))]) (rest := []) hZ hX hK hD hA hE hP hS (c_obliged hZ (σ) _ d1 _ (by omega)) (cwV 1 hX.hts (lw_V q2089 q2091 qs54 q89 q2092) rfl rfl rfl (by decide +kernel) ⟨Nat.le_of_ble_eq_true rfl, Nat.le_of_ble_eq_true rfl⟩) rfl hl.1 (lv_room (Nat.le_of_ble_eq_true rfl)) dX4_lacks_2 ⟨Nat.le_refl _, Nat.le_refl _⟩ rfl (fun  H locs hP hS => ?_)
  refine lv_aload_n hx hb dX4_lacks_5 rfl (lv_at hl 0 rfl) ?_
  refine m_get hX hK hP 0 (by decide) q1908 rfl dX4_lacks_6 ?_
  refine z_iconst hX dX4_lacks_9 ?_
  refine lv_iload_n hx hb dX4_lacks_10 rfl (lv_at hl 1 rfl) ?_
  refine z_iadd hX dX4_lacks_11 ?_
  refine m_ld hX hK hP mW_e0 (5 + d1) (by omega) (by decide) dX4_lacks_12 ?_
  refine W.eq (g2 := F0 m 13 ls [.int (iI (σ 0 (5 + d1))), .int (iI (mOb (σ 0) d1))]) rfl ?_
  refine z_isub hX dX4_lacks_13 ?_
  refine lv_aload_n hx hb dX4_lacks_14 rfl (lv_at hl 0 rfl) ?_
  refine lv_iload_n hx hb dX4_lacks_15 rfl (lv_at hl 1 rfl) ?_
  refine m_calli (As := [.int (iI (↑d1))]) (rest := [.int (iI ((mOb (σ 0) d1) - (σ 0 (5 + d1))))]) hZ hX hK hD hA hE hP hS (c_claimed hZ (σ) _ d1 _ (by omega)) (cwV 1 hX.hts (lw_V q2093 q2095 qs55 q89 q2096) rfl rfl rfl (by decide +kernel) ⟨Nat.le_of_ble_eq_true rfl, Nat.le_of_ble_eq_true rfl⟩) rfl hl.1 (lv_room (Nat.le_of_ble_eq_true rfl)) dX4_lacks_16 ⟨Nat.le_refl _, Nat.le_refl _⟩ rfl (fun  H locs hP hS => ?_)
  refine z_isub hX dX4_lacks_19 ?_
  exact w_iret hX hP hS (⟨rfl, rfl⟩) dX4_lacks_20
