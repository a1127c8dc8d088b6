/-! the twin: cascades, shares told, the call -/
set_option maxRecDepth 100000
set_option maxHeartbeats 4000000 in
theorem c_cascade {l : Launch} {D : va_G} {Z : zZ} {o : Nat} {ad : Nat → Nat} {cA : Nat → ClassId} (hZ : zOk Z) (σ : zT) (sz : Nat) (n0 : Nat) (hn : σ 0 0 = n0 ∧ n0 ≤ 7) (B : Int) (hgo : gOk (σ 0) B) (hB : B ≤ 2000000) (F : Nat) (hFm : gNo (σ 0) < F) (n6 : Nat) (h6 : σ 6 0 = n6 ∧ n6 ≤ 8) (h7 : σ 7 0 = 0 ∨ σ 7 0 = 1) : MI l D Z o ad cA yX4_cascade (ws_ yX4_cascade cX4_cascade 1 (some .int)) { frames := 6, cells := 0, slots := 0, locals := 139 } [.ref o] sz (σ) (fR ((casR σ n0 n6 F))) := by
  refine w_met (cc := cX4_cascade) (maxL := 1) (ret := some .int) (own := RX4) (by decide) rfl rfl mW_ok (Nat.le_of_ble_eq_true rfl) ?_
  intro p e s m below meth c hX hsz hK hP hD hA hE hS hR ls hl
  have hx := hX.1
  have hb := hX.2.1
  have hl : lv_has ls 1 [(0, .ref o)] := hl
  refine lv_aload_n hx hb dX4_cascade_0 rfl (lv_at hl 0 rfl) ?_
  refine lv_aload_n hx hb dX4_cascade_1 rfl (lv_at hl 0 rfl) ?_
  refine m_get hX hK hP 0 (by decide) q1908 rfl dX4_cascade_2 ?_
  refine m_callv (As := [.ref (ad 0)]) (rest := []) hZ hX hK hD hA hE hP hS (c_keeps hZ (σ) _ _ 0 _ (fun _ => mW_e0) (by decide) (by decide) (by decide) n6 (by simpa [uA, sA] using h6) (by simpa [uA, sA] using h7)) (cwV 1 hX.hts (lw_V q1991 q1993 qs43 q89 q1994) rfl rfl rfl (by decide +kernel) ⟨Nat.le_of_ble_eq_true rfl, Nat.le_of_ble_eq_true rfl⟩) rfl hl.1 (lv_room (Nat.le_of_ble_eq_true rfl)) dX4_cascade_5 ⟨Nat.le_refl _, Nat.le_refl _⟩ rfl (fun  H locs hP hS => ?_)
  refine lv_aload_n hx hb dX4_cascade_8 rfl (lv_at hl 0 rfl) ?_
  refine m_callR (As := []) (rest := []) hZ hX hK hD hA hE hP hS (c_fallsAll hZ (kF 0 σ n6) _ n0 (by rw [kF_i (by decide) (by decide) (by decide)]; exact hn) B (by rw [kF_i (by decide) (by decide) (by decide)]; exact hgo) hB F (by rw [kF_i (by decide) (by decide) (by decide)]; exact hFm)) (cwV 0 hX.hts (lw_V q2113 q2115 qs59 q89 q2116) rfl rfl rfl (by decide +kernel) ⟨Nat.le_of_ble_eq_true rfl, Nat.le_of_ble_eq_true rfl⟩) rfl hl.1 (lv_room (Nat.le_of_ble_eq_true rfl)) dX4_cascade_9 ⟨Nat.le_refl _, Nat.le_refl _⟩ rfl (fun z y H locs hq hP hS => ?_)
  obtain ⟨s1, hy2, hz2⟩ := hq
  rw [kF_i (by decide) (by decide) (by decide)] at hy2 hz2
  rw [hy2] at hP
  exact w_iret hX hP hS (⟨_, rfl, s1, rfl, hz2⟩) dX4_cascade_12
set_option maxHeartbeats 4000000 in
theorem c_defaultsAhead {l : Launch} {D : va_G} {Z : zZ} {o : Nat} {ad : Nat → Nat} {cA : Nat → ClassId} (hZ : zOk Z) (σ : zT) (sz : Nat) (n0 : Nat) (hn : σ 0 0 = n0 ∧ n0 ≤ 7) (B : Int) (hgo : gOk (σ 0) B) (hB : B ≤ 2000000) (F : Nat) (hFm : gNo (σ 0) < F) : MI l D Z o ad cA yX4_defaultsAhead (ws_ yX4_defaultsAhead cX4_defaultsAhead 2 (some .int)) { frames := 6, cells := 0, slots := 0, locals := 139 } [.ref o] sz (σ) (fR ((aheR σ n0 F))) := by
  refine w_met (cc := cX4_defaultsAhead) (maxL := 2) (ret := some .int) (own := RX4) (by decide) rfl rfl mW_ok (Nat.le_of_ble_eq_true rfl) ?_
  intro p e s m below meth c hX hsz hK hP hD hA hE hS hR ls hl
  have hx := hX.1
  have hb := hX.2.1
  have hl : lv_has ls 2 [(0, .ref o)] := hl
  refine lv_aload_n hx hb dX4_defaultsAhead_0 rfl (lv_at hl 0 rfl) ?_
  refine z_iconst hX dX4_defaultsAhead_1 ?_
  refine m_put hX hK hD hP hS 8 (by decide) q1916 rfl rfl rfl mW_f8 dX4_defaultsAhead_2 (fun H locs hP hS => ?_)
  refine lv_aload_n hx hb dX4_defaultsAhead_5 rfl (lv_at hl 0 rfl) ?_
  refine m_get hX hK hP 0 (by decide) q1908 rfl dX4_defaultsAhead_6 ?_
  refine z_iconst hX dX4_defaultsAhead_9 ?_
  refine lv_aload_n hx hb dX4_defaultsAhead_10 rfl (lv_at hl 0 rfl) ?_
  refine m_get hX hK hP 4 (by decide) q1912 rfl dX4_defaultsAhead_11 ?_
  refine z_iconst hX dX4_defaultsAhead_14 ?_
  refine W.eq (g2 := F0 m 15 ls [.int (iI (0)), .ref (ad 4), .int (iI (0)), .ref (ad 0)]) rfl ?_
  refine m_callSv (As := [.ref (ad 0), .int (iI (0)), .ref (ad 4), .int (iI (0))]) (rest := []) hZ hX hK hD hA hE hP hS (c_copies hZ (uA σ 8 0 0) _ _ _ 0 _ (fun _ => mW_e0) (by decide) _ _ 4 _ (fun _ => mW_e4) (by decide) (fun _ _ _ => mW_s4) (by decide) 0 0 _ _ ⟨rfl, by decide⟩ ⟨rfl, by decide⟩) (va_cwS 4 hX.hts (lw_S q1995 q1996 q89 q1997) rfl rfl rfl (by decide +kernel) ⟨Nat.le_of_ble_eq_true rfl, Nat.le_of_ble_eq_true rfl⟩) rfl hl.1 (lv_room (Nat.le_of_ble_eq_true rfl)) dX4_defaultsAhead_15 ⟨Nat.le_refl _, Nat.le_refl _⟩ rfl (fun  H locs hP hS => ?_)
  refine lv_aload_n hx hb dX4_defaultsAhead_18 rfl (lv_at hl 0 rfl) ?_
  refine m_callR (As := []) (rest := []) hZ hX hK hD hA hE hP hS (c_fallsAll hZ (cpF (uA σ 8 0 0) 0 0 4 0 61) _ n0 (by rw [cpF_i (by decide), uA_sA, sA_i (by decide)]; exact hn) B (by rw [cpF_i (by decide), uA_sA, sA_i (by decide)]; exact hgo) hB F (by rw [cpF_i (by decide), uA_sA, sA_i (by decide)]; exact hFm)) (cwV 0 hX.hts (lw_V q2113 q2115 qs59 q89 q2116) rfl rfl rfl (by decide +kernel) ⟨Nat.le_of_ble_eq_true rfl, Nat.le_of_ble_eq_true rfl⟩) rfl hl.1 (lv_room (Nat.le_of_ble_eq_true rfl)) dX4_defaultsAhead_19 ⟨Nat.le_refl _, Nat.le_refl _⟩ rfl (fun z y H locs hq hP hS => ?_)
  obtain ⟨s1, hy2, hz2⟩ := hq
  have e0 : (cpF (uA σ 8 0 0) 0 0 4 0 61) 0 = σ 0 := by rw [cpF_i (by decide), uA_sA, sA_i (by decide)]
  rw [e0] at hy2 hz2
  rw [hy2] at hP
  refine lv_istore_n (lv' := [(1, .int (iI (z))), (0, .ref o)]) hx hb dX4_defaultsAhead_22 rfl hl (by decide) rfl (fun ls hl => ?_)
  refine lv_aload_n hx hb dX4_defaultsAhead_23 rfl (lv_at hl 1 rfl) ?_
  refine m_get hX hK hP 4 (by decide) q1912 rfl dX4_defaultsAhead_24 ?_
  refine z_iconst hX dX4_defaultsAhead_27 ?_
  refine lv_aload_n hx hb dX4_defaultsAhead_28 rfl (lv_at hl 1 rfl) ?_
  refine m_get hX hK hP 0 (by decide) q1908 rfl dX4_defaultsAhead_29 ?_
  refine z_iconst hX dX4_defaultsAhead_32 ?_
  refine W.eq (g2 := F0 m 33 ls [.int (iI (0)), .ref (ad 0), .int (iI (0)), .ref (ad 4)]) rfl ?_
  refine m_callSv (As := [.ref (ad 4), .int (iI (0)), .ref (ad 0), .int (iI (0))]) (rest := []) hZ hX hK hD hA hE hP hS (c_copies hZ (sA (sA (cpF (uA σ 8 0 0) 0 0 4 0 61) 16 s1) 0 (faF n0 F (σ 0)).1) _ _ _ 4 _ (fun _ => mW_e4) (by decide) _ _ 0 _ (fun _ => mW_e0) (by decide) (fun _ _ _ => mW_s0) (by decide) 0 0 _ _ ⟨rfl, by decide⟩ ⟨rfl, by decide⟩) (va_cwS 4 hX.hts (lw_S q1995 q1996 q89 q1997) rfl rfl rfl (by decide +kernel) ⟨Nat.le_of_ble_eq_true rfl, Nat.le_of_ble_eq_true rfl⟩) rfl hl.1 (lv_room (Nat.le_of_ble_eq_true rfl)) dX4_defaultsAhead_33 ⟨Nat.le_refl _, Nat.le_refl _⟩ rfl (fun  H locs hP hS => ?_)
  rw [show cpF (sA (sA (cpF (uA σ 8 0 0) 0 0 4 0 61) 16 s1) 0 (faF n0 F (σ 0)).1) 4 0 0 0 61 = sA (cpF (uA σ 8 0 0) 0 0 4 0 61) 16 s1 from ahead_eq (fun k hk => faF_hi (by omega) _ _ _ hk)] at hP
  refine lv_iload_n hx hb dX4_defaultsAhead_36 rfl (lv_at hl 0 rfl) ?_
  exact w_iret hX hP hS (⟨_, rfl, _, s1, rfl, hz2⟩) dX4_defaultsAhead_37
set_option maxHeartbeats 4000000 in
theorem c_shareTold {l : Launch} {D : va_G} {Z : zZ} {o : Nat} {ad : Nat → Nat} {cA : Nat → ClassId} (hZ : zOk Z) (σ : zT) (sz : Nat) (P P2 : Int) (hP0 : (-2147483648 ≤ P ∧ P ≤ 2147483647)) (hP2 : (-2147483648 ≤ P2 ∧ P2 ≤ 2147483647)) (B : Int) (hgo : gOk (σ 0) B) (hB : B ≤ 2000000) : MI l D Z o ad cA yX4_shareTold (ws_ yX4_shareTold cX4_shareTold 3 (some .int)) { frames := 4, cells := 0, slots := 0, locals := 93 } [.ref o, .int (iI (P)), .int (iI (P2))] sz (σ) (fR ((qcR σ (cShr (σ 0) P P2) (mSh (σ 0) P.toNat P2.toNat)))) := by
  refine w_met (cc := cX4_shareTold) (maxL := 3) (ret := some .int) (own := RX4) (by decide) rfl rfl mW_ok (Nat.le_of_ble_eq_true rfl) ?_
  intro p e s m below meth c hX hsz hK hP hD hA hE hS hR ls hl
  have hx := hX.1
  have hb := hX.2.1
  have hl : lv_has ls 3 [(0, .ref o), (1, .int (iI (P))), (2, .int (iI (P2)))] := hl
  have hg := hgo.1
  refine lv_aload_n hx hb dX4_shareTold_0 rfl (lv_at hl 0 rfl) ?_
  refine lv_iload_n hx hb dX4_shareTold_1 rfl (lv_at hl 1 rfl) ?_
  refine lv_iload_n hx hb dX4_shareTold_2 rfl (lv_at hl 2 rfl) ?_
  refine m_calli (As := [.int (iI (P)), .int (iI (P2))]) (rest := []) hZ hX hK hD hA hE hP hS (c_areNone hZ (σ) _ (P) (P2) (by omega) (by omega) hg) (cwV 2 hX.hts (lw_V q2014 q2016 qs46 q89 q2017) rfl rfl rfl (by decide +kernel) ⟨Nat.le_of_ble_eq_true rfl, Nat.le_of_ble_eq_true rfl⟩) rfl hl.1 (lv_room (Nat.le_of_ble_eq_true rfl)) dX4_shareTold_3 ⟨Nat.le_refl _, Nat.le_refl _⟩ rfl (fun  H locs hP hS => ?_)
  refine z_if_neB (tgt := 29) hX dX4_shareTold_6 (by decide) (fun c_6 => ?_) (fun c_6 => ?_)
  · skip
    refine z_iconst hX dX4_shareTold_29 ?_
    refine lv_goto (tgt := 39) hx hb dX4_shareTold_30 (by decide) ?_
    exact w_iret hX hP hS (by first | exact ⟨0, rfl, by rw [show cShr (σ 0) P P2 = 1 from by unfold cShr; rw [if_pos c_6], bI_t c_6], Or.inl ⟨by unfold cShr; rw [if_pos c_6]; decide, rfl⟩⟩ | exact qcR_f (by unfold cShr; rw [if_neg (fun h => h c_6), if_pos (by omega)]) (by decide)) dX4_shareTold_39
  · skip
    have c_6 : mIs (σ 0) P ∧ mIs (σ 0) P2 := Decidable.of_not_not c_6
    have c_6' : (0 ≤ P ∧ P ≤ σ 0 0 - 1) ∧ 0 ≤ P2 ∧ P2 ≤ σ 0 0 - 1 := c_6
    have hd := hgo.2.2.1 P.toNat P2.toNat (by omega) (by omega)
    have hd2 := hgo.2.2.1 P2.toNat P.toNat (by omega) (by omega)
    have hc := hgo.2.1 P.toNat (by omega)
    have hlk := mLk_bd hgo hB (p := P.toNat) (by omega)
    refine lv_aload_n hx hb dX4_shareTold_9 rfl (lv_at hl 0 rfl) ?_
    refine W.eq (g2 := F0 m 10 ls [.ref o]) rfl ?_
    refine lv_aload_n hx hb dX4_shareTold_10 rfl (lv_at hl 0 rfl) ?_
    refine lv_iload_n hx hb dX4_shareTold_11 rfl (lv_at hl 1 rfl) ?_
    refine m_calli (As := [.int (iI (P))]) (rest := [.ref o]) hZ hX hK hD hA hE hP hS (c_lacks hZ (uA σ 8 0 (bI (¬ (mIs (σ 0) P ∧ mIs (σ 0) P2)))) _ (P.toNat) _ (by omega)) (cwV 1 hX.hts (lw_V q2085 q2087 qs53 q89 q2088) rfl rfl rfl (by decide +kernel) ⟨Nat.le_of_ble_eq_true rfl, Nat.le_of_ble_eq_true rfl⟩) rfl hl.1 (lv_room (Nat.le_of_ble_eq_true rfl)) dX4_shareTold_12 ⟨Nat.le_refl _, Nat.le_refl _⟩ rfl (fun  H locs hP hS => ?_)
    refine z_top (y := mLk (σ 0) (P.toNat)) (by rw [uA_sA, sA_i (by decide)]) ?_
    refine z_if_le (tgt := 22) hX (by omega) dX4_shareTold_15 (by decide) (fun c_15 => ?_) (fun c_15 => ?_)
    · skip
      refine z_iconst hX dX4_shareTold_22 ?_
      refine m_calli (As := [.int (iI (2))]) (rest := []) hZ hX hK hD hA hE hP hS (c_fails hZ (uA σ 8 0 (bI (¬ (mIs (σ 0) P ∧ mIs (σ 0) P2)))) _ (2) (by omega)) (cwV 1 hX.hts (lw_V q1987 q1989 qs42 q89 q1990) rfl rfl rfl (by decide +kernel) ⟨Nat.le_of_ble_eq_true rfl, Nat.le_of_ble_eq_true rfl⟩) rfl hl.1 (lv_room (Nat.le_of_ble_eq_true rfl)) dX4_shareTold_23 ⟨Nat.le_refl _, Nat.le_refl _⟩ rfl (fun  H locs hP hS => ?_)
      rw [show uA (uA σ 8 0 (bI (¬ (mIs (σ 0) P ∧ mIs (σ 0) P2)))) 8 0 2 = uA σ 8 0 2 from uA_uA] at hP
      refine z_if_eqB (tgt := 33) hX dX4_shareTold_26 (by decide) (fun h9 => absurd h9 (by decide)) (fun h9 => ?_)
      refine z_iconst hX dX4_shareTold_29 ?_
      refine lv_goto (tgt := 39) hx hb dX4_shareTold_30 (by decide) ?_
      exact w_iret hX hP hS (by first | exact ⟨0, rfl, by rw [show cShr (σ 0) P P2 = 1 from by unfold cShr; rw [if_pos c_6], bI_t c_6], Or.inl ⟨by unfold cShr; rw [if_pos c_6]; decide, rfl⟩⟩ | exact qcR_f (by unfold cShr; rw [if_neg (fun h => h c_6), if_pos (by omega)]) (by decide)) dX4_shareTold_39
    · skip
      refine W.eq (g2 := F0 m 18 ls [.ref o]) rfl ?_
      refine z_iconst hX dX4_shareTold_18 ?_
      refine lv_goto (tgt := 23) hx hb dX4_shareTold_19 (by decide) ?_
      refine m_calli (As := [.int (iI (0))]) (rest := []) hZ hX hK hD hA hE hP hS (c_fails hZ (uA σ 8 0 (bI (¬ (mIs (σ 0) P ∧ mIs (σ 0) P2)))) _ (0) (by omega)) (cwV 1 hX.hts (lw_V q1987 q1989 qs42 q89 q1990) rfl rfl rfl (by decide +kernel) ⟨Nat.le_of_ble_eq_true rfl, Nat.le_of_ble_eq_true rfl⟩) rfl hl.1 (lv_room (Nat.le_of_ble_eq_true rfl)) dX4_shareTold_23 ⟨Nat.le_refl _, Nat.le_refl _⟩ rfl (fun  H locs hP hS => ?_)
      rw [show uA (uA σ 8 0 (bI (¬ (mIs (σ 0) P ∧ mIs (σ 0) P2)))) 8 0 0 = uA σ 8 0 0 from uA_uA] at hP
      refine z_if_eqB (tgt := 33) hX dX4_shareTold_26 (by decide) (fun h9 => ?_) (fun h9 => absurd h9 (by decide))
      refine lv_aload_n hx hb dX4_shareTold_33 rfl (lv_at hl 0 rfl) ?_
      refine lv_iload_n hx hb dX4_shareTold_34 rfl (lv_at hl 1 rfl) ?_
      refine lv_iload_n hx hb dX4_shareTold_35 rfl (lv_at hl 2 rfl) ?_
      refine m_calli (As := [.int (iI (P)), .int (iI (P2))]) (rest := []) hZ hX hK hD hA hE hP hS (c_share hZ (uA σ 8 0 0) _ P.toNat P2.toNat _ _ (by omega) (by omega) (mLk_ob hgo (by omega) c_15) B hgo hB) (cwV 2 hX.hts (lw_V q2101 q2103 qs57 q89 q2104) rfl rfl rfl (by decide +kernel) ⟨Nat.le_of_ble_eq_true rfl, Nat.le_of_ble_eq_true rfl⟩) rfl hl.1 (lv_room (Nat.le_of_ble_eq_true rfl)) dX4_shareTold_36 ⟨Nat.le_refl _, Nat.le_refl _⟩ rfl (fun  H locs hP hS => ?_)
      exact w_iret hX hP hS (qcR_t (by unfold cShr; rw [if_neg (fun h => h c_6), if_neg (by omega)])) dX4_shareTold_39
set_option maxHeartbeats 4000000 in
theorem c_shareOf {l : Launch} {D : va_G} {Z : zZ} {o : Nat} {ad : Nat → Nat} {cA : Nat → ClassId} (hZ : zOk Z) (σ : zT) (sz : Nat) (P P2 : Int) (hP0 : (-2147483648 ≤ P ∧ P ≤ 2147483647)) (hP2 : (-2147483648 ≤ P2 ∧ P2 ≤ 2147483647)) (B : Int) (hgo : gOk (σ 0) B) (hB : B ≤ 2000000) : MI l D Z o ad cA yX4_shareOf (ws_ yX4_shareOf cX4_shareOf 3 (some .int)) { frames := 5, cells := 0, slots := 0, locals := 115 } [.ref o, .int (iI (P)), .int (iI (P2))] sz (σ) (fR ((qcR σ (cShr (σ 0) P P2) (mSh (σ 0) P.toNat P2.toNat)))) := by
  refine w_met (cc := cX4_shareOf) (maxL := 3) (ret := some .int) (own := RX4) (by decide) rfl rfl mW_ok (Nat.le_of_ble_eq_true rfl) ?_
  intro p e s m below meth c hX hsz hK hP hD hA hE hS hR ls hl
  have hx := hX.1
  have hb := hX.2.1
  have hl : lv_has ls 3 [(0, .ref o), (1, .int (iI (P))), (2, .int (iI (P2)))] := hl
  refine lv_aload_n hx hb dX4_shareOf_0 rfl (lv_at hl 0 rfl) ?_
  refine lv_iload_n hx hb dX4_shareOf_1 rfl (lv_at hl 1 rfl) ?_
  refine lv_iload_n hx hb dX4_shareOf_2 rfl (lv_at hl 2 rfl) ?_
  refine m_callR (As := [.int (iI (P)), .int (iI (P2))]) (rest := []) hZ hX hK hD hA hE hP hS (c_shareTold hZ (σ) _ P P2 hP0 hP2 B hgo hB) (cwV 2 hX.hts (lw_V q2125 q2127 qs60 q89 q2128) rfl rfl rfl (by decide +kernel) ⟨Nat.le_of_ble_eq_true rfl, Nat.le_of_ble_eq_true rfl⟩) rfl hl.1 (lv_room (Nat.le_of_ble_eq_true rfl)) dX4_shareOf_3 ⟨Nat.le_refl _, Nat.le_refl _⟩ rfl (fun z y H locs hq hP hS => ?_)
  exact w_iret hX hP hS (⟨_, rfl, hq⟩) dX4_shareOf_6
set_option maxHeartbeats 4000000 in
theorem c_shareByCounting {l : Launch} {D : va_G} {Z : zZ} {o : Nat} {ad : Nat → Nat} {cA : Nat → ClassId} (hZ : zOk Z) (σ : zT) (sz : Nat) (P P2 : Int) (hP0 : (-2147483648 ≤ P ∧ P ≤ 2147483647)) (hP2 : (-2147483648 ≤ P2 ∧ P2 ≤ 2147483647)) (B : Int) (hgo : gOk (σ 0) B) (hB : B ≤ 2000000) : MI l D Z o ad cA yX4_shareByCounting (ws_ yX4_shareByCounting cX4_shareByCounting 3 (some .int)) { frames := 5, cells := 0, slots := 0, locals := 115 } [.ref o, .int (iI (P)), .int (iI (P2))] sz (σ) (fR ((qcR σ (cShr (σ 0) P P2) (mSh (σ 0) P.toNat P2.toNat)))) := by
  refine w_met (cc := cX4_shareByCounting) (maxL := 3) (ret := some .int) (own := RX4) (by decide) rfl rfl mW_ok (Nat.le_of_ble_eq_true rfl) ?_
  intro p e s m below meth c hX hsz hK hP hD hA hE hS hR ls hl
  have hx := hX.1
  have hb := hX.2.1
  have hl : lv_has ls 3 [(0, .ref o), (1, .int (iI (P))), (2, .int (iI (P2)))] := hl
  refine lv_aload_n hx hb dX4_shareByCounting_0 rfl (lv_at hl 0 rfl) ?_
  refine lv_iload_n hx hb dX4_shareByCounting_1 rfl (lv_at hl 1 rfl) ?_
  refine lv_iload_n hx hb dX4_shareByCounting_2 rfl (lv_at hl 2 rfl) ?_
  refine m_callR (As := [.int (iI (P)), .int (iI (P2))]) (rest := []) hZ hX hK hD hA hE hP hS (c_shareTold hZ (σ) _ P P2 hP0 hP2 B hgo hB) (cwV 2 hX.hts (lw_V q2125 q2127 qs60 q89 q2128) rfl rfl rfl (by decide +kernel) ⟨Nat.le_of_ble_eq_true rfl, Nat.le_of_ble_eq_true rfl⟩) rfl hl.1 (lv_room (Nat.le_of_ble_eq_true rfl)) dX4_shareByCounting_3 ⟨Nat.le_refl _, Nat.le_refl _⟩ rfl (fun z y H locs hq hP hS => ?_)
  exact w_iret hX hP hS (⟨_, rfl, hq⟩) dX4_shareByCounting_6
set_option maxHeartbeats 4000000 in
theorem c_call {l : Launch} {D : va_G} {Z : zZ} {o : Nat} {ad : Nat → Nat} {cA : Nat → ClassId} (hZ : zOk Z) (σ : zT) (sz : Nat) (n0 : Nat) (hn : σ 0 0 = n0 ∧ n0 ≤ 7) (B : Int) (hgo : gOk (σ 0) B) (hB : B ≤ 2000000) (n6 : Nat) (h6 : σ 6 0 = n6 ∧ n6 ≤ 8) (h7 : σ 7 0 = 0 ∨ σ 7 0 = 1) : MI l D Z o ad cA yX4_call (ws_ yX4_call cX4_call 5 (some .int)) { frames := 2, cells := 0, slots := 0, locals := 46 } [.ref o] sz (σ) (fI ((sCall n0 (σ 0)).2) (sA (kF 0 σ n6) 0 (sCall n0 (σ 0)).1)) := by
  refine w_met (cc := cX4_call) (maxL := 5) (ret := some .int) (own := RX4) (by decide) rfl rfl mW_ok (Nat.le_of_ble_eq_true rfl) ?_
  intro p e s m below meth c hX hsz hK hP hD hA hE hS hR ls hl
  have hx := hX.1
  have hb := hX.2.1
  have hl : lv_has ls 5 [(0, .ref o)] := hl
  refine lv_aload_n hx hb dX4_call_0 rfl (lv_at hl 0 rfl) ?_
  refine lv_aload_n hx hb dX4_call_1 rfl (lv_at hl 0 rfl) ?_
  refine m_get hX hK hP 0 (by decide) q1908 rfl dX4_call_2 ?_
  refine m_callv (As := [.ref (ad 0)]) (rest := []) hZ hX hK hD hA hE hP hS (c_keeps hZ (σ) _ _ 0 _ (fun _ => mW_e0) (by decide) (by decide) (by decide) n6 (by simpa [uA, sA] using h6) (by simpa [uA, sA] using h7)) (cwV 1 hX.hts (lw_V q1991 q1993 qs43 q89 q1994) rfl rfl rfl (by decide +kernel) ⟨Nat.le_of_ble_eq_true rfl, Nat.le_of_ble_eq_true rfl⟩) rfl hl.1 (lv_room (Nat.le_of_ble_eq_true rfl)) dX4_call_5 ⟨Nat.le_refl _, Nat.le_refl _⟩ rfl (fun  H locs hP hS => ?_)
  refine lv_aload_n hx hb dX4_call_8 rfl (lv_at hl 0 rfl) ?_
  refine m_get hX hK hP 0 (by decide) q1908 rfl dX4_call_9 ?_
  refine z_iconst hX dX4_call_12 ?_
  refine lv_dup2_11 hx hb dX4_call_13 rfl rfl ?_
  refine m_ld hX hK hP mW_e0 1 (by decide) (by decide) dX4_call_14 ?_
  refine z_top (y := σ 0 1) (by rw [kF_i (by decide) (by decide) (by decide)]) ?_
  refine W.eq (g2 := F0 m 15 ls [.int (iI (σ 0 1)), .int (iI (1)), .ref (ad 0)]) rfl ?_
  refine z_iconst hX dX4_call_15 ?_
  refine z_iadd hX dX4_call_16 ?_
  refine m_st hX hK hD hP hS mW_e0 1 mW_s0 (by decide) (by decide) dX4_call_17 (fun H locs hP hS => ?_)
  rw [show uA (kF 0 σ n6) 0 1 ((σ 0 1) + 1) = sA (kF 0 σ n6) 0 (gA (σ 0) 1 1) from by rw [uA_sA, kF_i (by decide) (by decide) (by decide)]; rfl] at hP
  refine z_iconst hX dX4_call_18 ?_
  refine z_top (y := (coF n0 (gA (σ 0) 1 1) 0).2) (rfl) ?_
  refine lv_istore_n (lv' := [(1, .int (iI ((coF n0 (gA (σ 0) 1 1) 0).2))), (0, .ref o)]) hx hb dX4_call_19 rfl hl (by decide) rfl (fun ls hl => ?_)
  refine z_iconst hX dX4_call_20 ?_
  refine z_top (y := ↑(0 : Nat)) (rfl) ?_
  refine lv_istore_n (lv' := [(2, .int (iI (↑(0 : Nat)))), (1, .int (iI ((coF n0 (gA (σ 0) 1 1) 0).2))), (0, .ref o)]) hx hb dX4_call_21 rfl hl (by decide) rfl (fun ls hl => ?_)
  have L22 : ∀ (n : Nat) (k : Nat), (n0 < k + n) → (k ≤ n0) → (gOk (coF n0 (gA (σ 0) 1 1) k).1 B ∧ (coF n0 (gA (σ 0) 1 1) k).1 0 = n0) → ∀ (H : Heap) (locs : List Loc) (ls : Array Slot), va_P D vwCl (mW o ad cA (sA (kF 0 σ n6) 0 (coF n0 (gA (σ 0) 1 1) k).1)) H → va_S (wA (mW o ad cA) sz) s.heap H locs → lv_has ls 5 [(0, .ref o), (1, .int (iI ((coF n0 (gA (σ 0) 1 1) k).2))), (2, .int (iI (↑k)))] → W p l e (headSpec (ws_ yX4_call cX4_call 5 (some .int)) { frames := 2, cells := 0, slots := 0, locals := 46 }).room s m ([.ref o] : List Value).toArray below meth c H locs 0 0 (MQ below (wQi D vwCl (mW o ad cA) (fI ((sCall n0 (σ 0)).2) (sA (kF 0 σ n6) 0 (sCall n0 (σ 0)).1)) sz) ([.ref o] : List Value).toArray s 0 0 (wA (mW o ad cA) sz)) (F0 m 22 ls []) := by
    intro n
    induction n with
    | zero =>
      intro k hf hk hG H locs ls hP hS hl
      exact absurd hf (by omega)
    | succ n ih22 =>
      intro k hf hk hG H locs ls hP hS hl
      refine lv_iload_n hx hb dX4_call_22 rfl (lv_at hl 2 rfl) ?_
      refine lv_aload_n hx hb dX4_call_23 rfl (lv_at hl 0 rfl) ?_
      refine m_get hX hK hP 0 (by decide) q1908 rfl dX4_call_24 ?_
      refine W.eq (g2 := F0 m 27 ls [.ref (ad 0), .int (iI (↑k))]) rfl ?_
      refine z_iconst hX dX4_call_27 ?_
      refine m_ld hX hK hP mW_e0 0 (by decide) (by decide) dX4_call_28 ?_
      refine z_top (y := ((coF n0 (gA (σ 0) 1 1) k).1) 0) (by rw [sA_j]) ?_
      refine z_icmp_ge (tgt := 88) hX (by omega) dX4_call_29 (by decide) (fun c_29 => ?_) (fun c_29 => ?_)
      · skip
        obtain rfl : n0 = k := by omega
        refine lv_iload_n hx hb dX4_call_88 rfl (lv_at hl 1 rfl) ?_
        exact w_iret hX hP hS (⟨rfl, rfl⟩) dX4_call_89
      · skip
        refine z_iconst hX dX4_call_32 ?_
        refine z_top (y := ↑(0 : Nat)) (rfl) ?_
        refine lv_istore_n (lv' := [(3, .int (iI (↑(0 : Nat)))), (0, .ref o), (1, .int (iI ((coF n0 (gA (σ 0) 1 1) k).2))), (2, .int (iI (↑k)))]) hx hb dX4_call_33 rfl hl (by decide) rfl (fun ls hl => ?_)
        have L34 : ∀ (n : Nat) (j : Nat), (n0 < j + n) → (j ≤ n0) → (gOk (ciF k j (coF n0 (gA (σ 0) 1 1) k)).1 B ∧ (ciF k j (coF n0 (gA (σ 0) 1 1) k)).1 0 = n0) → ∀ (H : Heap) (locs : List Loc) (ls : Array Slot), va_P D vwCl (mW o ad cA (sA (kF 0 σ n6) 0 (ciF k j (coF n0 (gA (σ 0) 1 1) k)).1)) H → va_S (wA (mW o ad cA) sz) s.heap H locs → lv_has ls 5 [(0, .ref o), (1, .int (iI ((ciF k j (coF n0 (gA (σ 0) 1 1) k)).2))), (2, .int (iI (↑k))), (3, .int (iI (↑j)))] → W p l e (headSpec (ws_ yX4_call cX4_call 5 (some .int)) { frames := 2, cells := 0, slots := 0, locals := 46 }).room s m ([.ref o] : List Value).toArray below meth c H locs 0 0 (MQ below (wQi D vwCl (mW o ad cA) (fI ((sCall n0 (σ 0)).2) (sA (kF 0 σ n6) 0 (sCall n0 (σ 0)).1)) sz) ([.ref o] : List Value).toArray s 0 0 (wA (mW o ad cA) sz)) (F0 m 34 ls []) := by
          intro n
          induction n with
          | zero =>
            intro j hf hj hI H locs ls hP hS hl
            exact absurd hf (by omega)
          | succ n ih34 =>
            intro j hf hj hI H locs ls hP hS hl
            refine lv_iload_n hx hb dX4_call_34 rfl (lv_at hl 3 rfl) ?_
            refine lv_aload_n hx hb dX4_call_35 rfl (lv_at hl 0 rfl) ?_
            refine m_get hX hK hP 0 (by decide) q1908 rfl dX4_call_36 ?_
            refine W.eq (g2 := F0 m 39 ls [.ref (ad 0), .int (iI (↑j))]) rfl ?_
            refine z_iconst hX dX4_call_39 ?_
            refine m_ld hX hK hP mW_e0 0 (by decide) (by decide) dX4_call_40 ?_
            refine z_top (y := ((ciF k j (coF n0 (gA (σ 0) 1 1) k)).1) 0) (by rw [sA_j]) ?_
            refine z_icmp_ge (tgt := 82) hX (by omega) dX4_call_41 (by decide) (fun c_41 => ?_) (fun c_41 => ?_)
            · skip
              obtain rfl : n0 = j := by omega
              refine z_iinc (y := ↑(k + 1)) (lv' := [(2, .int (iI (↑(k + 1)))), (0, .ref o), (1, .int (iI ((ciF k n0 (coF n0 (gA (σ 0) 1 1) k)).2))), (3, .int (iI (↑n0)))]) hX dX4_call_82 hl (k := 2) rfl (by omega) (by decide) rfl (fun ls hl => ?_)
              refine lv_goto (tgt := 22) hx hb dX4_call_85 (by decide) ?_
              exact ih22 (k + 1) (by omega) (by omega) (hI) _ _ _ hP hS (lv_sub hl [1, 2, 0] rfl)
            · skip
              have hca := hI.1.2.1 k (by omega)
              have hde := hI.1.2.2.1 k j (by omega) (by omega)
              have hmv := sMov_ok (v := min ((ciF k j (coF n0 (gA (σ 0) 1 1) k)).1 (5 + k)) ((ciF k j (coF n0 (gA (σ 0) 1 1) k)).1 (12 + 7 * k + j))) hI.1 (d := k) (c := j) (by omega) (by omega) (by omega) (by omega) (by omega)
              refine lv_aload_n hx hb dX4_call_44 rfl (lv_at hl 0 rfl) ?_
              refine m_get hX hK hP 0 (by decide) q1908 rfl dX4_call_45 ?_
              refine z_iconst hX dX4_call_48 ?_
              refine lv_iload_n hx hb dX4_call_49 rfl (lv_at hl 2 rfl) ?_
              refine z_iadd hX dX4_call_50 ?_
              refine W.eq (g2 := F0 m 51 ls [.int (iI (5 + (↑k))), .ref (ad 0)]) rfl ?_
              refine m_ld hX hK hP mW_e0 (5 + k) (by omega) (by decide) dX4_call_51 ?_
              refine z_top (y := ((ciF k j (coF n0 (gA (σ 0) 1 1) k)).1) (5 + k)) (by rw [sA_j]) ?_
              refine lv_aload_n hx hb dX4_call_52 rfl (lv_at hl 0 rfl) ?_
              refine lv_iload_n hx hb dX4_call_53 rfl (lv_at hl 2 rfl) ?_
              refine lv_iload_n hx hb dX4_call_54 rfl (lv_at hl 3 rfl) ?_
              refine m_calli (As := [.int (iI (↑k)), .int (iI (↑j))]) (rest := [.int (iI (((ciF k j (coF n0 (gA (σ 0) 1 1) k)).1) (5 + k)))]) hZ hX hK hD hA hE hP hS (c_owes hZ (sA (kF 0 σ n6) 0 (ciF k j (coF n0 (gA (σ 0) 1 1) k)).1) _ k j _ _ ⟨rfl, by omega⟩ ⟨rfl, by omega⟩) (cwV 2 hX.hts (lw_V q2018 q2020 qs47 q89 q2021) rfl rfl rfl (by decide +kernel) ⟨Nat.le_of_ble_eq_true rfl, Nat.le_of_ble_eq_true rfl⟩) rfl hl.1 (lv_room (Nat.le_of_ble_eq_true rfl)) dX4_call_55 ⟨Nat.le_refl _, Nat.le_refl _⟩ rfl (fun  H locs hP hS => ?_)
              refine z_top (y := ((ciF k j (coF n0 (gA (σ 0) 1 1) k)).1) (12 + 7 * k + j)) (by rw [sA_j]) ?_
              refine p_callSi (As := [.int (iI (((ciF k j (coF n0 (gA (σ 0) 1 1) k)).1) (5 + k))), .int (iI (((ciF k j (coF n0 (gA (σ 0) 1 1) k)).1) (12 + 7 * k + j)))]) (rest := []) hZ hX hK hA hE hP hS (c_least hZ _ (((ciF k j (coF n0 (gA (σ 0) 1 1) k)).1) (5 + k)) (((ciF k j (coF n0 (gA (σ 0) 1 1) k)).1) (12 + 7 * k + j)) (by omega)) (va_cwS 2 hX.hts (lw_S q2034 q2035 q89 q2036) rfl rfl rfl (by decide +kernel) ⟨Nat.le_of_ble_eq_true rfl, Nat.le_of_ble_eq_true rfl⟩) rfl hl.1 (lv_room (Nat.le_of_ble_eq_true rfl)) dX4_call_58 ⟨Nat.le_refl _, Nat.le_refl _⟩ rfl (fun  H locs hP hS => ?_)
              refine lv_istore (lv' := [(4, .int (iI (min (((ciF k j (coF n0 (gA (σ 0) 1 1) k)).1) (5 + k)) (((ciF k j (coF n0 (gA (σ 0) 1 1) k)).1) (12 + 7 * k + j))))), (0, .ref o), (1, .int (iI ((ciF k j (coF n0 (gA (σ 0) 1 1) k)).2))), (2, .int (iI (↑k))), (3, .int (iI (↑j)))]) hx hb dX4_call_61 hl (by decide) rfl (fun ls hl => ?_)
              refine lv_aload_n hx hb dX4_call_63 rfl (lv_at hl 1 rfl) ?_
              refine lv_iload_n hx hb dX4_call_64 rfl (lv_at hl 3 rfl) ?_
              refine lv_iload_n hx hb dX4_call_65 rfl (lv_at hl 4 rfl) ?_
              refine W.eq (g2 := F0 m 66 ls [.int (iI (↑j)), .int (iI (↑k)), .ref o]) rfl ?_
              refine lv_iload hx hb dX4_call_66 (lv_at hl 0 rfl) ?_
              refine m_callv (As := [.int (iI (↑k)), .int (iI (↑j)), .int (iI (min (((ciF k j (coF n0 (gA (σ 0) 1 1) k)).1) (5 + k)) (((ciF k j (coF n0 (gA (σ 0) 1 1) k)).1) (12 + 7 * k + j))))]) (rest := []) hZ hX hK hD hA hE hP hS (c_moves hZ (sA (kF 0 σ n6) 0 (ciF k j (coF n0 (gA (σ 0) 1 1) k)).1) _ k j _ _ (min ((ciF k j (coF n0 (gA (σ 0) 1 1) k)).1 (5 + k)) ((ciF k j (coF n0 (gA (σ 0) 1 1) k)).1 (12 + 7 * k + j))) (by omega) (by omega)) (cwV 3 hX.hts (lw_V q2026 q2028 qs48 q89 q2029) rfl rfl rfl (by decide +kernel) ⟨Nat.le_of_ble_eq_true rfl, Nat.le_of_ble_eq_true rfl⟩) rfl hl.1 (lv_room (Nat.le_of_ble_eq_true rfl)) dX4_call_68 ⟨Nat.le_refl _, Nat.le_refl _⟩ rfl (fun  H locs hP hS => ?_)
              rw [show sA (sA (kF 0 σ n6) 0 (ciF k j (coF n0 (gA (σ 0) 1 1) k)).1) 0 (sMov ((sA (kF 0 σ n6) 0 (ciF k j (coF n0 (gA (σ 0) 1 1) k)).1) 0) k j (min ((ciF k j (coF n0 (gA (σ 0) 1 1) k)).1 (5 + k)) ((ciF k j (coF n0 (gA (σ 0) 1 1) k)).1 (12 + 7 * k + j)))) = sA (kF 0 σ n6) 0 (sMov ((ciF k j (coF n0 (gA (σ 0) 1 1) k)).1) k j (min ((ciF k j (coF n0 (gA (σ 0) 1 1) k)).1 (5 + k)) ((ciF k j (coF n0 (gA (σ 0) 1 1) k)).1 (12 + 7 * k + j)))) from by rw [sA_sA, sA_j]] at hP
              refine lv_iload_n hx hb dX4_call_71 rfl (lv_at hl 2 rfl) ?_
              refine lv_iload hx hb dX4_call_72 (lv_at hl 0 rfl) ?_
              refine z_iadd hX dX4_call_74 ?_
              refine z_top (y := (ciF k (j + 1) (coF n0 (gA (σ 0) 1 1) k)).2) (rfl) ?_
              refine lv_istore_n (lv' := [(1, .int (iI ((ciF k (j + 1) (coF n0 (gA (σ 0) 1 1) k)).2))), (4, .int (iI (min (((ciF k j (coF n0 (gA (σ 0) 1 1) k)).1) (5 + k)) (((ciF k j (coF n0 (gA (σ 0) 1 1) k)).1) (12 + 7 * k + j))))), (0, .ref o), (2, .int (iI (↑k))), (3, .int (iI (↑j)))]) hx hb dX4_call_75 rfl hl (by decide) rfl (fun ls hl => ?_)
              refine z_iinc (y := ↑(j + 1)) (lv' := [(3, .int (iI (↑(j + 1)))), (1, .int (iI ((ciF k (j + 1) (coF n0 (gA (σ 0) 1 1) k)).2))), (4, .int (iI (min (((ciF k j (coF n0 (gA (σ 0) 1 1) k)).1) (5 + k)) (((ciF k j (coF n0 (gA (σ 0) 1 1) k)).1) (12 + 7 * k + j))))), (0, .ref o), (2, .int (iI (↑k)))]) hX dX4_call_76 hl (k := 4) rfl (by omega) (by decide) rfl (fun ls hl => ?_)
              refine lv_goto (tgt := 34) hx hb dX4_call_79 (by decide) ?_
              exact ih34 (j + 1) (by omega) (by omega) (⟨hmv.1, hmv.2.trans hI.2⟩) _ _ _ hP hS (lv_sub hl [3, 1, 4, 0] rfl)
        exact L34 (n0 + 1) (0) (by omega) (by omega) (hG) _ _ _ hP hS (lv_sub hl [1, 2, 3, 0] rfl)
  exact L22 (n0 + 1) (0) (by omega) (by omega) (by show gOk (gU (σ 0) 1 (σ 0 1 + 1)) B ∧ gU (σ 0) 1 (σ 0 1 + 1) 0 = ↑n0; exact ⟨gOk_lo hgo (by decide), (gU_ne (by decide)).trans hn.1⟩) _ _ _ hP hS (lv_sub hl [2, 1, 0] rfl)
