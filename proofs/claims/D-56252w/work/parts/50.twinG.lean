/-! the twin reads: commands (2) -/
set_option maxRecDepth 100000
set_option maxHeartbeats 4000000 in
theorem c_withC {l : Launch} {D : va_G} {Z : zZ} {o : Nat} {ad : Nat → Nat} {cA : Nat → ClassId} (hZ : zOk Z) (σ : zT) (sz : Nat) (len : Nat) (hlen : σ 10 0 = len ∧ len ≤ 60) (hin : ∀ k, k < len → 0 ≤ σ 9 k ∧ σ 9 k < 65536) (a : Nat) (t : Nat → Int) (hal : a ≤ len) (tm : Nat) (htm : σ 21 0 = tm ∧ tm < 31) (pl : Nat) (E1 : Int) (hE1 : E1 = (pl : Int) ∧ pl < 123) {sq sv : Nat → Nat} (hst : ∀ A U H, Z A U H → tS sq sv A U H) (hj : ∀ A U H, Z A U H → jJ A U H) : MI l D Z o ad cA yX4_withC (ws_ yX4_withC cX4_withC 2 (some .boolean)) { frames := 5, cells := 0, slots := 0, locals := 244 } [.ref o, .int (iI (E1))] sz (pS σ a t) (fR ((pP σ (wcS (σ 9) len tm pl (a, t))))) := by
  obtain ⟨rfl, hpl⟩ := hE1
  refine w_met (cc := cX4_withC) (maxL := 2) (ret := some .boolean) (own := RX4) (by decide) rfl rfl mW_ok (Nat.le_of_ble_eq_true rfl) ?_
  intro p e s m below meth c hX hsz hK hP hD hA hE hS hR ls hl
  have hx := hX.1
  have hb := hX.2.1
  have hl : lv_has ls 2 [(0, .ref o), (1, .int (iI (↑pl)))] := hl
  refine lv_aload_n hx hb dX4_withC_0 rfl (lv_at hl 0 rfl) ?_
  refine z_bipush hX dX4_withC_1 (by decide) ?_
  refine m_callR (As := [.int (iI (121))]) (rest := []) hZ hX hK hD hA hE hP hS (c_skips hZ σ _ len hlen hin a t (by omega) 121 (by decide)) (cwV 1 hX.hts (lw_V q2257 q2259 qs68 q89 q2260) rfl rfl rfl (by decide +kernel) ⟨Nat.le_of_ble_eq_true rfl, Nat.le_of_ble_eq_true rfl⟩) rfl hl.1 (lv_room (Nat.le_of_ble_eq_true rfl)) dX4_withC_3 ⟨Nat.le_refl _, Nat.le_refl _⟩ rfl (fun z1 y H locs hq hP hS => ?_)
  obtain ⟨b1, a1, t1, he1, hz1, hy1⟩ := hq
  rw [hy1] at hP
  refine z_top hz1 ?_
  have hal1 : a1 ≤ len := stp_le he1 (skS_stp (by decide) (by omega))
  refine z_if_eqB (tgt := 17) hX dX4_withC_6 (by decide) (fun c_6 => ?_) (fun c_6 => ?_)
  · skip
    first | (obtain rfl : b1 = true := c_6) | (obtain rfl : b1 = false := bN c_6)
    refine lv_aload_n hx hb dX4_withC_17 rfl (lv_at hl 0 rfl) ?_
    refine z_bipush hX dX4_withC_18 (by decide) ?_
    refine m_callR (As := [.int (iI (97))]) (rest := []) hZ hX hK hD hA hE hP hS (c_skips hZ σ _ len hlen hin a1 t1 (by omega) 97 (by decide)) (cwV 1 hX.hts (lw_V q2257 q2259 qs68 q89 q2260) rfl rfl rfl (by decide +kernel) ⟨Nat.le_of_ble_eq_true rfl, Nat.le_of_ble_eq_true rfl⟩) rfl hl.1 (lv_room (Nat.le_of_ble_eq_true rfl)) dX4_withC_20 ⟨Nat.le_refl _, Nat.le_refl _⟩ rfl (fun z2 y H locs hq hP hS => ?_)
    obtain ⟨b2, a2, t2, he2, hz2, hy2⟩ := hq
    rw [hy2] at hP
    refine z_top hz2 ?_
    have hal2 : a2 ≤ len := stp_le he2 (skS_stp (by decide) (by omega))
    refine z_if_neB (tgt := 28) hX dX4_withC_23 (by decide) (fun c_23 => ?_) (fun c_23 => ?_)
    · skip
      first | (obtain rfl : b2 = true := c_23) | (obtain rfl : b2 = false := bN c_23)
      refine lv_aload_n hx hb dX4_withC_28 rfl (lv_at hl 0 rfl) ?_
      refine W.eq (g2 := F0 m 29 ls [.ref o]) rfl ?_
      refine z_bipush hX dX4_withC_29 (by decide) ?_
      refine m_callR (As := [.int (iI (108))]) (rest := []) hZ hX hK hD hA hE hP hS (c_skips hZ σ _ len hlen hin a2 t2 (by omega) 108 (by decide)) (cwV 1 hX.hts (lw_V q2257 q2259 qs68 q89 q2260) rfl rfl rfl (by decide +kernel) ⟨Nat.le_of_ble_eq_true rfl, Nat.le_of_ble_eq_true rfl⟩) rfl hl.1 (lv_room (Nat.le_of_ble_eq_true rfl)) dX4_withC_31 ⟨Nat.le_refl _, Nat.le_refl _⟩ rfl (fun z3 y H locs hq hP hS => ?_)
      obtain ⟨b3, a3, t3, he3, hz3, hy3⟩ := hq
      rw [hy3] at hP
      refine z_top hz3 ?_
      have hal3 : a3 ≤ len := stp_le he3 (skS_stp (by decide) (by omega))
      refine z_if_eqB (tgt := 46) hX dX4_withC_34 (by decide) (fun c_34 => ?_) (fun c_34 => ?_)
      · skip
        first | (obtain rfl : b3 = true := c_34) | (obtain rfl : b3 = false := bN c_34)
        refine lv_aload_n hx hb dX4_withC_46 rfl (lv_at hl 0 rfl) ?_
        refine z_bipush hX dX4_withC_47 (by decide) ?_
        refine m_callR (As := [.int (iI (115))]) (rest := []) hZ hX hK hD hA hE hP hS (c_skips hZ σ _ len hlen hin a3 t3 (by omega) 115 (by decide)) (cwV 1 hX.hts (lw_V q2257 q2259 qs68 q89 q2260) rfl rfl rfl (by decide +kernel) ⟨Nat.le_of_ble_eq_true rfl, Nat.le_of_ble_eq_true rfl⟩) rfl hl.1 (lv_room (Nat.le_of_ble_eq_true rfl)) dX4_withC_49 ⟨Nat.le_refl _, Nat.le_refl _⟩ rfl (fun z4 y H locs hq hP hS => ?_)
        obtain ⟨b4, a4, t4, he4, hz4, hy4⟩ := hq
        rw [hy4] at hP
        refine z_top hz4 ?_
        have hal4 : a4 ≤ len := stp_le he4 (skS_stp (by decide) (by omega))
        refine z_if_neB (tgt := 57) hX dX4_withC_52 (by decide) (fun c_52 => ?_) (fun c_52 => ?_)
        · skip
          first | (obtain rfl : b4 = true := c_52) | (obtain rfl : b4 = false := bN c_52)
          refine lv_aload_n hx hb dX4_withC_57 rfl (lv_at hl 0 rfl) ?_
          refine z_bipush hX dX4_withC_58 (by decide) ?_
          refine m_callR (As := [.int (iI (99))]) (rest := []) hZ hX hK hD hA hE hP hS (c_skips hZ σ _ len hlen hin a4 t4 (by omega) 99 (by decide)) (cwV 1 hX.hts (lw_V q2257 q2259 qs68 q89 q2260) rfl rfl rfl (by decide +kernel) ⟨Nat.le_of_ble_eq_true rfl, Nat.le_of_ble_eq_true rfl⟩) rfl hl.1 (lv_room (Nat.le_of_ble_eq_true rfl)) dX4_withC_60 ⟨Nat.le_refl _, Nat.le_refl _⟩ rfl (fun z5 y H locs hq hP hS => ?_)
          obtain ⟨b5, a5, t5, he5, hz5, hy5⟩ := hq
          rw [hy5] at hP
          refine z_top hz5 ?_
          have hal5 : a5 ≤ len := stp_le he5 (skS_stp (by decide) (by omega))
          refine W.eq (g2 := F0 m 63 ls [.int (iI (bI (b5 = true)))]) rfl ?_
          refine z_if_eqB (tgt := 77) hX dX4_withC_63 (by decide) (fun c_63 => ?_) (fun c_63 => ?_)
          · skip
            first | (obtain rfl : b5 = true := c_63) | (obtain rfl : b5 = false := bN c_63)
            refine lv_aload_n hx hb dX4_withC_77 rfl (lv_at hl 0 rfl) ?_
            refine z_iconst hX dX4_withC_78 ?_
            refine va_ldcS hx hb hX.ow (hst _ _ _ hE 1 _ rfl).1 dX4_withC_79 ?_
            refine m_callR (As := [.int (iI (1)), .ref (sq 1)]) (rest := []) hZ hX hK hD hA hE hP hS (c_isWord hZ σ _ len hlen hin a5 t5 (by omega) tm htm 1 [104] ⟨by decide, by decide⟩ (fun A U H h => (hst A U H h 1 _ rfl).2) hj) (cwV 2 hX.hts (lw_V q2266 q2268 qs70 q89 q2269) rfl rfl rfl (by decide +kernel) ⟨Nat.le_of_ble_eq_true rfl, Nat.le_of_ble_eq_true rfl⟩) rfl hl.1 (lv_room (Nat.le_of_ble_eq_true rfl)) dX4_withC_81 ⟨Nat.le_refl _, Nat.le_refl _⟩ rfl (fun z6 y H locs hq hP hS => ?_)
            obtain ⟨b6, a6, t6, he6, hz6, hy6⟩ := hq
            rw [hy6] at hP
            refine z_top hz6 ?_
            have hal6 : a6 ≤ len := stp_le he6 (wdS_stp (by omega))
            refine z_if_eqB (tgt := 111) hX dX4_withC_84 (by decide) (fun c_84 => ?_) (fun c_84 => ?_)
            · skip
              first | (obtain rfl : b6 = true := c_84) | (obtain rfl : b6 = false := bN c_84)
              refine z_iconst hX dX4_withC_111 ?_
              exact w_zret hX hP hS (by decide) (pP_of (b := false) (by simp only [wcS, anS, ifS_t, ifS_f, noS, he1, he2, he3, he4, he5, he6]) (by first | rfl | decide)) dX4_withC_112
            · skip
              first | (obtain rfl : b6 = true := c_84) | (obtain rfl : b6 = false := bN c_84)
              refine lv_aload_n hx hb dX4_withC_87 rfl (lv_at hl 0 rfl) ?_
              refine lv_iload_n hx hb dX4_withC_88 rfl (lv_at hl 1 rfl) ?_
              refine z_iconst hX dX4_withC_89 ?_
              refine W.eq (g2 := F0 m 90 ls [.int (iI (1)), .int (iI (↑pl)), .ref o]) rfl ?_
              refine m_callR (As := [.int (iI (↑pl)), .int (iI (1))]) (rest := []) hZ hX hK hD hA hE hP hS (c_figures hZ σ _ len hlen hin a6 t6 (by omega) pl 1 (↑pl) 1 (by omega) (by omega)) (cwV 2 hX.hts (lw_V q2272 q2274 qs71 q89 q2275) rfl rfl rfl (by decide +kernel) ⟨Nat.le_of_ble_eq_true rfl, Nat.le_of_ble_eq_true rfl⟩) rfl hl.1 (lv_room (Nat.le_of_ble_eq_true rfl)) dX4_withC_90 ⟨Nat.le_refl _, Nat.le_refl _⟩ rfl (fun z7 y H locs hq hP hS => ?_)
              obtain ⟨b7, a7, t7, he7, hz7, hy7⟩ := hq
              rw [hy7] at hP
              refine z_top hz7 ?_
              have hal7 : a7 ≤ len := stp_le he7 (fgS_stp (by omega))
              refine z_if_eqB (tgt := 111) hX dX4_withC_93 (by decide) (fun c_93 => ?_) (fun c_93 => ?_)
              · skip
                first | (obtain rfl : b7 = true := c_93) | (obtain rfl : b7 = false := bN c_93)
                refine z_iconst hX dX4_withC_111 ?_
                exact w_zret hX hP hS (by decide) (pP_of (b := false) (by simp only [wcS, anS, ifS_t, ifS_f, noS, he1, he2, he3, he4, he5, he6, he7]) (by first | rfl | decide)) dX4_withC_112
              · skip
                first | (obtain rfl : b7 = true := c_93) | (obtain rfl : b7 = false := bN c_93)
                refine lv_aload_n hx hb dX4_withC_96 rfl (lv_at hl 0 rfl) ?_
                refine lv_iload_n hx hb dX4_withC_97 rfl (lv_at hl 1 rfl) ?_
                refine z_iconst hX dX4_withC_98 ?_
                refine z_iadd hX dX4_withC_99 ?_
                refine z_iconst hX dX4_withC_100 ?_
                refine m_callR (As := [.int (iI ((↑pl) + 1)), .int (iI (3))]) (rest := []) hZ hX hK hD hA hE hP hS (c_figures hZ σ _ len hlen hin a7 t7 (by omega) (pl + 1) 3 ((↑pl) + 1) 3 (by omega) (by omega)) (cwV 2 hX.hts (lw_V q2272 q2274 qs71 q89 q2275) rfl rfl rfl (by decide +kernel) ⟨Nat.le_of_ble_eq_true rfl, Nat.le_of_ble_eq_true rfl⟩) rfl hl.1 (lv_room (Nat.le_of_ble_eq_true rfl)) dX4_withC_101 ⟨Nat.le_refl _, Nat.le_refl _⟩ rfl (fun z8 y H locs hq hP hS => ?_)
                obtain ⟨b8, a8, t8, he8, hz8, hy8⟩ := hq
                rw [hy8] at hP
                refine z_top hz8 ?_
                have hal8 : a8 ≤ len := stp_le he8 (fgS_stp (by omega))
                refine W.eq (g2 := F0 m 104 ls [.int (iI (bI (b8 = true)))]) rfl ?_
                refine z_if_eqB (tgt := 111) hX dX4_withC_104 (by decide) (fun c_104 => ?_) (fun c_104 => ?_)
                · skip
                  first | (obtain rfl : b8 = true := c_104) | (obtain rfl : b8 = false := bN c_104)
                  refine z_iconst hX dX4_withC_111 ?_
                  exact w_zret hX hP hS (by decide) (pP_of (b := false) (by simp only [wcS, anS, ifS_t, ifS_f, noS, he1, he2, he3, he4, he5, he6, he7, he8]) (by first | rfl | decide)) dX4_withC_112
                · skip
                  first | (obtain rfl : b8 = true := c_104) | (obtain rfl : b8 = false := bN c_104)
                  refine z_iconst hX dX4_withC_107 ?_
                  refine lv_goto (tgt := 112) hx hb dX4_withC_108 (by decide) ?_
                  exact w_zret hX hP hS (by decide) (pP_of (b := true) (by simp only [wcS, anS, ifS_t, ifS_f, noS, he1, he2, he3, he4, he5, he6, he7, he8]) (by first | rfl | decide)) dX4_withC_112
          · skip
            first | (obtain rfl : b5 = true := c_63) | (obtain rfl : b5 = false := bN c_63)
            refine lv_aload_n hx hb dX4_withC_66 rfl (lv_at hl 0 rfl) ?_
            refine z_bipush hX dX4_withC_67 (by decide) ?_
            refine va_ldcS hx hb hX.ow (hst _ _ _ hE 8 _ rfl).1 dX4_withC_69 ?_
            refine m_callR (As := [.int (iI (8)), .ref (sq 8)]) (rest := []) hZ hX hK hD hA hE hP hS (c_isWord hZ σ _ len hlen hin a5 t5 (by omega) tm htm 8 [97, 100, 101] ⟨by decide, by decide⟩ (fun A U H h => (hst A U H h 8 _ rfl).2) hj) (cwV 2 hX.hts (lw_V q2266 q2268 qs70 q89 q2269) rfl rfl rfl (by decide +kernel) ⟨Nat.le_of_ble_eq_true rfl, Nat.le_of_ble_eq_true rfl⟩) rfl hl.1 (lv_room (Nat.le_of_ble_eq_true rfl)) dX4_withC_71 ⟨Nat.le_refl _, Nat.le_refl _⟩ rfl (fun z13 y H locs hq hP hS => ?_)
            obtain ⟨b13, a13, t13, he13, hz13, hy13⟩ := hq
            rw [hy13] at hP
            refine z_top hz13 ?_
            have hal13 : a13 ≤ len := stp_le he13 (wdS_stp (by omega))
            refine lv_goto (tgt := 112) hx hb dX4_withC_74 (by decide) ?_
            refine W.eq (g2 := F0 m 112 ls [.int (iI (bI (b13 = true)))]) rfl ?_
            exact w_zret hX hP hS (bI_01) (pP_of (b := b13) (by simp only [wcS, anS, ifS_t, ifS_f, noS, he1, he2, he3, he4, he5, he13]) (by first | rfl | decide)) dX4_withC_112
        · skip
          first | (obtain rfl : b4 = true := c_52) | (obtain rfl : b4 = false := bN c_52)
          refine z_iconst hX dX4_withC_55 ?_
          exact w_zret hX hP hS (by decide) (pP_of (b := false) (by simp only [wcS, anS, ifS_t, ifS_f, noS, he1, he2, he3, he4]) (by first | rfl | decide)) dX4_withC_56
      · skip
        first | (obtain rfl : b3 = true := c_34) | (obtain rfl : b3 = false := bN c_34)
        refine lv_aload_n hx hb dX4_withC_37 rfl (lv_at hl 0 rfl) ?_
        refine z_bipush hX dX4_withC_38 (by decide) ?_
        refine va_ldcS hx hb hX.ow (hst _ _ _ hE 9 _ rfl).1 dX4_withC_40 ?_
        refine m_callR (As := [.int (iI (9)), .ref (sq 9)]) (rest := []) hZ hX hK hD hA hE hP hS (c_isWord hZ σ _ len hlen hin a3 t3 (by omega) tm htm 9 [108] ⟨by decide, by decide⟩ (fun A U H h => (hst A U H h 9 _ rfl).2) hj) (cwV 2 hX.hts (lw_V q2266 q2268 qs70 q89 q2269) rfl rfl rfl (by decide +kernel) ⟨Nat.le_of_ble_eq_true rfl, Nat.le_of_ble_eq_true rfl⟩) rfl hl.1 (lv_room (Nat.le_of_ble_eq_true rfl)) dX4_withC_42 ⟨Nat.le_refl _, Nat.le_refl _⟩ rfl (fun z12 y H locs hq hP hS => ?_)
        obtain ⟨b12, a12, t12, he12, hz12, hy12⟩ := hq
        rw [hy12] at hP
        refine z_top hz12 ?_
        have hal12 : a12 ≤ len := stp_le he12 (wdS_stp (by omega))
        exact w_zret hX hP hS (bI_01) (pP_of (b := b12) (by simp only [wcS, anS, ifS_t, ifS_f, noS, he1, he2, he3, he12]) (by first | rfl | decide)) dX4_withC_45
    · skip
      first | (obtain rfl : b2 = true := c_23) | (obtain rfl : b2 = false := bN c_23)
      refine z_iconst hX dX4_withC_26 ?_
      exact w_zret hX hP hS (by decide) (pP_of (b := false) (by simp only [wcS, anS, ifS_t, ifS_f, noS, he1, he2]) (by first | rfl | decide)) dX4_withC_27
  · skip
    first | (obtain rfl : b1 = true := c_6) | (obtain rfl : b1 = false := bN c_6)
    refine lv_aload_n hx hb dX4_withC_9 rfl (lv_at hl 0 rfl) ?_
    refine W.eq (g2 := F0 m 10 ls [.ref o]) rfl ?_
    refine z_iconst hX dX4_withC_10 ?_
    refine va_ldcS hx hb hX.ow (hst _ _ _ hE 5 _ rfl).1 dX4_withC_11 ?_
    refine m_callR (As := [.int (iI (5)), .ref (sq 5)]) (rest := []) hZ hX hK hD hA hE hP hS (c_isWord hZ σ _ len hlen hin a1 t1 (by omega) tm htm 5 [99, 108, 101] ⟨by decide, by decide⟩ (fun A U H h => (hst A U H h 5 _ rfl).2) hj) (cwV 2 hX.hts (lw_V q2266 q2268 qs70 q89 q2269) rfl rfl rfl (by decide +kernel) ⟨Nat.le_of_ble_eq_true rfl, Nat.le_of_ble_eq_true rfl⟩) rfl hl.1 (lv_room (Nat.le_of_ble_eq_true rfl)) dX4_withC_13 ⟨Nat.le_refl _, Nat.le_refl _⟩ rfl (fun z11 y H locs hq hP hS => ?_)
    obtain ⟨b11, a11, t11, he11, hz11, hy11⟩ := hq
    rw [hy11] at hP
    refine z_top hz11 ?_
    have hal11 : a11 ≤ len := stp_le he11 (wdS_stp (by omega))
    exact w_zret hX hP hS (bI_01) (pP_of (b := b11) (by simp only [wcS, anS, ifS_t, ifS_f, noS, he1, he11]) (by first | rfl | decide)) dX4_withC_16
set_option maxHeartbeats 4000000 in
theorem c_commandHere {l : Launch} {D : va_G} {Z : zZ} {o : Nat} {ad : Nat → Nat} {cA : Nat → ClassId} (hZ : zOk Z) (σ : zT) (sz : Nat) (len : Nat) (hlen : σ 10 0 = len ∧ len ≤ 60) (hin : ∀ k, k < len → 0 ≤ σ 9 k ∧ σ 9 k < 65536) (a : Nat) (t : Nat → Int) (hal : a ≤ len) (tm : Nat) (htm : σ 21 0 = tm ∧ tm < 30) {sq sv : Nat → Nat} (hst : ∀ A U H, Z A U H → tS sq sv A U H) (hj : ∀ A U H, Z A U H → jJ A U H) : MI l D Z o ad cA yX4_commandHere (ws_ yX4_commandHere cX4_commandHere 2 (some .boolean)) { frames := 6, cells := 0, slots := 0, locals := 265 } [.ref o] sz (pS σ a t) (fR ((pP σ (cmS (σ 9) len tm (a, t))))) := by
  refine w_met (cc := cX4_commandHere) (maxL := 2) (ret := some .boolean) (own := RX4) (by decide) rfl rfl mW_ok (Nat.le_of_ble_eq_true rfl) ?_
  intro p e s m below meth c hX hsz hK hP hD hA hE hS hR ls hl
  have hx := hX.1
  have hb := hX.2.1
  have hl : lv_has ls 2 [(0, .ref o)] := hl
  refine z_iconst hX dX4_commandHere_0 ?_
  refine lv_aload_n hx hb dX4_commandHere_1 rfl (lv_at hl 0 rfl) ?_
  refine m_get hX hK hP 21 (by decide) q1929 rfl dX4_commandHere_2 ?_
  refine z_top (y := σ 21 0) (by rw [pS_i (by decide) (by decide)]) ?_
  refine z_imul hX dX4_commandHere_5 ?_
  refine z_iconst hX dX4_commandHere_6 ?_
  refine z_iadd hX dX4_commandHere_7 ?_
  refine z_top (y := ↑(4 * tm + 1)) (by rw [htm.1]; rfl) ?_
  refine lv_istore_n (lv' := [(1, .int (iI (↑(4 * tm + 1)))), (0, .ref o)]) hx hb dX4_commandHere_8 rfl hl (by decide) rfl (fun ls hl => ?_)
  refine lv_aload_n hx hb dX4_commandHere_9 rfl (lv_at hl 1 rfl) ?_
  refine z_bipush hX dX4_commandHere_10 (by decide) ?_
  refine W.eq (g2 := F0 m 12 ls [.int (iI (106)), .ref o]) rfl ?_
  refine m_callR (As := [.int (iI (106))]) (rest := []) hZ hX hK hD hA hE hP hS (c_skips hZ σ _ len hlen hin a t (by omega) 106 (by decide)) (cwV 1 hX.hts (lw_V q2257 q2259 qs68 q89 q2260) rfl rfl rfl (by decide +kernel) ⟨Nat.le_of_ble_eq_true rfl, Nat.le_of_ble_eq_true rfl⟩) rfl hl.1 (lv_room (Nat.le_of_ble_eq_true rfl)) dX4_commandHere_12 ⟨Nat.le_refl _, Nat.le_refl _⟩ rfl (fun z1 y H locs hq hP hS => ?_)
  obtain ⟨b1, a1, t1, he1, hz1, hy1⟩ := hq
  rw [hy1] at hP
  refine z_top hz1 ?_
  have hal1 : a1 ≤ len := stp_le he1 (skS_stp (by decide) (by omega))
  refine z_if_eqB (tgt := 43) hX dX4_commandHere_15 (by decide) (fun c_15 => ?_) (fun c_15 => ?_)
  · skip
    first | (obtain rfl : b1 = true := c_15) | (obtain rfl : b1 = false := bN c_15)
    refine lv_aload_n hx hb dX4_commandHere_43 rfl (lv_at hl 1 rfl) ?_
    refine z_bipush hX dX4_commandHere_44 (by decide) ?_
    refine m_callR (As := [.int (iI (99))]) (rest := []) hZ hX hK hD hA hE hP hS (c_skips hZ σ _ len hlen hin a1 t1 (by omega) 99 (by decide)) (cwV 1 hX.hts (lw_V q2257 q2259 qs68 q89 q2260) rfl rfl rfl (by decide +kernel) ⟨Nat.le_of_ble_eq_true rfl, Nat.le_of_ble_eq_true rfl⟩) rfl hl.1 (lv_room (Nat.le_of_ble_eq_true rfl)) dX4_commandHere_46 ⟨Nat.le_refl _, Nat.le_refl _⟩ rfl (fun z4 y H locs hq hP hS => ?_)
    obtain ⟨b4, a4, t4, he4, hz4, hy4⟩ := hq
    rw [hy4] at hP
    refine z_top hz4 ?_
    have hal4 : a4 ≤ len := stp_le he4 (skS_stp (by decide) (by omega))
    refine z_if_eqB (tgt := 58) hX dX4_commandHere_49 (by decide) (fun c_49 => ?_) (fun c_49 => ?_)
    · skip
      first | (obtain rfl : b4 = true := c_49) | (obtain rfl : b4 = false := bN c_49)
      refine lv_aload_n hx hb dX4_commandHere_58 rfl (lv_at hl 1 rfl) ?_
      refine z_bipush hX dX4_commandHere_59 (by decide) ?_
      refine m_callR (As := [.int (iI (111))]) (rest := []) hZ hX hK hD hA hE hP hS (c_skips hZ σ _ len hlen hin a4 t4 (by omega) 111 (by decide)) (cwV 1 hX.hts (lw_V q2257 q2259 qs68 q89 q2260) rfl rfl rfl (by decide +kernel) ⟨Nat.le_of_ble_eq_true rfl, Nat.le_of_ble_eq_true rfl⟩) rfl hl.1 (lv_room (Nat.le_of_ble_eq_true rfl)) dX4_commandHere_61 ⟨Nat.le_refl _, Nat.le_refl _⟩ rfl (fun z5 y H locs hq hP hS => ?_)
      obtain ⟨b5, a5, t5, he5, hz5, hy5⟩ := hq
      rw [hy5] at hP
      refine z_top hz5 ?_
      have hal5 : a5 ≤ len := stp_le he5 (skS_stp (by decide) (by omega))
      refine z_if_eqB (tgt := 102) hX dX4_commandHere_64 (by decide) (fun c_64 => ?_) (fun c_64 => ?_)
      · skip
        first | (obtain rfl : b5 = true := c_64) | (obtain rfl : b5 = false := bN c_64)
        refine W.eq (g2 := F0 m 102 ls []) rfl ?_
        refine lv_aload_n hx hb dX4_commandHere_102 rfl (lv_at hl 1 rfl) ?_
        refine z_bipush hX dX4_commandHere_103 (by decide) ?_
        refine m_callR (As := [.int (iI (97))]) (rest := []) hZ hX hK hD hA hE hP hS (c_skips hZ σ _ len hlen hin a5 t5 (by omega) 97 (by decide)) (cwV 1 hX.hts (lw_V q2257 q2259 qs68 q89 q2260) rfl rfl rfl (by decide +kernel) ⟨Nat.le_of_ble_eq_true rfl, Nat.le_of_ble_eq_true rfl⟩) rfl hl.1 (lv_room (Nat.le_of_ble_eq_true rfl)) dX4_commandHere_105 ⟨Nat.le_refl _, Nat.le_refl _⟩ rfl (fun z9 y H locs hq hP hS => ?_)
        obtain ⟨b9, a9, t9, he9, hz9, hy9⟩ := hq
        rw [hy9] at hP
        refine z_top hz9 ?_
        have hal9 : a9 ≤ len := stp_le he9 (skS_stp (by decide) (by omega))
        refine z_if_eqB (tgt := 120) hX dX4_commandHere_108 (by decide) (fun c_108 => ?_) (fun c_108 => ?_)
        · skip
          first | (obtain rfl : b9 = true := c_108) | (obtain rfl : b9 = false := bN c_108)
          refine lv_aload_n hx hb dX4_commandHere_120 rfl (lv_at hl 1 rfl) ?_
          refine z_bipush hX dX4_commandHere_121 (by decide) ?_
          refine m_callR (As := [.int (iI (100))]) (rest := []) hZ hX hK hD hA hE hP hS (c_skips hZ σ _ len hlen hin a9 t9 (by omega) 100 (by decide)) (cwV 1 hX.hts (lw_V q2257 q2259 qs68 q89 q2260) rfl rfl rfl (by decide +kernel) ⟨Nat.le_of_ble_eq_true rfl, Nat.le_of_ble_eq_true rfl⟩) rfl hl.1 (lv_room (Nat.le_of_ble_eq_true rfl)) dX4_commandHere_123 ⟨Nat.le_refl _, Nat.le_refl _⟩ rfl (fun z10 y H locs hq hP hS => ?_)
          obtain ⟨b10, a10, t10, he10, hz10, hy10⟩ := hq
          rw [hy10] at hP
          refine z_top hz10 ?_
          have hal10 : a10 ≤ len := stp_le he10 (skS_stp (by decide) (by omega))
          refine z_if_eqB (tgt := 155) hX dX4_commandHere_126 (by decide) (fun c_126 => ?_) (fun c_126 => ?_)
          · skip
            first | (obtain rfl : b10 = true := c_126) | (obtain rfl : b10 = false := bN c_126)
            refine lv_aload_n hx hb dX4_commandHere_155 rfl (lv_at hl 1 rfl) ?_
            refine z_bipush hX dX4_commandHere_156 (by decide) ?_
            refine W.eq (g2 := F0 m 158 ls [.int (iI (112)), .ref o]) rfl ?_
            refine m_callR (As := [.int (iI (112))]) (rest := []) hZ hX hK hD hA hE hP hS (c_skips hZ σ _ len hlen hin a10 t10 (by omega) 112 (by decide)) (cwV 1 hX.hts (lw_V q2257 q2259 qs68 q89 q2260) rfl rfl rfl (by decide +kernel) ⟨Nat.le_of_ble_eq_true rfl, Nat.le_of_ble_eq_true rfl⟩) rfl hl.1 (lv_room (Nat.le_of_ble_eq_true rfl)) dX4_commandHere_158 ⟨Nat.le_refl _, Nat.le_refl _⟩ rfl (fun z13 y H locs hq hP hS => ?_)
            obtain ⟨b13, a13, t13, he13, hz13, hy13⟩ := hq
            rw [hy13] at hP
            refine z_top hz13 ?_
            have hal13 : a13 ≤ len := stp_le he13 (skS_stp (by decide) (by omega))
            refine z_if_eqB (tgt := 173) hX dX4_commandHere_161 (by decide) (fun c_161 => ?_) (fun c_161 => ?_)
            · skip
              first | (obtain rfl : b13 = true := c_161) | (obtain rfl : b13 = false := bN c_161)
              refine z_iconst hX dX4_commandHere_173 ?_
              exact w_zret hX hP hS (by decide) (pP_of (b := false) (by simp only [cmS, anS, ifS_t, ifS_f, noS, he1, he4, he5, he9, he10, he13]) (by first | rfl | decide)) dX4_commandHere_174
            · skip
              first | (obtain rfl : b13 = true := c_161) | (obtain rfl : b13 = false := bN c_161)
              refine lv_aload_n hx hb dX4_commandHere_164 rfl (lv_at hl 1 rfl) ?_
              refine z_bipush hX dX4_commandHere_165 (by decide) ?_
              refine m_callR (As := [.int (iI (97))]) (rest := []) hZ hX hK hD hA hE hP hS (c_skips hZ σ _ len hlen hin a13 t13 (by omega) 97 (by decide)) (cwV 1 hX.hts (lw_V q2257 q2259 qs68 q89 q2260) rfl rfl rfl (by decide +kernel) ⟨Nat.le_of_ble_eq_true rfl, Nat.le_of_ble_eq_true rfl⟩) rfl hl.1 (lv_room (Nat.le_of_ble_eq_true rfl)) dX4_commandHere_167 ⟨Nat.le_refl _, Nat.le_refl _⟩ rfl (fun z14 y H locs hq hP hS => ?_)
              obtain ⟨b14, a14, t14, he14, hz14, hy14⟩ := hq
              rw [hy14] at hP
              refine z_top hz14 ?_
              have hal14 : a14 ≤ len := stp_le he14 (skS_stp (by decide) (by omega))
              refine z_if_neB (tgt := 175) hX dX4_commandHere_170 (by decide) (fun c_170 => ?_) (fun c_170 => ?_)
              · skip
                first | (obtain rfl : b14 = true := c_170) | (obtain rfl : b14 = false := bN c_170)
                refine lv_aload_n hx hb dX4_commandHere_175 rfl (lv_at hl 1 rfl) ?_
                refine z_bipush hX dX4_commandHere_176 (by decide) ?_
                refine W.eq (g2 := F0 m 178 ls [.int (iI (105)), .ref o]) rfl ?_
                refine m_callR (As := [.int (iI (105))]) (rest := []) hZ hX hK hD hA hE hP hS (c_skips hZ σ _ len hlen hin a14 t14 (by omega) 105 (by decide)) (cwV 1 hX.hts (lw_V q2257 q2259 qs68 q89 q2260) rfl rfl rfl (by decide +kernel) ⟨Nat.le_of_ble_eq_true rfl, Nat.le_of_ble_eq_true rfl⟩) rfl hl.1 (lv_room (Nat.le_of_ble_eq_true rfl)) dX4_commandHere_178 ⟨Nat.le_refl _, Nat.le_refl _⟩ rfl (fun z15 y H locs hq hP hS => ?_)
                obtain ⟨b15, a15, t15, he15, hz15, hy15⟩ := hq
                rw [hy15] at hP
                refine z_top hz15 ?_
                have hal15 : a15 ≤ len := stp_le he15 (skS_stp (by decide) (by omega))
                refine z_if_eqB (tgt := 210) hX dX4_commandHere_181 (by decide) (fun c_181 => ?_) (fun c_181 => ?_)
                · skip
                  first | (obtain rfl : b15 = true := c_181) | (obtain rfl : b15 = false := bN c_181)
                  refine lv_aload_n hx hb dX4_commandHere_210 rfl (lv_at hl 1 rfl) ?_
                  refine z_iconst hX dX4_commandHere_211 ?_
                  refine va_ldcS hx hb hX.ow (hst _ _ _ hE 3 _ rfl).1 dX4_commandHere_212 ?_
                  refine m_callR (As := [.int (iI (3)), .ref (sq 3)]) (rest := []) hZ hX hK hD hA hE hP hS (c_isWord hZ σ _ len hlen hin a15 t15 (by omega) tm ⟨htm.1, by omega⟩ 3 [121] ⟨by decide, by decide⟩ (fun A U H h => (hst A U H h 3 _ rfl).2) hj) (cwV 2 hX.hts (lw_V q2266 q2268 qs70 q89 q2269) rfl rfl rfl (by decide +kernel) ⟨Nat.le_of_ble_eq_true rfl, Nat.le_of_ble_eq_true rfl⟩) rfl hl.1 (lv_room (Nat.le_of_ble_eq_true rfl)) dX4_commandHere_214 ⟨Nat.le_refl _, Nat.le_refl _⟩ rfl (fun z18 y H locs hq hP hS => ?_)
                  obtain ⟨b18, a18, t18, he18, hz18, hy18⟩ := hq
                  rw [hy18] at hP
                  refine z_top hz18 ?_
                  have hal18 : a18 ≤ len := stp_le he18 (wdS_stp (by omega))
                  refine z_if_eqB (tgt := 243) hX dX4_commandHere_217 (by decide) (fun c_217 => ?_) (fun c_217 => ?_)
                  · skip
                    first | (obtain rfl : b18 = true := c_217) | (obtain rfl : b18 = false := bN c_217)
                    refine z_iconst hX dX4_commandHere_243 ?_
                    exact w_zret hX hP hS (by decide) (pP_of (b := false) (by simp only [cmS, anS, ifS_t, ifS_f, noS, he1, he4, he5, he9, he10, he13, he14, he15, he18]) (by first | rfl | decide)) dX4_commandHere_244
                  · skip
                    first | (obtain rfl : b18 = true := c_217) | (obtain rfl : b18 = false := bN c_217)
                    refine lv_aload_n hx hb dX4_commandHere_220 rfl (lv_at hl 1 rfl) ?_
                    refine lv_iload_n hx hb dX4_commandHere_221 rfl (lv_at hl 0 rfl) ?_
                    refine W.eq (g2 := F0 m 222 ls [.int (iI (↑(4 * tm + 1))), .ref o]) rfl ?_
                    refine m_callR (As := [.int (iI (↑(4 * tm + 1)))]) (rest := []) hZ hX hK hD hA hE hP hS (c_pair hZ σ _ len hlen hin a18 t18 (by omega) (4 * tm + 1) (↑(4 * tm + 1)) (by omega)) (cwV 1 hX.hts (lw_V q2289 q2291 qs74 q89 q2292) rfl rfl rfl (by decide +kernel) ⟨Nat.le_of_ble_eq_true rfl, Nat.le_of_ble_eq_true rfl⟩) rfl hl.1 (lv_room (Nat.le_of_ble_eq_true rfl)) dX4_commandHere_222 ⟨Nat.le_refl _, Nat.le_refl _⟩ rfl (fun z19 y H locs hq hP hS => ?_)
                    obtain ⟨b19, a19, t19, he19, hz19, hy19⟩ := hq
                    rw [hy19] at hP
                    refine z_top hz19 ?_
                    have hal19 : a19 ≤ len := stp_le he19 (prS_stp (by omega))
                    refine z_if_eqB (tgt := 243) hX dX4_commandHere_225 (by decide) (fun c_225 => ?_) (fun c_225 => ?_)
                    · skip
                      first | (obtain rfl : b19 = true := c_225) | (obtain rfl : b19 = false := bN c_225)
                      refine z_iconst hX dX4_commandHere_243 ?_
                      exact w_zret hX hP hS (by decide) (pP_of (b := false) (by simp only [cmS, anS, ifS_t, ifS_f, noS, he1, he4, he5, he9, he10, he13, he14, he15, he18, he19]) (by first | rfl | decide)) dX4_commandHere_244
                    · skip
                      first | (obtain rfl : b19 = true := c_225) | (obtain rfl : b19 = false := bN c_225)
                      refine lv_aload_n hx hb dX4_commandHere_228 rfl (lv_at hl 1 rfl) ?_
                      refine lv_iload_n hx hb dX4_commandHere_229 rfl (lv_at hl 0 rfl) ?_
                      refine z_iconst hX dX4_commandHere_230 ?_
                      refine z_iadd hX dX4_commandHere_231 ?_
                      refine z_iconst hX dX4_commandHere_232 ?_
                      refine m_callR (As := [.int (iI ((↑(4 * tm + 1)) + 2)), .int (iI (3))]) (rest := []) hZ hX hK hD hA hE hP hS (c_figures hZ σ _ len hlen hin a19 t19 (by omega) (4 * tm + 3) 3 ((↑(4 * tm + 1)) + 2) 3 (by omega) (by omega)) (cwV 2 hX.hts (lw_V q2272 q2274 qs71 q89 q2275) rfl rfl rfl (by decide +kernel) ⟨Nat.le_of_ble_eq_true rfl, Nat.le_of_ble_eq_true rfl⟩) rfl hl.1 (lv_room (Nat.le_of_ble_eq_true rfl)) dX4_commandHere_233 ⟨Nat.le_refl _, Nat.le_refl _⟩ rfl (fun z20 y H locs hq hP hS => ?_)
                      obtain ⟨b20, a20, t20, he20, hz20, hy20⟩ := hq
                      rw [hy20] at hP
                      refine z_top hz20 ?_
                      have hal20 : a20 ≤ len := stp_le he20 (fgS_stp (by omega))
                      refine W.eq (g2 := F0 m 236 ls [.int (iI (bI (b20 = true)))]) rfl ?_
                      refine z_if_eqB (tgt := 243) hX dX4_commandHere_236 (by decide) (fun c_236 => ?_) (fun c_236 => ?_)
                      · skip
                        first | (obtain rfl : b20 = true := c_236) | (obtain rfl : b20 = false := bN c_236)
                        refine z_iconst hX dX4_commandHere_243 ?_
                        exact w_zret hX hP hS (by decide) (pP_of (b := false) (by simp only [cmS, anS, ifS_t, ifS_f, noS, he1, he4, he5, he9, he10, he13, he14, he15, he18, he19, he20]) (by first | rfl | decide)) dX4_commandHere_244
                      · skip
                        first | (obtain rfl : b20 = true := c_236) | (obtain rfl : b20 = false := bN c_236)
                        refine z_iconst hX dX4_commandHere_239 ?_
                        refine lv_goto (tgt := 244) hx hb dX4_commandHere_240 (by decide) ?_
                        exact w_zret hX hP hS (by decide) (pP_of (b := true) (by simp only [cmS, anS, ifS_t, ifS_f, noS, he1, he4, he5, he9, he10, he13, he14, he15, he18, he19, he20]) (by first | rfl | decide)) dX4_commandHere_244
                · skip
                  first | (obtain rfl : b15 = true := c_181) | (obtain rfl : b15 = false := bN c_181)
                  refine lv_aload_n hx hb dX4_commandHere_184 rfl (lv_at hl 1 rfl) ?_
                  refine z_iconst hX dX4_commandHere_185 ?_
                  refine va_ldcS hx hb hX.ow (hst _ _ _ hE 4 _ rfl).1 dX4_commandHere_186 ?_
                  refine m_callR (As := [.int (iI (4)), .ref (sq 4)]) (rest := []) hZ hX hK hD hA hE hP hS (c_isWord hZ σ _ len hlen hin a15 t15 (by omega) tm ⟨htm.1, by omega⟩ 4 [114] ⟨by decide, by decide⟩ (fun A U H h => (hst A U H h 4 _ rfl).2) hj) (cwV 2 hX.hts (lw_V q2266 q2268 qs70 q89 q2269) rfl rfl rfl (by decide +kernel) ⟨Nat.le_of_ble_eq_true rfl, Nat.le_of_ble_eq_true rfl⟩) rfl hl.1 (lv_room (Nat.le_of_ble_eq_true rfl)) dX4_commandHere_188 ⟨Nat.le_refl _, Nat.le_refl _⟩ rfl (fun z16 y H locs hq hP hS => ?_)
                  obtain ⟨b16, a16, t16, he16, hz16, hy16⟩ := hq
                  rw [hy16] at hP
                  refine z_top hz16 ?_
                  have hal16 : a16 ≤ len := stp_le he16 (wdS_stp (by omega))
                  refine z_if_eqB (tgt := 206) hX dX4_commandHere_191 (by decide) (fun c_191 => ?_) (fun c_191 => ?_)
                  · skip
                    first | (obtain rfl : b16 = true := c_191) | (obtain rfl : b16 = false := bN c_191)
                    refine W.eq (g2 := F0 m 206 ls []) rfl ?_
                    refine z_iconst hX dX4_commandHere_206 ?_
                    refine lv_goto (tgt := 244) hx hb dX4_commandHere_207 (by decide) ?_
                    exact w_zret hX hP hS (by decide) (pP_of (b := false) (by simp only [cmS, anS, ifS_t, ifS_f, noS, he1, he4, he5, he9, he10, he13, he14, he15, he16]) (by first | rfl | decide)) dX4_commandHere_244
                  · skip
                    first | (obtain rfl : b16 = true := c_191) | (obtain rfl : b16 = false := bN c_191)
                    refine lv_aload_n hx hb dX4_commandHere_194 rfl (lv_at hl 1 rfl) ?_
                    refine lv_iload_n hx hb dX4_commandHere_195 rfl (lv_at hl 0 rfl) ?_
                    refine m_callR (As := [.int (iI (↑(4 * tm + 1)))]) (rest := []) hZ hX hK hD hA hE hP hS (c_pair hZ σ _ len hlen hin a16 t16 (by omega) (4 * tm + 1) (↑(4 * tm + 1)) (by omega)) (cwV 1 hX.hts (lw_V q2289 q2291 qs74 q89 q2292) rfl rfl rfl (by decide +kernel) ⟨Nat.le_of_ble_eq_true rfl, Nat.le_of_ble_eq_true rfl⟩) rfl hl.1 (lv_room (Nat.le_of_ble_eq_true rfl)) dX4_commandHere_196 ⟨Nat.le_refl _, Nat.le_refl _⟩ rfl (fun z17 y H locs hq hP hS => ?_)
                    obtain ⟨b17, a17, t17, he17, hz17, hy17⟩ := hq
                    rw [hy17] at hP
                    refine z_top hz17 ?_
                    have hal17 : a17 ≤ len := stp_le he17 (prS_stp (by omega))
                    refine z_if_eqB (tgt := 206) hX dX4_commandHere_199 (by decide) (fun c_199 => ?_) (fun c_199 => ?_)
                    · skip
                      first | (obtain rfl : b17 = true := c_199) | (obtain rfl : b17 = false := bN c_199)
                      refine z_iconst hX dX4_commandHere_206 ?_
                      refine lv_goto (tgt := 244) hx hb dX4_commandHere_207 (by decide) ?_
                      exact w_zret hX hP hS (by decide) (pP_of (b := false) (by simp only [cmS, anS, ifS_t, ifS_f, noS, he1, he4, he5, he9, he10, he13, he14, he15, he16, he17]) (by first | rfl | decide)) dX4_commandHere_244
                    · skip
                      first | (obtain rfl : b17 = true := c_199) | (obtain rfl : b17 = false := bN c_199)
                      refine W.eq (g2 := F0 m 202 ls []) rfl ?_
                      refine z_iconst hX dX4_commandHere_202 ?_
                      refine lv_goto (tgt := 244) hx hb dX4_commandHere_203 (by decide) ?_
                      exact w_zret hX hP hS (by decide) (pP_of (b := true) (by simp only [cmS, anS, ifS_t, ifS_f, noS, he1, he4, he5, he9, he10, he13, he14, he15, he16, he17]) (by first | rfl | decide)) dX4_commandHere_244
              · skip
                first | (obtain rfl : b14 = true := c_170) | (obtain rfl : b14 = false := bN c_170)
                refine z_iconst hX dX4_commandHere_173 ?_
                exact w_zret hX hP hS (by decide) (pP_of (b := false) (by simp only [cmS, anS, ifS_t, ifS_f, noS, he1, he4, he5, he9, he10, he13, he14]) (by first | rfl | decide)) dX4_commandHere_174
          · skip
            first | (obtain rfl : b10 = true := c_126) | (obtain rfl : b10 = false := bN c_126)
            refine lv_aload_n hx hb dX4_commandHere_129 rfl (lv_at hl 1 rfl) ?_
            refine z_bipush hX dX4_commandHere_130 (by decide) ?_
            refine va_ldcS hx hb hX.ow (hst _ _ _ hE 7 _ rfl).1 dX4_commandHere_132 ?_
            refine m_callR (As := [.int (iI (7)), .ref (sq 7)]) (rest := []) hZ hX hK hD hA hE hP hS (c_isWord hZ σ _ len hlen hin a10 t10 (by omega) tm ⟨htm.1, by omega⟩ 7 [101, 102, 97, 117, 108, 116] ⟨by decide, by decide⟩ (fun A U H h => (hst A U H h 7 _ rfl).2) hj) (cwV 2 hX.hts (lw_V q2266 q2268 qs70 q89 q2269) rfl rfl rfl (by decide +kernel) ⟨Nat.le_of_ble_eq_true rfl, Nat.le_of_ble_eq_true rfl⟩) rfl hl.1 (lv_room (Nat.le_of_ble_eq_true rfl)) dX4_commandHere_134 ⟨Nat.le_refl _, Nat.le_refl _⟩ rfl (fun z11 y H locs hq hP hS => ?_)
            obtain ⟨b11, a11, t11, he11, hz11, hy11⟩ := hq
            rw [hy11] at hP
            refine z_top hz11 ?_
            have hal11 : a11 ≤ len := stp_le he11 (wdS_stp (by omega))
            refine z_if_eqB (tgt := 153) hX dX4_commandHere_137 (by decide) (fun c_137 => ?_) (fun c_137 => ?_)
            · skip
              first | (obtain rfl : b11 = true := c_137) | (obtain rfl : b11 = false := bN c_137)
              refine z_iconst hX dX4_commandHere_153 ?_
              refine W.eq (g2 := F0 m 154 ls [.int (iI (0))]) rfl ?_
              exact w_zret hX hP hS (by decide) (pP_of (b := false) (by simp only [cmS, anS, ifS_t, ifS_f, noS, he1, he4, he5, he9, he10, he11]) (by first | rfl | decide)) dX4_commandHere_154
            · skip
              first | (obtain rfl : b11 = true := c_137) | (obtain rfl : b11 = false := bN c_137)
              refine lv_aload_n hx hb dX4_commandHere_140 rfl (lv_at hl 1 rfl) ?_
              refine lv_iload_n hx hb dX4_commandHere_141 rfl (lv_at hl 0 rfl) ?_
              refine z_iconst hX dX4_commandHere_142 ?_
              refine m_callR (As := [.int (iI (↑(4 * tm + 1))), .int (iI (1))]) (rest := []) hZ hX hK hD hA hE hP hS (c_figures hZ σ _ len hlen hin a11 t11 (by omega) (4 * tm + 1) 1 (↑(4 * tm + 1)) 1 (by omega) (by omega)) (cwV 2 hX.hts (lw_V q2272 q2274 qs71 q89 q2275) rfl rfl rfl (by decide +kernel) ⟨Nat.le_of_ble_eq_true rfl, Nat.le_of_ble_eq_true rfl⟩) rfl hl.1 (lv_room (Nat.le_of_ble_eq_true rfl)) dX4_commandHere_143 ⟨Nat.le_refl _, Nat.le_refl _⟩ rfl (fun z12 y H locs hq hP hS => ?_)
              obtain ⟨b12, a12, t12, he12, hz12, hy12⟩ := hq
              rw [hy12] at hP
              refine z_top hz12 ?_
              have hal12 : a12 ≤ len := stp_le he12 (fgS_stp (by omega))
              refine z_if_eqB (tgt := 153) hX dX4_commandHere_146 (by decide) (fun c_146 => ?_) (fun c_146 => ?_)
              · skip
                first | (obtain rfl : b12 = true := c_146) | (obtain rfl : b12 = false := bN c_146)
                refine z_iconst hX dX4_commandHere_153 ?_
                exact w_zret hX hP hS (by decide) (pP_of (b := false) (by simp only [cmS, anS, ifS_t, ifS_f, noS, he1, he4, he5, he9, he10, he11, he12]) (by first | rfl | decide)) dX4_commandHere_154
              · skip
                first | (obtain rfl : b12 = true := c_146) | (obtain rfl : b12 = false := bN c_146)
                refine z_iconst hX dX4_commandHere_149 ?_
                refine lv_goto (tgt := 154) hx hb dX4_commandHere_150 (by decide) ?_
                refine W.eq (g2 := F0 m 154 ls [.int (iI (1))]) rfl ?_
                exact w_zret hX hP hS (by decide) (pP_of (b := true) (by simp only [cmS, anS, ifS_t, ifS_f, noS, he1, he4, he5, he9, he10, he11, he12]) (by first | rfl | decide)) dX4_commandHere_154
        · skip
          first | (obtain rfl : b9 = true := c_108) | (obtain rfl : b9 = false := bN c_108)
          refine lv_aload_n hx hb dX4_commandHere_111 rfl (lv_at hl 1 rfl) ?_
          refine z_bipush hX dX4_commandHere_112 (by decide) ?_
          refine va_ldcS hx hb hX.ow (hst _ _ _ hE 6 _ rfl).1 dX4_commandHere_114 ?_
          refine m_callR (As := [.int (iI (6)), .ref (sq 6)]) (rest := []) hZ hX hK hD hA hE hP hS (c_isWord hZ σ _ len hlen hin a9 t9 (by omega) tm ⟨htm.1, by omega⟩ 6 [108, 108] ⟨by decide, by decide⟩ (fun A U H h => (hst A U H h 6 _ rfl).2) hj) (cwV 2 hX.hts (lw_V q2266 q2268 qs70 q89 q2269) rfl rfl rfl (by decide +kernel) ⟨Nat.le_of_ble_eq_true rfl, Nat.le_of_ble_eq_true rfl⟩) rfl hl.1 (lv_room (Nat.le_of_ble_eq_true rfl)) dX4_commandHere_116 ⟨Nat.le_refl _, Nat.le_refl _⟩ rfl (fun z22 y H locs hq hP hS => ?_)
          obtain ⟨b22, a22, t22, he22, hz22, hy22⟩ := hq
          rw [hy22] at hP
          refine z_top hz22 ?_
          have hal22 : a22 ≤ len := stp_le he22 (wdS_stp (by omega))
          exact w_zret hX hP hS (bI_01) (pP_of (b := b22) (by simp only [cmS, anS, ifS_t, ifS_f, noS, he1, he4, he5, he9, he22]) (by first | rfl | decide)) dX4_commandHere_119
      · skip
        first | (obtain rfl : b5 = true := c_64) | (obtain rfl : b5 = false := bN c_64)
        refine lv_aload_n hx hb dX4_commandHere_67 rfl (lv_at hl 1 rfl) ?_
        refine z_iconst hX dX4_commandHere_68 ?_
        refine va_ldcS hx hb hX.ow (hst _ _ _ hE 2 _ rfl).1 dX4_commandHere_69 ?_
        refine m_callR (As := [.int (iI (2)), .ref (sq 2)]) (rest := []) hZ hX hK hD hA hE hP hS (c_isWord hZ σ _ len hlen hin a5 t5 (by omega) tm ⟨htm.1, by omega⟩ 2 [119, 101] ⟨by decide, by decide⟩ (fun A U H h => (hst A U H h 2 _ rfl).2) hj) (cwV 2 hX.hts (lw_V q2266 q2268 qs70 q89 q2269) rfl rfl rfl (by decide +kernel) ⟨Nat.le_of_ble_eq_true rfl, Nat.le_of_ble_eq_true rfl⟩) rfl hl.1 (lv_room (Nat.le_of_ble_eq_true rfl)) dX4_commandHere_71 ⟨Nat.le_refl _, Nat.le_refl _⟩ rfl (fun z6 y H locs hq hP hS => ?_)
        obtain ⟨b6, a6, t6, he6, hz6, hy6⟩ := hq
        rw [hy6] at hP
        refine z_top hz6 ?_
        have hal6 : a6 ≤ len := stp_le he6 (wdS_stp (by omega))
        refine z_if_eqB (tgt := 100) hX dX4_commandHere_74 (by decide) (fun c_74 => ?_) (fun c_74 => ?_)
        · skip
          first | (obtain rfl : b6 = true := c_74) | (obtain rfl : b6 = false := bN c_74)
          refine z_iconst hX dX4_commandHere_100 ?_
          refine W.eq (g2 := F0 m 101 ls [.int (iI (0))]) rfl ?_
          exact w_zret hX hP hS (by decide) (pP_of (b := false) (by simp only [cmS, anS, ifS_t, ifS_f, noS, he1, he4, he5, he6]) (by first | rfl | decide)) dX4_commandHere_101
        · skip
          first | (obtain rfl : b6 = true := c_74) | (obtain rfl : b6 = false := bN c_74)
          refine lv_aload_n hx hb dX4_commandHere_77 rfl (lv_at hl 1 rfl) ?_
          refine lv_iload_n hx hb dX4_commandHere_78 rfl (lv_at hl 0 rfl) ?_
          refine m_callR (As := [.int (iI (↑(4 * tm + 1)))]) (rest := []) hZ hX hK hD hA hE hP hS (c_pair hZ σ _ len hlen hin a6 t6 (by omega) (4 * tm + 1) (↑(4 * tm + 1)) (by omega)) (cwV 1 hX.hts (lw_V q2289 q2291 qs74 q89 q2292) rfl rfl rfl (by decide +kernel) ⟨Nat.le_of_ble_eq_true rfl, Nat.le_of_ble_eq_true rfl⟩) rfl hl.1 (lv_room (Nat.le_of_ble_eq_true rfl)) dX4_commandHere_79 ⟨Nat.le_refl _, Nat.le_refl _⟩ rfl (fun z7 y H locs hq hP hS => ?_)
          obtain ⟨b7, a7, t7, he7, hz7, hy7⟩ := hq
          rw [hy7] at hP
          refine z_top hz7 ?_
          have hal7 : a7 ≤ len := stp_le he7 (prS_stp (by omega))
          refine z_if_eqB (tgt := 100) hX dX4_commandHere_82 (by decide) (fun c_82 => ?_) (fun c_82 => ?_)
          · skip
            first | (obtain rfl : b7 = true := c_82) | (obtain rfl : b7 = false := bN c_82)
            refine z_iconst hX dX4_commandHere_100 ?_
            exact w_zret hX hP hS (by decide) (pP_of (b := false) (by simp only [cmS, anS, ifS_t, ifS_f, noS, he1, he4, he5, he6, he7]) (by first | rfl | decide)) dX4_commandHere_101
          · skip
            first | (obtain rfl : b7 = true := c_82) | (obtain rfl : b7 = false := bN c_82)
            refine lv_aload_n hx hb dX4_commandHere_85 rfl (lv_at hl 1 rfl) ?_
            refine lv_iload_n hx hb dX4_commandHere_86 rfl (lv_at hl 0 rfl) ?_
            refine z_iconst hX dX4_commandHere_87 ?_
            refine W.eq (g2 := F0 m 88 ls [.int (iI (2)), .int (iI (↑(4 * tm + 1))), .ref o]) rfl ?_
            refine z_iadd hX dX4_commandHere_88 ?_
            refine z_iconst hX dX4_commandHere_89 ?_
            refine m_callR (As := [.int (iI ((↑(4 * tm + 1)) + 2)), .int (iI (3))]) (rest := []) hZ hX hK hD hA hE hP hS (c_figures hZ σ _ len hlen hin a7 t7 (by omega) (4 * tm + 3) 3 ((↑(4 * tm + 1)) + 2) 3 (by omega) (by omega)) (cwV 2 hX.hts (lw_V q2272 q2274 qs71 q89 q2275) rfl rfl rfl (by decide +kernel) ⟨Nat.le_of_ble_eq_true rfl, Nat.le_of_ble_eq_true rfl⟩) rfl hl.1 (lv_room (Nat.le_of_ble_eq_true rfl)) dX4_commandHere_90 ⟨Nat.le_refl _, Nat.le_refl _⟩ rfl (fun z8 y H locs hq hP hS => ?_)
            obtain ⟨b8, a8, t8, he8, hz8, hy8⟩ := hq
            rw [hy8] at hP
            refine z_top hz8 ?_
            have hal8 : a8 ≤ len := stp_le he8 (fgS_stp (by omega))
            refine z_if_eqB (tgt := 100) hX dX4_commandHere_93 (by decide) (fun c_93 => ?_) (fun c_93 => ?_)
            · skip
              first | (obtain rfl : b8 = true := c_93) | (obtain rfl : b8 = false := bN c_93)
              refine z_iconst hX dX4_commandHere_100 ?_
              exact w_zret hX hP hS (by decide) (pP_of (b := false) (by simp only [cmS, anS, ifS_t, ifS_f, noS, he1, he4, he5, he6, he7, he8]) (by first | rfl | decide)) dX4_commandHere_101
            · skip
              first | (obtain rfl : b8 = true := c_93) | (obtain rfl : b8 = false := bN c_93)
              refine z_iconst hX dX4_commandHere_96 ?_
              refine lv_goto (tgt := 101) hx hb dX4_commandHere_97 (by decide) ?_
              exact w_zret hX hP hS (by decide) (pP_of (b := true) (by simp only [cmS, anS, ifS_t, ifS_f, noS, he1, he4, he5, he6, he7, he8]) (by first | rfl | decide)) dX4_commandHere_101
    · skip
      first | (obtain rfl : b4 = true := c_49) | (obtain rfl : b4 = false := bN c_49)
      refine lv_aload_n hx hb dX4_commandHere_52 rfl (lv_at hl 1 rfl) ?_
      refine W.eq (g2 := F0 m 53 ls [.ref o]) rfl ?_
      refine lv_iload_n hx hb dX4_commandHere_53 rfl (lv_at hl 0 rfl) ?_
      refine m_callR (As := [.int (iI (↑(4 * tm + 1)))]) (rest := []) hZ hX hK hD hA hE hP hS (c_withC hZ σ _ len hlen hin a4 t4 (by omega) tm ⟨htm.1, by omega⟩ (4 * tm + 1) _ (by omega) hst hj) (cwV 1 hX.hts (lw_V q2280 q2282 qs73 q89 q2283) rfl rfl rfl (by decide +kernel) ⟨Nat.le_of_ble_eq_true rfl, Nat.le_of_ble_eq_true rfl⟩) rfl hl.1 (lv_room (Nat.le_of_ble_eq_true rfl)) dX4_commandHere_54 ⟨Nat.le_refl _, Nat.le_refl _⟩ rfl (fun z21 y H locs hq hP hS => ?_)
      obtain ⟨b21, a21, t21, he21, hz21, hy21⟩ := hq
      rw [hy21] at hP
      refine z_top hz21 ?_
      have hal21 : a21 ≤ len := stp_le he21 (wcS_stp (by omega))
      exact w_zret hX hP hS (bI_01) (pP_of (b := b21) (by simp only [cmS, anS, ifS_t, ifS_f, noS, he1, he4, he21]) (by first | rfl | decide)) dX4_commandHere_57
  · skip
    first | (obtain rfl : b1 = true := c_15) | (obtain rfl : b1 = false := bN c_15)
    refine lv_aload_n hx hb dX4_commandHere_18 rfl (lv_at hl 1 rfl) ?_
    refine z_iconst hX dX4_commandHere_19 ?_
    refine va_ldcS hx hb hX.ow (hst _ _ _ hE 0 _ rfl).1 dX4_commandHere_20 ?_
    refine m_callR (As := [.int (iI (0)), .ref (sq 0)]) (rest := []) hZ hX hK hD hA hE hP hS (c_isWord hZ σ _ len hlen hin a1 t1 (by omega) tm ⟨htm.1, by omega⟩ 0 [111, 105, 110] ⟨by decide, by decide⟩ (fun A U H h => (hst A U H h 0 _ rfl).2) hj) (cwV 2 hX.hts (lw_V q2266 q2268 qs70 q89 q2269) rfl rfl rfl (by decide +kernel) ⟨Nat.le_of_ble_eq_true rfl, Nat.le_of_ble_eq_true rfl⟩) rfl hl.1 (lv_room (Nat.le_of_ble_eq_true rfl)) dX4_commandHere_22 ⟨Nat.le_refl _, Nat.le_refl _⟩ rfl (fun z2 y H locs hq hP hS => ?_)
    obtain ⟨b2, a2, t2, he2, hz2, hy2⟩ := hq
    rw [hy2] at hP
    refine z_top hz2 ?_
    have hal2 : a2 ≤ len := stp_le he2 (wdS_stp (by omega))
    refine z_if_eqB (tgt := 41) hX dX4_commandHere_25 (by decide) (fun c_25 => ?_) (fun c_25 => ?_)
    · skip
      first | (obtain rfl : b2 = true := c_25) | (obtain rfl : b2 = false := bN c_25)
      refine z_iconst hX dX4_commandHere_41 ?_
      exact w_zret hX hP hS (by decide) (pP_of (b := false) (by simp only [cmS, anS, ifS_t, ifS_f, noS, he1, he2]) (by first | rfl | decide)) dX4_commandHere_42
    · skip
      first | (obtain rfl : b2 = true := c_25) | (obtain rfl : b2 = false := bN c_25)
      refine lv_aload_n hx hb dX4_commandHere_28 rfl (lv_at hl 1 rfl) ?_
      refine W.eq (g2 := F0 m 29 ls [.ref o]) rfl ?_
      refine lv_iload_n hx hb dX4_commandHere_29 rfl (lv_at hl 0 rfl) ?_
      refine z_iconst hX dX4_commandHere_30 ?_
      refine m_callR (As := [.int (iI (↑(4 * tm + 1))), .int (iI (3))]) (rest := []) hZ hX hK hD hA hE hP hS (c_figures hZ σ _ len hlen hin a2 t2 (by omega) (4 * tm + 1) 3 (↑(4 * tm + 1)) 3 (by omega) (by omega)) (cwV 2 hX.hts (lw_V q2272 q2274 qs71 q89 q2275) rfl rfl rfl (by decide +kernel) ⟨Nat.le_of_ble_eq_true rfl, Nat.le_of_ble_eq_true rfl⟩) rfl hl.1 (lv_room (Nat.le_of_ble_eq_true rfl)) dX4_commandHere_31 ⟨Nat.le_refl _, Nat.le_refl _⟩ rfl (fun z3 y H locs hq hP hS => ?_)
      obtain ⟨b3, a3, t3, he3, hz3, hy3⟩ := hq
      rw [hy3] at hP
      refine z_top hz3 ?_
      have hal3 : a3 ≤ len := stp_le he3 (fgS_stp (by omega))
      refine z_if_eqB (tgt := 41) hX dX4_commandHere_34 (by decide) (fun c_34 => ?_) (fun c_34 => ?_)
      · skip
        first | (obtain rfl : b3 = true := c_34) | (obtain rfl : b3 = false := bN c_34)
        refine z_iconst hX dX4_commandHere_41 ?_
        exact w_zret hX hP hS (by decide) (pP_of (b := false) (by simp only [cmS, anS, ifS_t, ifS_f, noS, he1, he2, he3]) (by first | rfl | decide)) dX4_commandHere_42
      · skip
        first | (obtain rfl : b3 = true := c_34) | (obtain rfl : b3 = false := bN c_34)
        refine z_iconst hX dX4_commandHere_37 ?_
        refine lv_goto (tgt := 42) hx hb dX4_commandHere_38 (by decide) ?_
        exact w_zret hX hP hS (by decide) (pP_of (b := true) (by simp only [cmS, anS, ifS_t, ifS_f, noS, he1, he2, he3]) (by first | rfl | decide)) dX4_commandHere_42
