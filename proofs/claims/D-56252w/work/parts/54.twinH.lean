/-! the twin runs programs -/
set_option maxRecDepth 100000
set_option maxHeartbeats 4000000 in
theorem c_isProgram {l : Launch} {D : va_G} {Z : zZ} {o : Nat} {ad : Nat → Nat} {cA : Nat → ClassId} (hZ : zOk Z) (σ : zT) (sz : Nat) (len : Nat) (hlen : σ 10 0 = len ∧ len ≤ 60) (hin : ∀ k, k < len → 0 ≤ σ 9 k ∧ σ 9 k < 65536) {sq sv : Nat → Nat} (hst : ∀ A U H, Z A U H → tS sq sv A U H) (hj : ∀ A U H, Z A U H → jJ A U H) : MI l D Z o ad cA yX4_isProgram (ws_ yX4_isProgram cX4_isProgram 1 (some .boolean)) { frames := 7, cells := 0, slots := 0, locals := 286 } [.ref o] sz (σ) (fR ((pgR σ len))) := by
  refine w_met (cc := cX4_isProgram) (maxL := 1) (ret := some .boolean) (own := RX4) (by decide) rfl rfl mW_ok (Nat.le_of_ble_eq_true rfl) ?_
  intro p e s m below meth c hX hsz hK hP hD hA hE hS hR ls hl
  have hx := hX.1
  have hb := hX.2.1
  have hl : lv_has ls 1 [(0, .ref o)] := hl
  refine lv_aload_n hx hb dX4_isProgram_0 rfl (lv_at hl 0 rfl) ?_
  refine z_iconst hX dX4_isProgram_1 ?_
  refine m_put hX hK hD hP hS 19 (by decide) q1927 rfl rfl rfl mW_f19 dX4_isProgram_2 (fun H locs hP hS => ?_)
  refine lv_aload_n hx hb dX4_isProgram_5 rfl (lv_at hl 0 rfl) ?_
  refine z_iconst hX dX4_isProgram_6 ?_
  refine m_put hX hK hD hP hS 21 (by decide) q1929 rfl rfl rfl mW_f21 dX4_isProgram_7 (fun H locs hP hS => ?_)
  rw [show uA (uA σ 19 0 0) 21 0 0 = pS (uA σ 21 0 ↑(0 : Nat)) 0 (σ 20) from pS_new] at hP
  have L10 : ∀ (n : Nat) (tm a0 : Nat) (t0 : Nat → Int), (16 < tm + n) → (4 * tm ≤ a0) → (a0 ≤ len) → (pgmF (σ 9) len (16 - tm) tm (a0, t0) = pgmF (σ 9) len 16 0 (0, σ 20)) → ∀ (H : Heap) (locs : List Loc) (ls : Array Slot), va_P D vwCl (mW o ad cA (pS (uA σ 21 0 ↑tm) a0 t0)) H → va_S (wA (mW o ad cA) sz) s.heap H locs → lv_has ls 1 [(0, .ref o)] → W p l e (headSpec (ws_ yX4_isProgram cX4_isProgram 1 (some .boolean)) { frames := 7, cells := 0, slots := 0, locals := 286 }).room s m ([.ref o] : List Value).toArray below meth c H locs 0 0 (MQ below (wQi D vwCl (mW o ad cA) (fR ((pgR σ len))) sz) ([.ref o] : List Value).toArray s 0 0 (wA (mW o ad cA) sz)) (F0 m 10 ls []) := by
    intro n
    induction n with
    | zero =>
      intro tm a0 t0 hf ht4 ha0 hd H locs ls hP hS hl
      exact absurd hf (by omega)
    | succ n ih10 =>
      intro tm a0 t0 hf ht4 ha0 hd H locs ls hP hS hl
      refine lv_aload_n hx hb dX4_isProgram_10 rfl (lv_at hl 0 rfl) ?_
      refine m_callR (As := []) (rest := []) hZ hX hK hD hA hE hP hS (c_commandHere hZ (uA σ 21 0 ↑tm) _ len (by rw [uA_nj (by decide)]; exact hlen) hin a0 t0 ha0 tm ⟨uA_eq _ _ _ _, by omega⟩ hst hj) (cwV 0 hX.hts (lw_V q2253 q2255 qs67 q89 q2256) rfl rfl rfl (by decide +kernel) ⟨Nat.le_of_ble_eq_true rfl, Nat.le_of_ble_eq_true rfl⟩) rfl hl.1 (lv_room (Nat.le_of_ble_eq_true rfl)) dX4_isProgram_11 ⟨Nat.le_refl _, Nat.le_refl _⟩ rfl (fun z1 y H locs hq hP hS => ?_)
      obtain ⟨b1, a1, t1, he1, hz1, hy1⟩ := hq
      have he1 : cmS (σ 9) len tm (a0, t0) = (b1, a1, t1) := he1
      rw [hy1] at hP
      refine z_top hz1 ?_
      have hal1 : a1 ≤ len := stp_le he1 (cmS_stp (by omega))
      refine z_if_neB (tgt := 19) hX dX4_isProgram_14 (by decide) (fun c_14 => ?_) (fun c_14 => ?_)
      · skip
        obtain rfl : b1 = true := c_14
        have hlo : a0 + 3 ≤ a1 := by have h9 := cmS_lo (inp := σ 9) (tm := tm) (t := t0) (b := a0 + 3) ha0 (Nat.le_refl _); rw [he1] at h9; exact h9 rfl
        refine W.eq (g2 := F0 m 19 ls []) rfl ?_
        refine lv_aload_n hx hb dX4_isProgram_19 rfl (lv_at hl 0 rfl) ?_
        refine lv_dup hx hb dX4_isProgram_20 rfl ?_
        refine m_get hX hK hP 21 (by decide) q1929 rfl dX4_isProgram_21 ?_
        refine z_top (y := ↑tm) (by rw [pS_i (by decide) (by decide), uA_eq]) ?_
        refine z_iconst hX dX4_isProgram_24 ?_
        refine z_iadd hX dX4_isProgram_25 ?_
        refine m_put hX hK hD hP hS 21 (by decide) q1929 rfl rfl rfl mW_f21 dX4_isProgram_26 (fun H locs hP hS => ?_)
        rw [show uA (pS (uA σ 21 0 ↑tm) a1 t1) 21 0 ((↑tm) + 1) = pS (uA σ 21 0 ↑(tm + 1)) a1 t1 from by rw [pS_u (by decide) (by decide), uA_uA]; rfl] at hP
        refine lv_aload_n hx hb dX4_isProgram_29 rfl (lv_at hl 0 rfl) ?_
        refine z_bipush hX dX4_isProgram_30 (by decide) ?_
        refine m_callR (As := [.int (iI (59))]) (rest := []) hZ hX hK hD hA hE hP hS (c_skips hZ (uA σ 21 0 ↑(tm + 1)) _ len (by rw [uA_nj (by decide)]; exact hlen) hin a1 t1 hal1 59 (by decide)) (cwV 1 hX.hts (lw_V q2257 q2259 qs68 q89 q2260) rfl rfl rfl (by decide +kernel) ⟨Nat.le_of_ble_eq_true rfl, Nat.le_of_ble_eq_true rfl⟩) rfl hl.1 (lv_room (Nat.le_of_ble_eq_true rfl)) dX4_isProgram_32 ⟨Nat.le_refl _, Nat.le_refl _⟩ rfl (fun z2 y H locs hq hP hS => ?_)
        obtain ⟨b2, a2, t2, he2, hz2, hy2⟩ := hq
        have he2 : skS (σ 9) len 59 (a1, t1) = (b2, a2, t2) := he2
        rw [hy2] at hP
        refine z_top hz2 ?_
        have hal2 : a2 ≤ len := stp_le he2 (skS_stp (by decide) (by omega))
        refine z_if_neB (tgt := 10) hX dX4_isProgram_35 (by decide) (fun c_35 => ?_) (fun c_35 => ?_)
        · skip
          obtain rfl : b2 = true := c_35
          have hsk := skS_t he2
          exact ih10 (tm + 1) (a2) (t2) (by omega) (by omega) (by omega) (by rw [← hd, show 16 - tm = (16 - (tm + 1)) + 1 from by omega, pgmF_s he1 he2]) _ _ _ hP hS (lv_sub hl [0] rfl)
        · skip
          obtain rfl : b2 = false := bN c_35
          refine W.eq (g2 := F0 m 38 ls []) rfl ?_
          refine lv_aload_n hx hb dX4_isProgram_38 rfl (lv_at hl 0 rfl) ?_
          refine m_get hX hK hP 19 (by decide) q1927 rfl dX4_isProgram_39 ?_
          refine z_top (y := ↑a2) (by rw [pS_19]) ?_
          refine lv_aload_n hx hb dX4_isProgram_42 rfl (lv_at hl 0 rfl) ?_
          refine m_get hX hK hP 10 (by decide) q1918 rfl dX4_isProgram_43 ?_
          refine z_top (y := (uA σ 21 0 ↑(tm + 1)) 10 0) (by rw [pS_i (by decide) (by decide)]) ?_
          refine z_top (y := ↑len) (by rw [uA_nj (by decide)]; exact hlen.1) ?_
          refine z_icmp_ne (tgt := 53) hX (by omega) dX4_isProgram_46 (by decide) (fun c_46 => ?_) (fun c_46 => ?_)
          · skip
            refine z_iconst hX dX4_isProgram_53 ?_
            exact w_zret hX hP hS (by decide) (⟨0, rfl, false, a2, t2, tm + 1, by rw [← hd, show 16 - tm = (16 - (tm + 1)) + 1 from by omega, pgmF_e he1 he2]; exact congrArg (fun b => ((b, a2, t2), tm + 1)) (decide_eq_false (by show ¬ a2 = len; omega)), rfl, rfl⟩) dX4_isProgram_54
          · skip
            refine z_iconst hX dX4_isProgram_49 ?_
            refine lv_goto (tgt := 54) hx hb dX4_isProgram_50 (by decide) ?_
            exact w_zret hX hP hS (by decide) (⟨1, rfl, true, a2, t2, tm + 1, by rw [← hd, show 16 - tm = (16 - (tm + 1)) + 1 from by omega, pgmF_e he1 he2]; exact congrArg (fun b => ((b, a2, t2), tm + 1)) (decide_eq_true (by show a2 = len; omega)), rfl, rfl⟩) dX4_isProgram_54
      · skip
        obtain rfl : b1 = false := bN c_14
        refine W.eq (g2 := F0 m 17 ls []) rfl ?_
        refine z_iconst hX dX4_isProgram_17 ?_
        exact w_zret hX hP hS (by decide) (⟨0, rfl, false, a1, t1, tm, by rw [← hd, show 16 - tm = (16 - (tm + 1)) + 1 from by omega, pgmF_n he1], rfl, rfl⟩) dX4_isProgram_18
  exact L10 (17) (0) (0) (σ 20) (by omega) (by omega) (by omega) (rfl) _ _ _ hP hS (lv_sub hl [0] rfl)
set_option maxHeartbeats 4000000 in
theorem c_carries {l : Launch} {D : va_G} {Z : zZ} {o : Nat} {ad : Nat → Nat} {cA : Nat → ClassId} (hZ : zOk Z) (σ : zT) (sz : Nat) (dd : Nat) (E1 : Int) (hE1 : E1 = 4 * (dd : Int) ∧ dd < 30) (kk : Nat) (hk : σ 20 (4 * dd) = kk ∧ kk ≤ 9) (hrg : rgT (σ 20)) (B : Int) (hgo : gOk (σ 0) B) (hB : B ≤ 2000000) (n6 : Nat) (h6 : σ 6 0 = n6 ∧ n6 ≤ 8) (h7 : σ 7 0 = 0 ∨ σ 7 0 = 1) : MI l D Z o ad cA yX4_carries (ws_ yX4_carries cX4_carries 4 (some .int)) { frames := 10, cells := 0, slots := 0, locals := 248 } [.ref o, .int (iI (E1))] sz (σ) (fR ((opR σ n6 kk (σ 20 (4 * dd + 1)) (σ 20 (4 * dd + 2)) (σ 20 (4 * dd + 3))))) := by
  obtain ⟨rfl, hdd⟩ := hE1
  refine w_met (cc := cX4_carries) (maxL := 4) (ret := some .int) (own := RX4) (by decide) rfl rfl mW_ok (Nat.le_of_ble_eq_true rfl) ?_
  intro p e s m below meth c hX hsz hK hP hD hA hE hS hR ls hl
  have hx := hX.1
  have hb := hX.2.1
  have hl : lv_has ls 4 [(0, .ref o), (1, .int (iI (4 * ↑dd)))] := hl
  have hr1 := hrg (4 * dd + 1)
  have hr2 := hrg (4 * dd + 2)
  have hr3 := hrg (4 * dd + 3)
  have hg0 := hgo.1
  refine lv_aload_n hx hb dX4_carries_0 rfl (lv_at hl 0 rfl) ?_
  refine m_get hX hK hP 20 (by decide) q1928 rfl dX4_carries_1 ?_
  refine lv_iload_n hx hb dX4_carries_4 rfl (lv_at hl 1 rfl) ?_
  refine z_iconst hX dX4_carries_5 ?_
  refine z_iadd hX dX4_carries_6 ?_
  refine m_ld hX hK hP mW_e20 (4 * dd + 1) (by omega) (by decide) dX4_carries_7 ?_
  refine lv_istore_n (lv' := [(2, .int (iI (σ 20 (4 * dd + 1)))), (0, .ref o), (1, .int (iI (4 * ↑dd)))]) hx hb dX4_carries_8 rfl hl (by decide) rfl (fun ls hl => ?_)
  refine lv_aload_n hx hb dX4_carries_9 rfl (lv_at hl 1 rfl) ?_
  refine m_get hX hK hP 20 (by decide) q1928 rfl dX4_carries_10 ?_
  refine W.eq (g2 := F0 m 13 ls [.ref (ad 20)]) rfl ?_
  refine lv_iload_n hx hb dX4_carries_13 rfl (lv_at hl 2 rfl) ?_
  refine z_iconst hX dX4_carries_14 ?_
  refine z_iadd hX dX4_carries_15 ?_
  refine m_ld hX hK hP mW_e20 (4 * dd + 2) (by omega) (by decide) dX4_carries_16 ?_
  refine lv_istore_n (lv' := [(3, .int (iI (σ 20 (4 * dd + 2)))), (2, .int (iI (σ 20 (4 * dd + 1)))), (0, .ref o), (1, .int (iI (4 * ↑dd)))]) hx hb dX4_carries_17 rfl hl (by decide) rfl (fun ls hl => ?_)
  refine lv_aload_n hx hb dX4_carries_18 rfl (lv_at hl 2 rfl) ?_
  refine m_get hX hK hP 20 (by decide) q1928 rfl dX4_carries_19 ?_
  refine lv_iload_n hx hb dX4_carries_22 rfl (lv_at hl 3 rfl) ?_
  refine m_ld hX hK hP mW_e20 (4 * dd) (by omega) (by decide) dX4_carries_23 ?_
  refine z_top (y := ↑kk) (hk.1) ?_
  obtain rfl | rfl | rfl | rfl | rfl | rfl | rfl | rfl | rfl | rfl : kk = 0 ∨ kk = 1 ∨ kk = 2 ∨ kk = 3 ∨ kk = 4 ∨ kk = 5 ∨ kk = 6 ∨ kk = 7 ∨ kk = 8 ∨ kk = 9 := by omega
  · refine lv_tableIn (tgt := 76) (off := 52) hx hb dX4_carries_24 (by decide) (by decide) (by decide) (by decide) ?_
    refine lv_aload_n hx hb dX4_carries_76 rfl (lv_at hl 2 rfl) ?_
    refine W.eq (g2 := F0 m 77 ls [.ref o]) rfl ?_
    refine lv_iload_n hx hb dX4_carries_77 rfl (lv_at hl 1 rfl) ?_
    refine m_callR (As := [.int (iI (σ 20 (4 * dd + 1)))]) (rest := []) hZ hX hK hD hA hE hP hS (c_addParty hZ σ _ _ (by omega) B hgo hB n6 h6 h7) (cwV 1 hX.hts (lw_V q2301 q1981 q1982 q89 q1983) rfl rfl rfl (by decide +kernel) ⟨Nat.le_of_ble_eq_true rfl, Nat.le_of_ble_eq_true rfl⟩) rfl hl.1 (lv_room (Nat.le_of_ble_eq_true rfl)) dX4_carries_78 ⟨Nat.le_refl _, Nat.le_refl _⟩ rfl (fun z y H locs hq hP hS => ?_)
    exact w_iret hX hP hS (⟨z, rfl, opR_o rfl hq⟩) dX4_carries_81
  · refine lv_tableIn (tgt := 82) (off := 58) hx hb dX4_carries_24 (by decide) (by decide) (by decide) (by decide) ?_
    refine lv_aload_n hx hb dX4_carries_82 rfl (lv_at hl 2 rfl) ?_
    refine lv_iload_n hx hb dX4_carries_83 rfl (lv_at hl 1 rfl) ?_
    refine lv_iload_n hx hb dX4_carries_84 rfl (lv_at hl 0 rfl) ?_
    refine m_callR (As := [.int (iI (σ 20 (4 * dd + 1))), .int (iI (σ 20 (4 * dd + 2)))]) (rest := []) hZ hX hK hD hA hE hP hS (c_deposit hZ σ _ _ _ (by omega) (by omega) B hgo hB n6 h6 h7) (cwV 2 hX.hts (lw_V q2302 q1999 q2000 q89 q2001) rfl rfl rfl (by decide +kernel) ⟨Nat.le_of_ble_eq_true rfl, Nat.le_of_ble_eq_true rfl⟩) rfl hl.1 (lv_room (Nat.le_of_ble_eq_true rfl)) dX4_carries_85 ⟨Nat.le_refl _, Nat.le_refl _⟩ rfl (fun z y H locs hq hP hS => ?_)
    exact w_iret hX hP hS (⟨z, rfl, opR_o rfl hq⟩) dX4_carries_88
  · refine lv_tableIn (tgt := 89) (off := 65) hx hb dX4_carries_24 (by decide) (by decide) (by decide) (by decide) ?_
    refine lv_aload_n hx hb dX4_carries_89 rfl (lv_at hl 2 rfl) ?_
    refine lv_iload_n hx hb dX4_carries_90 rfl (lv_at hl 1 rfl) ?_
    refine W.eq (g2 := F0 m 91 ls [.int (iI (σ 20 (4 * dd + 1))), .ref o]) rfl ?_
    refine lv_iload_n hx hb dX4_carries_91 rfl (lv_at hl 0 rfl) ?_
    refine lv_aload_n hx hb dX4_carries_92 rfl (lv_at hl 2 rfl) ?_
    refine m_get hX hK hP 20 (by decide) q1928 rfl dX4_carries_93 ?_
    refine lv_iload_n hx hb dX4_carries_96 rfl (lv_at hl 3 rfl) ?_
    refine z_iconst hX dX4_carries_97 ?_
    refine z_iadd hX dX4_carries_98 ?_
    refine m_ld hX hK hP mW_e20 (4 * dd + 3) (by omega) (by decide) dX4_carries_99 ?_
    refine m_callR (As := [.int (iI (σ 20 (4 * dd + 1))), .int (iI (σ 20 (4 * dd + 2))), .int (iI (σ 20 (4 * dd + 3)))]) (rest := []) hZ hX hK hD hA hE hP hS (c_owe hZ σ _ _ _ _ (by omega) (by omega) (by omega) B hgo hB n6 h6 h7) (cwV 3 hX.hts (lw_V q2303 q2011 q2012 q89 q2013) rfl rfl rfl (by decide +kernel) ⟨Nat.le_of_ble_eq_true rfl, Nat.le_of_ble_eq_true rfl⟩) rfl hl.1 (lv_room (Nat.le_of_ble_eq_true rfl)) dX4_carries_100 ⟨Nat.le_refl _, Nat.le_refl _⟩ rfl (fun z y H locs hq hP hS => ?_)
    exact w_iret hX hP hS (⟨z, rfl, opR_o rfl hq⟩) dX4_carries_103
  · refine lv_tableIn (tgt := 104) (off := 80) hx hb dX4_carries_24 (by decide) (by decide) (by decide) (by decide) ?_
    refine lv_aload_n hx hb dX4_carries_104 rfl (lv_at hl 2 rfl) ?_
    refine W.eq (g2 := F0 m 105 ls [.ref o]) rfl ?_
    refine lv_iload_n hx hb dX4_carries_105 rfl (lv_at hl 1 rfl) ?_
    refine lv_iload_n hx hb dX4_carries_106 rfl (lv_at hl 0 rfl) ?_
    refine lv_aload_n hx hb dX4_carries_107 rfl (lv_at hl 2 rfl) ?_
    refine m_get hX hK hP 20 (by decide) q1928 rfl dX4_carries_108 ?_
    refine lv_iload_n hx hb dX4_carries_111 rfl (lv_at hl 3 rfl) ?_
    refine z_iconst hX dX4_carries_112 ?_
    refine z_iadd hX dX4_carries_113 ?_
    refine m_ld hX hK hP mW_e20 (4 * dd + 3) (by omega) (by decide) dX4_carries_114 ?_
    refine m_callR (As := [.int (iI (σ 20 (4 * dd + 1))), .int (iI (σ 20 (4 * dd + 2))), .int (iI (σ 20 (4 * dd + 3)))]) (rest := []) hZ hX hK hD hA hE hP hS (c_pay hZ σ _ _ _ _ (by omega) (by omega) (by omega) B hgo hB n6 h6 h7) (cwV 3 hX.hts (lw_V q2304 q2023 q2024 q89 q2025) rfl rfl rfl (by decide +kernel) ⟨Nat.le_of_ble_eq_true rfl, Nat.le_of_ble_eq_true rfl⟩) rfl hl.1 (lv_room (Nat.le_of_ble_eq_true rfl)) dX4_carries_115 ⟨Nat.le_refl _, Nat.le_refl _⟩ rfl (fun z y H locs hq hP hS => ?_)
    exact w_iret hX hP hS (⟨z, rfl, opR_o rfl hq⟩) dX4_carries_118
  · refine lv_tableIn (tgt := 119) (off := 95) hx hb dX4_carries_24 (by decide) (by decide) (by decide) (by decide) ?_
    refine W.eq (g2 := F0 m 119 ls []) rfl ?_
    refine lv_aload_n hx hb dX4_carries_119 rfl (lv_at hl 2 rfl) ?_
    refine lv_iload_n hx hb dX4_carries_120 rfl (lv_at hl 1 rfl) ?_
    refine lv_iload_n hx hb dX4_carries_121 rfl (lv_at hl 0 rfl) ?_
    refine m_callR (As := [.int (iI (σ 20 (4 * dd + 1))), .int (iI (σ 20 (4 * dd + 2)))]) (rest := []) hZ hX hK hD hA hE hP hS (c_netPair hZ σ _ _ _ (by omega) (by omega) B hgo hB n6 h6 h7) (cwV 2 hX.hts (lw_V q2305 q2031 q2032 q89 q2033) rfl rfl rfl (by decide +kernel) ⟨Nat.le_of_ble_eq_true rfl, Nat.le_of_ble_eq_true rfl⟩) rfl hl.1 (lv_room (Nat.le_of_ble_eq_true rfl)) dX4_carries_122 ⟨Nat.le_refl _, Nat.le_refl _⟩ rfl (fun z y H locs hq hP hS => ?_)
    exact w_iret hX hP hS (⟨z, rfl, opR_o rfl hq⟩) dX4_carries_125
  · refine lv_tableIn (tgt := 126) (off := 102) hx hb dX4_carries_24 (by decide) (by decide) (by decide) (by decide) ?_
    refine lv_aload_n hx hb dX4_carries_126 rfl (lv_at hl 2 rfl) ?_
    refine m_callR (As := []) (rest := []) hZ hX hK hD hA hE hP hS (c_netCycle hZ σ _ (σ 0 0).toNat ⟨by omega, by omega⟩ B hgo n6 h6 h7) (cwV 0 hX.hts (lw_V q2306 q2038 q2039 q89 q2040) rfl rfl rfl (by decide +kernel) ⟨Nat.le_of_ble_eq_true rfl, Nat.le_of_ble_eq_true rfl⟩) rfl hl.1 (lv_room (Nat.le_of_ble_eq_true rfl)) dX4_carries_127 ⟨Nat.le_refl _, Nat.le_refl _⟩ rfl (fun z y H locs hq hP hS => ?_)
    exact w_iret hX hP hS (⟨z, rfl, opR_nc hq⟩) dX4_carries_130
  · refine lv_tableIn (tgt := 131) (off := 107) hx hb dX4_carries_24 (by decide) (by decide) (by decide) (by decide) ?_
    refine lv_aload_n hx hb dX4_carries_131 rfl (lv_at hl 2 rfl) ?_
    refine m_callR (As := []) (rest := []) hZ hX hK hD hA hE hP hS (c_netAll hZ σ _ (σ 0 0).toNat ⟨by omega, by omega⟩ B hgo n6 h6 h7 ((gMu (σ 0)).toNat + 1) (by omega)) (cwV 0 hX.hts (lw_V q2307 q2058 q2059 q89 q2060) rfl rfl rfl (by decide +kernel) ⟨Nat.le_of_ble_eq_true rfl, Nat.le_of_ble_eq_true rfl⟩) rfl hl.1 (lv_room (Nat.le_of_ble_eq_true rfl)) dX4_carries_132 ⟨Nat.le_refl _, Nat.le_refl _⟩ rfl (fun z y H locs hq hP hS => ?_)
    refine W.eq (g2 := F0 m 135 ls [.int (iI (z))]) rfl ?_
    exact w_iret hX hP hS (⟨z, rfl, opR_na hq⟩) dX4_carries_135
  · refine lv_tableIn (tgt := 136) (off := 112) hx hb dX4_carries_24 (by decide) (by decide) (by decide) (by decide) ?_
    refine lv_aload_n hx hb dX4_carries_136 rfl (lv_at hl 2 rfl) ?_
    refine lv_iload_n hx hb dX4_carries_137 rfl (lv_at hl 1 rfl) ?_
    refine m_callR (As := [.int (iI (σ 20 (4 * dd + 1)))]) (rest := []) hZ hX hK hD hA hE hP hS (c_declareDefault hZ σ _ _ (by omega) B hgo hB n6 h6 h7) (cwV 1 hX.hts (lw_V q2308 q2082 q2083 q89 q2084) rfl rfl rfl (by decide +kernel) ⟨Nat.le_of_ble_eq_true rfl, Nat.le_of_ble_eq_true rfl⟩) rfl hl.1 (lv_room (Nat.le_of_ble_eq_true rfl)) dX4_carries_138 ⟨Nat.le_refl _, Nat.le_refl _⟩ rfl (fun z y H locs hq hP hS => ?_)
    exact w_iret hX hP hS (⟨z, rfl, opR_de hq⟩) dX4_carries_141
  · refine lv_tableIn (tgt := 142) (off := 118) hx hb dX4_carries_24 (by decide) (by decide) (by decide) (by decide) ?_
    refine lv_aload_n hx hb dX4_carries_142 rfl (lv_at hl 2 rfl) ?_
    refine m_callR (As := []) (rest := []) hZ hX hK hD hA hE hP hS (c_cascade hZ σ _ (σ 0 0).toNat ⟨by omega, by omega⟩ B hgo hB ((gNo (σ 0)).toNat + 1) (by omega) n6 h6 h7) (cwV 0 hX.hts (lw_V q2309 q2110 q2111 q89 q2112) rfl rfl rfl (by decide +kernel) ⟨Nat.le_of_ble_eq_true rfl, Nat.le_of_ble_eq_true rfl⟩) rfl hl.1 (lv_room (Nat.le_of_ble_eq_true rfl)) dX4_carries_143 ⟨Nat.le_refl _, Nat.le_refl _⟩ rfl (fun z y H locs hq hP hS => ?_)
    exact w_iret hX hP hS (⟨z, rfl, opR_ca hq⟩) dX4_carries_146
  · refine lv_tableOut (tgt := 147) hx hb dX4_carries_24 (by decide) (by decide) ?_
    refine lv_aload_n hx hb dX4_carries_147 rfl (lv_at hl 2 rfl) ?_
    refine m_calli (As := []) (rest := []) hZ hX hK hD hA hE hP hS (c_call hZ σ _ (σ 0 0).toNat ⟨by omega, by omega⟩ B hgo hB n6 h6 h7) (cwV 0 hX.hts (lw_V q2310 q2134 q2135 q89 q2136) rfl rfl rfl (by decide +kernel) ⟨Nat.le_of_ble_eq_true rfl, Nat.le_of_ble_eq_true rfl⟩) rfl hl.1 (lv_room (Nat.le_of_ble_eq_true rfl)) dX4_carries_148 ⟨Nat.le_refl _, Nat.le_refl _⟩ rfl (fun  H locs hP hS => ?_)
    refine W.eq (g2 := F0 m 151 ls [.int (iI ((sCall (σ 0 0).toNat (σ 0)).2))]) rfl ?_
    exact w_iret hX hP hS (⟨_, rfl, opR_cl⟩) dX4_carries_151
set_option maxHeartbeats 4000000 in
theorem c_run {l : Launch} {D : va_G} {Z : zZ} {o : Nat} {ad : Nat → Nat} {cA : Nat → ClassId} (hZ : zOk Z) (σ : zT) (sz : Nat) (len : Nat) (hlen : σ 10 0 = len ∧ len ≤ 60) (hin : ∀ k, k < len → 0 ≤ σ 9 k ∧ σ 9 k < 65536) {sq sv : Nat → Nat} (hst : ∀ A U H, Z A U H → tS sq sv A U H) (hj : ∀ A U H, Z A U H → jJ A U H) (hrg : rgT (σ 20)) (B : Int) (hgo : gOk (σ 0) B) (hB : B ≤ 1900000) (n6 : Nat) (h6 : σ 6 0 = n6 ∧ n6 ≤ 8) (h7 : σ 7 0 = 0) : MI l D Z o ad cA yX4_run (ws_ yX4_run cX4_run 4 (some .int)) { frames := 11, cells := 0, slots := 0, locals := 306 } [.ref o] sz (σ) (fR ((runR σ n6 len))) := by
  refine w_met (cc := cX4_run) (maxL := 4) (ret := some .int) (own := RX4) (by decide) rfl rfl mW_ok (Nat.le_of_ble_eq_true rfl) ?_
  intro p e s m below meth c hX hsz hK hP hD hA hE hS hR ls hl
  have hx := hX.1
  have hb := hX.2.1
  have hl : lv_has ls 4 [(0, .ref o)] := hl
  refine lv_aload_n hx hb dX4_run_0 rfl (lv_at hl 0 rfl) ?_
  refine m_callR (As := []) (rest := []) hZ hX hK hD hA hE hP hS (c_isProgram hZ σ _ len hlen hin hst hj) (cwV 0 hX.hts (lw_V q2249 q2251 qs66 q89 q2252) rfl rfl rfl (by decide +kernel) ⟨Nat.le_of_ble_eq_true rfl, Nat.le_of_ble_eq_true rfl⟩) rfl hl.1 (lv_room (Nat.le_of_ble_eq_true rfl)) dX4_run_1 ⟨Nat.le_refl _, Nat.le_refl _⟩ rfl (fun z1 y H locs hq hP hS => ?_)
  obtain ⟨b1, a1, t1, tm, he1, hz1, hy1⟩ := hq
  rw [hy1] at hP
  refine z_top hz1 ?_
  have hpo := pgm_ok 16 0 0 (σ 20) (by omega) (by omega) hlen.2 hrg (fun d hd => absurd hd (by omega)) _ _ _ _ he1
  refine lv_istore_n (lv' := [(1, .int (iI (bI (b1 = true)))), (0, .ref o)]) hx hb dX4_run_4 rfl hl (by decide) rfl (fun ls hl => ?_)
  refine lv_iload_n hx hb dX4_run_5 rfl (lv_at hl 0 rfl) ?_
  refine z_if_neB (tgt := 17) hX dX4_run_6 (by decide) (fun c_6 => ?_) (fun c_6 => ?_)
  · skip
    obtain rfl : b1 = true := c_6
    refine lv_aload_n hx hb dX4_run_17 rfl (lv_at hl 1 rfl) ?_
    refine z_iconst hX dX4_run_18 ?_
    refine m_put hX hK hD hP hS 10 (by decide) q1918 rfl rfl rfl mW_f10 dX4_run_19 (fun H locs hP hS => ?_)
    rw [show uA (pS (uA σ 21 0 ↑tm) a1 t1) 10 0 0 = pS (uA (uA σ 21 0 ↑tm) 10 0 0) a1 t1 from pS_u (by decide) (by decide)] at hP
    refine lv_aload_n hx hb dX4_run_22 rfl (lv_at hl 1 rfl) ?_
    refine W.eq (g2 := F0 m 23 ls [.ref o]) rfl ?_
    refine lv_iload_n hx hb dX4_run_23 rfl (lv_at hl 0 rfl) ?_
    refine z_top (y := 1) (bI_t rfl) ?_
    refine z_if_eq (tgt := 31) hX (by decide) dX4_run_24 (by decide) (fun h9 => absurd h9 (by decide)) (fun h9 => ?_)
    refine z_iconst hX dX4_run_27 ?_
    refine lv_goto (tgt := 32) hx hb dX4_run_28 (by decide) ?_
    refine m_calli (As := [.int (iI (0))]) (rest := []) hZ hX hK hD hA hE hP hS (c_fails hZ (pS (uA (uA σ 21 0 ↑tm) 10 0 0) a1 t1) _ (0) (by omega)) (cwV 1 hX.hts (lw_V q1987 q1989 qs42 q89 q1990) rfl rfl rfl (by decide +kernel) ⟨Nat.le_of_ble_eq_true rfl, Nat.le_of_ble_eq_true rfl⟩) rfl hl.1 (lv_room (Nat.le_of_ble_eq_true rfl)) dX4_run_32 ⟨Nat.le_refl _, Nat.le_refl _⟩ rfl (fun  H locs hP hS => ?_)
    rw [show uA (pS (uA (uA σ 21 0 ↑tm) 10 0 0) a1 t1) 8 0 0 = pS (uA (uA (uA σ 21 0 ↑tm) 10 0 0) 8 0 0) a1 t1 from pS_u (by decide) (by decide)] at hP
    refine z_if_eqB (tgt := 40) hX dX4_run_35 (by decide) (fun h9 => ?_) (fun h9 => absurd h9 (by decide))
    refine lv_aload_n hx hb dX4_run_40 rfl (lv_at hl 1 rfl) ?_
    refine m_get hX hK hP 0 (by decide) q1908 rfl dX4_run_41 ?_
    refine z_iconst hX dX4_run_44 ?_
    refine lv_aload_n hx hb dX4_run_45 rfl (lv_at hl 1 rfl) ?_
    refine W.eq (g2 := F0 m 46 ls [.ref o, .int (iI (0)), .ref (ad 0)]) rfl ?_
    refine m_get hX hK hP 3 (by decide) q1911 rfl dX4_run_46 ?_
    refine z_iconst hX dX4_run_49 ?_
    refine m_callSv (As := [.ref (ad 0), .int (iI (0)), .ref (ad 3), .int (iI (0))]) (rest := []) hZ hX hK hD hA hE hP hS (c_copies hZ (pS (uA (uA (uA σ 21 0 ↑tm) 10 0 0) 8 0 0) a1 t1) _ _ _ 0 _ (fun _ => mW_e0) (by decide) _ _ 3 _ (fun _ => mW_e3) (by decide) (fun _ _ _ => mW_s3) (by decide) 0 0 _ _ ⟨rfl, by decide⟩ ⟨rfl, by decide⟩) (va_cwS 4 hX.hts (lw_S q1995 q1996 q89 q1997) rfl rfl rfl (by decide +kernel) ⟨Nat.le_of_ble_eq_true rfl, Nat.le_of_ble_eq_true rfl⟩) rfl hl.1 (lv_room (Nat.le_of_ble_eq_true rfl)) dX4_run_50 ⟨Nat.le_refl _, Nat.le_refl _⟩ rfl (fun  H locs hP hS => ?_)
    refine lv_aload_n hx hb dX4_run_53 rfl (lv_at hl 1 rfl) ?_
    refine z_iconst hX dX4_run_54 ?_
    refine m_put hX hK hD hP hS 7 (by decide) q1915 rfl (by decide) (by decide) mW_f7 dX4_run_55 (fun H locs hP hS => ?_)
    obtain ⟨σb, hsb⟩ : ∃ σb, σb = uA (cpF (pS (uA (uA (uA σ 21 0 ↑tm) 10 0 0) 8 0 0) a1 t1) 0 0 3 0 61) 7 0 1 := ⟨_, rfl⟩
    rw [← hsb] at hP
    have hb0 : σb 0 = σ 0 := by rw [hsb, uA_sA, sA_i (by decide)]; unfold cpF; rw [sA_i (by decide), pS_i (by decide) (by decide), uA_sA, sA_i (by decide), uA_sA, sA_i (by decide), uA_sA, sA_i (by decide)]
    have hb3 : ∀ k, k < 61 → σb 3 k = σ 0 k := fun k hk => by rw [hsb, uA_nj (by decide)]; unfold cpF; rw [sA_j, if_pos (by omega), pS_i (by decide) (by decide), uA_nj (by decide), uA_nj (by decide), uA_nj (by decide), Nat.zero_add, Nat.sub_zero]
    have hb7 : σb 7 0 = 1 := by rw [hsb, uA_eq]
    have hbr : ∀ j, j ≠ 3 → j ≠ 7 → σb j = pS (uA (uA (uA σ 21 0 ↑tm) 10 0 0) 8 0 0) a1 t1 j := fun j h1 h2 => by rw [hsb, uA_sA, sA_i h2]; unfold cpF; rw [sA_i h1]
    have hb8 : σb 8 0 = 0 := by rw [hbr 8 (by decide) (by decide), pS_i (by decide) (by decide), uA_eq]
    have hb20 : σb 20 = t1 := by rw [hbr 20 (by decide) (by decide), pS_20]
    have hb21 : σb 21 0 = tm := by rw [hbr 21 (by decide) (by decide), pS_i (by decide) (by decide), uA_nj (by decide), uA_nj (by decide), uA_eq]
    have hb6 : σb 6 0 = n6 := by rw [hbr 6 (by decide) (by decide), pS_i (by decide) (by decide), uA_nj (by decide), uA_nj (by decide), uA_nj (by decide)]; exact h6.1
    have hbx : xE scr2 σb (uA (uA (uA σ 10 0 0) 8 0 0) 7 0 1) := by
      rw [hsb]
      refine xE_u ?_ (by decide)
      unfold cpF
      exact xE_o (xE_p (xE_u (xE_u (by rw [uA_sA]; exact xE_o xE_r (by decide)) (by decide)) (by decide))) (by decide)
    refine z_iconst hX dX4_run_58 ?_
    refine lv_istore_n (lv' := [(2, .int (iI (0))), (1, .int (iI (bI (true = true)))), (0, .ref o)]) hx hb dX4_run_59 rfl hl (by decide) rfl (fun ls hl => ?_)
    refine z_iconst hX dX4_run_60 ?_
    refine lv_istore_n (lv' := [(3, .int (iI (0))), (2, .int (iI (0))), (1, .int (iI (bI (true = true)))), (0, .ref o)]) hx hb dX4_run_61 rfl hl (by decide) rfl (fun ls hl => ?_)
    have L62 : ∀ (n : Nat) (d : Nat) (got C : Int) (G : Nat → Int) (τ : zT), ((84 : Int) < 5 * d + C + n) → (xE scr τ (uA (sA σb 0 G) 8 0 C)) → (rnF t1 tm 16 0 0 (σ 0) = if C = 0 then rnF t1 tm (16 - d) d got G else (d, C, got, G)) → (C ≠ 0 → got = 0) → (0 ≤ C ∧ C ≤ 4) → (∀ k, 61 ≤ k → G k = σ 0 k) → (gOk G (B + 999 * d)) → (d ≤ tm) → ∀ (H : Heap) (locs : List Loc) (ls : Array Slot), va_P D vwCl (mW o ad cA (τ)) H → va_S (wA (mW o ad cA) sz) s.heap H locs → lv_has ls 4 [(0, .ref o), (2, .int (iI (↑d))), (3, .int (iI (got)))] → W p l e (headSpec (ws_ yX4_run cX4_run 4 (some .int)) { frames := 11, cells := 0, slots := 0, locals := 306 }).room s m ([.ref o] : List Value).toArray below meth c H locs 0 0 (MQ below (wQi D vwCl (mW o ad cA) (fR ((runR σ n6 len))) sz) ([.ref o] : List Value).toArray s 0 0 (wA (mW o ad cA) sz)) (F0 m 62 ls []) := by
      intro n
      induction n with
      | zero =>
        intro d got C G τ hf hEq hR hgot hC hhi hG hd H locs ls hP hS hl
        exact absurd hf (by omega)
      | succ n ih62 =>
        intro d got C G τ hf hEq hR hgot hC hhi hG hd H locs ls hP hS hl
        have h21 : τ 21 0 = ↑tm := by rw [hEq 21 (by decide), uA_nj (by decide), sA_i (by decide)]; exact hb21
        have h8 : τ 8 0 = C := by rw [hEq 8 (by decide), uA_eq]
        have h20 : τ 20 = t1 := by rw [hEq 20 (by decide), uA_sA, sA_i (by decide), sA_i (by decide)]; exact hb20
        have h0 : τ 0 = G := by rw [hEq 0 (by decide), uA_sA, sA_i (by decide), sA_j]
        have h76 : τ 7 0 = 1 := by rw [hEq 7 (by decide), uA_nj (by decide), sA_i (by decide)]; exact hb7
        have h66 : τ 6 0 = n6 := by rw [hEq 6 (by decide), uA_nj (by decide), sA_i (by decide)]; exact hb6
        refine lv_iload_n hx hb dX4_run_62 rfl (lv_at hl 1 rfl) ?_
        refine W.eq (g2 := F0 m 63 ls [.int (iI (↑d))]) rfl ?_
        refine lv_aload_n hx hb dX4_run_63 rfl (lv_at hl 0 rfl) ?_
        refine m_get hX hK hP 21 (by decide) q1929 rfl dX4_run_64 ?_
        refine z_top (y := ↑tm) (h21) ?_
        have L98 : ∀ (d : Nat) (got C : Int) (G : Nat → Int) (τ : zT), (xE scr τ (uA (sA σb 0 G) 8 0 C)) → (rnF t1 tm 16 0 0 (σ 0) = (d, C, got, G)) → (C ≠ 0 → got = 0) → (0 ≤ C ∧ C ≤ 4) → (∀ k, 61 ≤ k → G k = σ 0 k) → ∀ (H : Heap) (locs : List Loc) (ls : Array Slot), va_P D vwCl (mW o ad cA (τ)) H → va_S (wA (mW o ad cA) sz) s.heap H locs → lv_has ls 4 [(0, .ref o), (2, .int (iI (↑d))), (3, .int (iI (got)))] → W p l e (headSpec (ws_ yX4_run cX4_run 4 (some .int)) { frames := 11, cells := 0, slots := 0, locals := 306 }).room s m ([.ref o] : List Value).toArray below meth c H locs 0 0 (MQ below (wQi D vwCl (mW o ad cA) (fR ((runR σ n6 len))) sz) ([.ref o] : List Value).toArray s 0 0 (wA (mW o ad cA) sz)) (F0 m 98 ls []) := by
          intro d got C G τ hEq hR hgot hC hhi H locs ls hP hS hl
          have h21 : τ 21 0 = ↑tm := by rw [hEq 21 (by decide), uA_nj (by decide), sA_i (by decide)]; exact hb21
          have h8 : τ 8 0 = C := by rw [hEq 8 (by decide), uA_eq]
          have h20 : τ 20 = t1 := by rw [hEq 20 (by decide), uA_sA, sA_i (by decide), sA_i (by decide)]; exact hb20
          have h0 : τ 0 = G := by rw [hEq 0 (by decide), uA_sA, sA_i (by decide), sA_j]
          have h76 : τ 7 0 = 1 := by rw [hEq 7 (by decide), uA_nj (by decide), sA_i (by decide)]; exact hb7
          have h66 : τ 6 0 = n6 := by rw [hEq 6 (by decide), uA_nj (by decide), sA_i (by decide)]; exact hb6
          refine lv_aload_n hx hb dX4_run_98 rfl (lv_at hl 0 rfl) ?_
          refine z_iconst hX dX4_run_99 ?_
          refine m_put hX hK hD hP hS 7 (by decide) q1915 rfl (by decide) (by decide) mW_f7 dX4_run_100 (fun H locs hP hS => ?_)
          refine lv_aload_n hx hb dX4_run_103 rfl (lv_at hl 0 rfl) ?_
          refine m_get hX hK hP 8 (by decide) q1916 rfl dX4_run_104 ?_
          refine z_top (y := τ 8 0) (by rw [uA_nj (by decide)]) ?_
          refine z_top (y := C) (h8) ?_
          refine z_if_le (tgt := 143) hX (by omega) dX4_run_107 (by decide) (fun c_107 => ?_) (fun c_107 => ?_)
          · skip
            refine lv_aload_n hx hb dX4_run_143 rfl (lv_at hl 0 rfl) ?_
            refine W.eq (g2 := F0 m 144 ls [.ref o]) rfl ?_
            refine lv_aload_n hx hb dX4_run_144 rfl (lv_at hl 0 rfl) ?_
            refine m_get hX hK hP 3 (by decide) q1911 rfl dX4_run_145 ?_
            refine m_callv (As := [.ref (ad 3)]) (rest := []) hZ hX hK hD hA hE hP hS (c_keeps hZ (uA τ 7 0 0) _ _ 3 _ (fun _ => mW_e3) (by decide) (by decide) (by decide) n6 ⟨by rw [uA_nj (by decide)]; exact h66, h6.2⟩ (Or.inl (uA_eq _ _ _ _))) (cwV 1 hX.hts (lw_V q1991 q1993 qs43 q89 q1994) rfl rfl rfl (by decide +kernel) ⟨Nat.le_of_ble_eq_true rfl, Nat.le_of_ble_eq_true rfl⟩) rfl hl.1 (lv_room (Nat.le_of_ble_eq_true rfl)) dX4_run_148 ⟨Nat.le_refl _, Nat.le_refl _⟩ rfl (fun  H locs hP hS => ?_)
            refine lv_aload_n hx hb dX4_run_151 rfl (lv_at hl 0 rfl) ?_
            refine m_get hX hK hP 21 (by decide) q1929 rfl dX4_run_152 ?_
            refine z_top (y := τ 21 0) (by rw [kF_i (by decide) (by decide) (by decide), uA_nj (by decide)]) ?_
            exact w_iret hX hP hS (⟨τ 21 0, rfl, true, a1, t1, tm, he1, rgT_of (by rw [kF_i (by decide) (by decide) (by decide), uA_sA, sA_i (by decide)]; exact h20) hpo.2.2.1, (fun e => by cases e), fun _ => ⟨d, C, got, G, hR, fun e => absurd (show C = 0 by omega) e, fun e => ⟨h21, run_t2 h7 (by rw [e] at hEq; exact hEq) hb3 hbx⟩⟩⟩) dX4_run_155
          · skip
            obtain rfl : got = 0 := hgot (by omega)
            refine lv_aload_n hx hb dX4_run_110 rfl (lv_at hl 0 rfl) ?_
            refine m_get hX hK hP 3 (by decide) q1911 rfl dX4_run_111 ?_
            refine z_iconst hX dX4_run_114 ?_
            refine lv_aload_n hx hb dX4_run_115 rfl (lv_at hl 0 rfl) ?_
            refine W.eq (g2 := F0 m 116 ls [.ref o, .int (iI (0)), .ref (ad 3)]) rfl ?_
            refine m_get hX hK hP 0 (by decide) q1908 rfl dX4_run_116 ?_
            refine z_iconst hX dX4_run_119 ?_
            refine m_callSv (As := [.ref (ad 3), .int (iI (0)), .ref (ad 0), .int (iI (0))]) (rest := []) hZ hX hK hD hA hE hP hS (c_copies hZ (uA τ 7 0 0) _ _ _ 3 _ (fun _ => mW_e3) (by decide) _ _ 0 _ (fun _ => mW_e0) (by decide) (fun _ _ _ => mW_s0) (by decide) 0 0 _ _ ⟨rfl, by decide⟩ ⟨rfl, by decide⟩) (va_cwS 4 hX.hts (lw_S q1995 q1996 q89 q1997) rfl rfl rfl (by decide +kernel) ⟨Nat.le_of_ble_eq_true rfl, Nat.le_of_ble_eq_true rfl⟩) rfl hl.1 (lv_room (Nat.le_of_ble_eq_true rfl)) dX4_run_120 ⟨Nat.le_refl _, Nat.le_refl _⟩ rfl (fun  H locs hP hS => ?_)
            refine lv_aload_n hx hb dX4_run_123 rfl (lv_at hl 0 rfl) ?_
            refine lv_iload_n hx hb dX4_run_124 rfl (lv_at hl 1 rfl) ?_
            refine m_put hX hK hD hP hS 12 (by decide) q1920 rfl rfl rfl mW_f12 dX4_run_125 (fun H locs hP hS => ?_)
            refine lv_aload_n hx hb dX4_run_128 rfl (lv_at hl 0 rfl) ?_
            refine z_iconst hX dX4_run_129 ?_
            refine m_put hX hK hD hP hS 8 (by decide) q1916 rfl rfl rfl mW_f8 dX4_run_130 (fun H locs hP hS => ?_)
            refine lv_iload_n hx hb dX4_run_133 rfl (lv_at hl 2 rfl) ?_
            refine W.eq (g2 := F0 m 134 ls [.int (iI (0))]) rfl ?_
            refine z_if_le (tgt := 141) hX (by decide) dX4_run_134 (by decide) (fun h9 => ?_) (fun h9 => absurd h9 (by decide))
            refine lv_iload_n hx hb dX4_run_141 rfl (lv_at hl 2 rfl) ?_
            exact w_iret hX hP hS (⟨0, rfl, true, a1, t1, tm, he1, rgT_of (by rw [uA_sA, sA_i (by decide), uA_sA, sA_i (by decide)]; unfold cpF; rw [sA_i (by decide), uA_sA, sA_i (by decide)]; exact h20) hpo.2.2.1, (fun e => by cases e), fun _ => ⟨d, C, 0, G, hR, fun _ => ⟨rfl, xE_tr (run_back hEq hb3 hhi) (run_t1 h7 hb0 hbx)⟩, fun e => absurd e (by omega)⟩⟩) dX4_run_142
        refine z_icmp_ge (tgt := 98) hX (by omega) dX4_run_67 (by decide) (fun c_67 => ?_) (fun c_67 => ?_)
        · skip
          exact L98 (d) (got) (C) (G) (τ) (hEq) (by rw [hR]; split <;> rename_i e9 <;> first | (rw [rnF_e (by omega), e9]; done) | rfl | (exact absurd e9 (by omega))) (hgot) (hC) (hhi) _ _ _ hP hS (lv_sub hl [0, 1, 2] rfl)
        · skip
          refine lv_aload_n hx hb dX4_run_70 rfl (lv_at hl 0 rfl) ?_
          refine m_get hX hK hP 8 (by decide) q1916 rfl dX4_run_71 ?_
          refine z_top (y := C) (h8) ?_
          refine z_if_ne (tgt := 98) hX (by omega) dX4_run_74 (by decide) (fun c_74 => ?_) (fun c_74 => ?_)
          · skip
            exact L98 (d) (got) (C) (G) (τ) (hEq) (by rw [hR]; split <;> rename_i e9 <;> first | (rw [rnF_e (by omega), e9]; done) | rfl | (exact absurd e9 (by omega))) (hgot) (hC) (hhi) _ _ _ hP hS (lv_sub hl [0, 1, 2] rfl)
          · skip
            obtain rfl : C = 0 := by omega
            refine lv_aload_n hx hb dX4_run_77 rfl (lv_at hl 0 rfl) ?_
            refine z_iconst hX dX4_run_78 ?_
            refine lv_iload_n hx hb dX4_run_79 rfl (lv_at hl 1 rfl) ?_
            refine z_imul hX dX4_run_80 ?_
            refine W.eq (g2 := F0 m 81 ls [.int (iI (4 * (↑d))), .ref o]) rfl ?_
            refine m_callR (As := [.int (iI (4 * (↑d)))]) (rest := []) hZ hX hK hD hA hE hP hS (c_carries hZ τ _ d _ (by omega) (t1 (4 * d)).toNat (by rw [h20]; have h9 := hpo.2.2.2 d (by omega); omega) (by rw [h20]; exact hpo.2.2.1) (B + 999 * d) (by rw [h0]; exact hG) (by omega) n6 ⟨h66, h6.2⟩ (Or.inr h76)) (cwV 1 hX.hts (lw_V q2297 q2299 qs75 q89 q2300) rfl rfl rfl (by decide +kernel) ⟨Nat.le_of_ble_eq_true rfl, Nat.le_of_ble_eq_true rfl⟩) rfl hl.1 (lv_room (Nat.le_of_ble_eq_true rfl)) dX4_run_81 ⟨Nat.le_refl _, Nat.le_refl _⟩ rfl (fun z y H locs hq hP hS => ?_)
            rw [h20] at hq
            obtain ⟨C1, G1, ho, hE1⟩ := rn_step hEq hb7 hq
            have hof := opF_f ho
            have hok : gOk G1 (B + 999 * d + 999) := by have h9 := opF_ok (k := (t1 (4 * d)).toNat) (a := t1 (4 * d + 1)) (b := t1 (4 * d + 2)) (d := t1 (4 * d + 3)) hG (by omega); rw [ho] at h9; exact h9
            have hh1 : ∀ k, 61 ≤ k → G1 k = σ 0 k := fun k hk => by have h9 := opF_hi (k := (t1 (4 * d)).toNat) (a := t1 (4 * d + 1)) (b := t1 (4 * d + 2)) (d := t1 (4 * d + 3)) hG hk; rw [ho] at h9; exact h9.trans (hhi k hk)
            have hy8 : y 8 0 = C1 := by rw [hE1 8 (by decide), uA_eq]
            have hRn : rnF t1 tm 16 0 0 (σ 0) = if C1 = 0 then rnF t1 tm (16 - (d + 1)) (d + 1) z G1 else (d, C1, z, G1) := by rw [hR, if_pos rfl, show 16 - d = (16 - (d + 1)) + 1 from by omega, rnF_s (by omega) ho]
            refine lv_istore_n (lv' := [(3, .int (iI (z))), (0, .ref o), (2, .int (iI (↑d)))]) hx hb dX4_run_84 rfl hl (by decide) rfl (fun ls hl => ?_)
            refine lv_aload_n hx hb dX4_run_85 rfl (lv_at hl 1 rfl) ?_
            refine m_get hX hK hP 8 (by decide) q1916 rfl dX4_run_86 ?_
            refine z_top (y := C1) (hy8) ?_
            refine z_if_ne (tgt := 62) hX (by omega) dX4_run_89 (by decide) (fun c_89 => ?_) (fun c_89 => ?_)
            · skip
              exact ih62 (d) (z) (C1) (G1) (y) (by omega) (hE1) (by rw [hRn, if_neg c_89, if_neg c_89]) (fun _ => (hof.2 c_89).2) (hof.1) (hh1) (by rw [(hof.2 c_89).1]; exact hG) (hd) _ _ _ hP hS (lv_sub hl [1, 2, 0] rfl)
            · skip
              have e1 : C1 = 0 := by omega
              refine z_iinc (y := ↑(d + 1)) (lv' := [(2, .int (iI (↑(d + 1)))), (3, .int (iI (z))), (0, .ref o)]) hX dX4_run_92 hl (k := 2) rfl (by omega) (by decide) rfl (fun ls hl => ?_)
              refine lv_goto (tgt := 62) hx hb dX4_run_95 (by decide) ?_
              exact ih62 (d + 1) (z) (C1) (G1) (y) (by omega) (hE1) (by rw [hRn, if_pos e1, if_pos e1]) (fun h => absurd e1 h) (hof.1) (hh1) (gOk_mono hok (by omega)) (by omega) _ _ _ hP hS (lv_sub hl [2, 0, 1] rfl)
    exact L62 (85) (0) (0) (0) (σ 0) (σb) (by omega) (by rw [← hb0, sA_self, ← hb8, show uA σb 8 0 (σb 8 0) = σb from by rw [uA_sA, gU_self, sA_self]]; exact xE_r) (by rw [if_pos rfl]) (fun _ => rfl) (by omega) (fun _ _ => rfl) (gOk_mono hgo (by omega)) (by omega) _ _ _ hP hS (lv_sub hl [3, 1, 0] rfl)
  · skip
    obtain rfl : b1 = false := bN c_6
    refine lv_aload_n hx hb dX4_run_9 rfl (lv_at hl 1 rfl) ?_
    refine lv_aload_n hx hb dX4_run_10 rfl (lv_at hl 1 rfl) ?_
    refine m_get hX hK hP 19 (by decide) q1927 rfl dX4_run_11 ?_
    refine z_top (y := ↑a1) (by rw [pS_19]) ?_
    refine W.eq (g2 := F0 m 14 ls [.int (iI (↑a1)), .ref o]) rfl ?_
    refine m_put hX hK hD hP hS 11 (by decide) q1919 rfl rfl rfl mW_f11 dX4_run_14 (fun H locs hP hS => ?_)
    rw [show uA (pS (uA σ 21 0 ↑tm) a1 t1) 11 0 (↑a1) = pS (uA (uA σ 21 0 ↑tm) 11 0 (↑a1)) a1 t1 from pS_u (by decide) (by decide)] at hP
    refine lv_aload_n hx hb dX4_run_17 rfl (lv_at hl 1 rfl) ?_
    refine z_iconst hX dX4_run_18 ?_
    refine m_put hX hK hD hP hS 10 (by decide) q1918 rfl rfl rfl mW_f10 dX4_run_19 (fun H locs hP hS => ?_)
    rw [show uA (pS (uA (uA σ 21 0 ↑tm) 11 0 (↑a1)) a1 t1) 10 0 0 = pS (uA (uA (uA σ 21 0 ↑tm) 11 0 (↑a1)) 10 0 0) a1 t1 from pS_u (by decide) (by decide)] at hP
    refine lv_aload_n hx hb dX4_run_22 rfl (lv_at hl 1 rfl) ?_
    refine lv_iload_n hx hb dX4_run_23 rfl (lv_at hl 0 rfl) ?_
    refine z_top (y := 0) (bI_f (by decide)) ?_
    refine z_if_eq (tgt := 31) hX (by decide) dX4_run_24 (by decide) (fun h9 => ?_) (fun h9 => absurd h9 (by decide))
    refine z_iconst hX dX4_run_31 ?_
    refine m_calli (As := [.int (iI (1))]) (rest := []) hZ hX hK hD hA hE hP hS (c_fails hZ (pS (uA (uA (uA σ 21 0 ↑tm) 11 0 (↑a1)) 10 0 0) a1 t1) _ (1) (by omega)) (cwV 1 hX.hts (lw_V q1987 q1989 qs42 q89 q1990) rfl rfl rfl (by decide +kernel) ⟨Nat.le_of_ble_eq_true rfl, Nat.le_of_ble_eq_true rfl⟩) rfl hl.1 (lv_room (Nat.le_of_ble_eq_true rfl)) dX4_run_32 ⟨Nat.le_refl _, Nat.le_refl _⟩ rfl (fun  H locs hP hS => ?_)
    rw [show uA (pS (uA (uA (uA σ 21 0 ↑tm) 11 0 (↑a1)) 10 0 0) a1 t1) 8 0 1 = pS (uA (uA (uA (uA σ 21 0 ↑tm) 11 0 (↑a1)) 10 0 0) 8 0 1) a1 t1 from pS_u (by decide) (by decide)] at hP
    refine z_if_eqB (tgt := 40) hX dX4_run_35 (by decide) (fun h9 => absurd h9 (by decide)) (fun h9 => ?_)
    refine W.eq (g2 := F0 m 38 ls []) rfl ?_
    refine z_iconst hX dX4_run_38 ?_
    exact w_iret hX hP hS (⟨0, rfl, false, a1, t1, tm, he1, rgT_of pS_20 hpo.2.2.1, fun _ => ⟨rfl, xE_p (xE_u (xE_u (xE_u (by rw [uA_sA]; exact xE_o xE_r (by decide)) (by decide)) (by decide)) (by decide))⟩, (fun e => by cases e)⟩) dX4_run_39
