/-! the twin reads: signs and figures -/
set_option maxRecDepth 100000
set_option maxHeartbeats 4000000 in
theorem c_here {l : Launch} {D : va_G} {Z : zZ} {o : Nat} {ad : Nat → Nat} {cA : Nat → ClassId} (hZ : zOk Z) (σ : zT) (sz : Nat) (len : Nat) (hlen : σ 10 0 = len ∧ len ≤ 60) (hin : ∀ k, k < len → 0 ≤ σ 9 k ∧ σ 9 k < 65536) (a : Nat) (t : Nat → Int) (hal : a ≤ len) : MI l D Z o ad cA yX4_here (ws_ yX4_here cX4_here 1 (some .int)) { frames := 0, cells := 0, slots := 0, locals := 0 } [.ref o] sz (pS σ a t) (fI (hrF (σ 9) len a) (pS σ a t)) := by
  refine w_met (cc := cX4_here) (maxL := 1) (ret := some .int) (own := RX4) (by decide) rfl rfl mW_ok (Nat.le_of_ble_eq_true rfl) ?_
  intro p e s m below meth c hX hsz hK hP hD hA hE hS hR ls hl
  have hx := hX.1
  have hb := hX.2.1
  have hl : lv_has ls 1 [(0, .ref o)] := hl
  refine lv_aload_n hx hb dX4_here_0 rfl (lv_at hl 0 rfl) ?_
  refine m_get hX hK hP 19 (by decide) q1927 rfl dX4_here_1 ?_
  refine z_top (y := ↑a) (by rw [pS_19]) ?_
  refine lv_aload_n hx hb dX4_here_4 rfl (lv_at hl 0 rfl) ?_
  refine m_get hX hK hP 10 (by decide) q1918 rfl dX4_here_5 ?_
  refine z_top (y := σ 10 0) (by rw [pS_i (by decide) (by decide)]) ?_
  refine z_icmp_ge (tgt := 23) hX (by omega) dX4_here_8 (by decide) (fun c_8 => ?_) (fun c_8 => ?_)
  · skip
    refine z_iconst hX dX4_here_23 ?_
    exact w_iret hX hP hS (⟨by unfold hrF; rw [if_neg (by omega)], rfl⟩) dX4_here_24
  · skip
    refine lv_aload_n hx hb dX4_here_11 rfl (lv_at hl 0 rfl) ?_
    refine m_get hX hK hP 9 (by decide) q1917 rfl dX4_here_12 ?_
    refine W.eq (g2 := F0 m 15 ls [.ref (ad 9)]) rfl ?_
    refine lv_aload_n hx hb dX4_here_15 rfl (lv_at hl 0 rfl) ?_
    refine m_get hX hK hP 19 (by decide) q1927 rfl dX4_here_16 ?_
    refine z_top (y := ↑a) (by rw [pS_19]) ?_
    refine m_ld hX hK hP mW_e9 a (⟨rfl, by omega⟩) (by decide) dX4_here_19 ?_
    refine z_top (y := σ 9 a) (by rw [pS_i (by decide) (by decide)]) ?_
    refine lv_goto (tgt := 24) hx hb dX4_here_20 (by decide) ?_
    exact w_iret hX hP hS (⟨by unfold hrF; rw [if_pos (by omega)], rfl⟩) dX4_here_24
set_option maxHeartbeats 4000000 in
theorem c_skips {l : Launch} {D : va_G} {Z : zZ} {o : Nat} {ad : Nat → Nat} {cA : Nat → ClassId} (hZ : zOk Z) (σ : zT) (sz : Nat) (len : Nat) (hlen : σ 10 0 = len ∧ len ≤ 60) (hin : ∀ k, k < len → 0 ≤ σ 9 k ∧ σ 9 k < 65536) (a : Nat) (t : Nat → Int) (hal : a ≤ len) (P : Int) (hP0 : (-2147483648 ≤ P ∧ P ≤ 2147483647)) : MI l D Z o ad cA yX4_skips (ws_ yX4_skips cX4_skips 2 (some .boolean)) { frames := 1, cells := 0, slots := 0, locals := 20 } [.ref o, .int (iI (P))] sz (pS σ a t) (fR ((pP σ (skS (σ 9) len P (a, t))))) := by
  refine w_met (cc := cX4_skips) (maxL := 2) (ret := some .boolean) (own := RX4) (by decide) rfl rfl mW_ok (Nat.le_of_ble_eq_true rfl) ?_
  intro p e s m below meth c hX hsz hK hP hD hA hE hS hR ls hl
  have hx := hX.1
  have hb := hX.2.1
  have hl : lv_has ls 2 [(0, .ref o), (1, .int (iI (P)))] := hl
  refine lv_aload_n hx hb dX4_skips_0 rfl (lv_at hl 0 rfl) ?_
  refine m_calli (As := []) (rest := []) hZ hX hK hD hA hE hP hS (c_here hZ σ _ len hlen hin a t (by omega)) (cwV 0 hX.hts (lw_V q2261 q2263 qs69 q89 q2264) rfl rfl rfl (by decide +kernel) ⟨Nat.le_of_ble_eq_true rfl, Nat.le_of_ble_eq_true rfl⟩) rfl hl.1 (lv_room (Nat.le_of_ble_eq_true rfl)) dX4_skips_1 ⟨Nat.le_refl _, Nat.le_refl _⟩ rfl (fun  H locs hP hS => ?_)
  have hb1 := hrF_bd hin a
  refine lv_iload_n hx hb dX4_skips_4 rfl (lv_at hl 1 rfl) ?_
  refine z_icmp_eq (tgt := 10) hX (by omega) dX4_skips_5 (by decide) (fun c_5 => ?_) (fun c_5 => ?_)
  · skip
    refine lv_aload_n hx hb dX4_skips_10 rfl (lv_at hl 0 rfl) ?_
    refine lv_dup hx hb dX4_skips_11 rfl ?_
    refine m_get hX hK hP 19 (by decide) q1927 rfl dX4_skips_12 ?_
    refine z_top (y := ↑a) (by rw [pS_19]) ?_
    refine z_iconst hX dX4_skips_15 ?_
    refine z_iadd hX dX4_skips_16 ?_
    refine z_top (y := ↑(a + 1)) (by omega) ?_
    refine W.eq (g2 := F0 m 17 ls [.int (iI (↑(a + 1))), .ref o]) rfl ?_
    refine m_put hX hK hD hP hS 19 (by decide) q1927 rfl rfl rfl mW_f19 dX4_skips_17 (fun H locs hP hS => ?_)
    rw [show uA (pS σ a t) 19 0 (↑(a + 1)) = pS σ (a + 1) t from pS_u19] at hP
    refine z_iconst hX dX4_skips_20 ?_
    exact w_zret hX hP hS (by decide) (pP_of (b := true) (if_pos c_5) rfl) dX4_skips_21
  · skip
    refine z_iconst hX dX4_skips_8 ?_
    exact w_zret hX hP hS (by decide) (pP_of (b := false) (if_neg c_5) rfl) dX4_skips_9
set_option maxHeartbeats 4000000 in
theorem c_digits {l : Launch} {D : va_G} {Z : zZ} {o : Nat} {ad : Nat → Nat} {cA : Nat → ClassId} (hZ : zOk Z) (σ : zT) (sz : Nat) (len : Nat) (hlen : σ 10 0 = len ∧ len ≤ 60) (hin : ∀ k, k < len → 0 ≤ σ 9 k ∧ σ 9 k < 65536) (a : Nat) (t : Nat → Int) (hal : a ≤ len) (pl mo : Nat) (E1 E2 : Int) (hE1 : E1 = (pl : Int) ∧ pl < 124) (hE2 : E2 = (mo : Int) ∧ mo ≤ 3) : MI l D Z o ad cA yX4_digits (ws_ yX4_digits cX4_digits 4 (some .boolean)) { frames := 1, cells := 0, slots := 0, locals := 22 } [.ref o, .int (iI (E1)), .int (iI (E2))] sz (pS σ a t) (fR ((pP σ (dgS (σ 9) len pl mo (a, t))))) := by
  obtain ⟨rfl, hpl⟩ := hE1
  obtain ⟨rfl, hmo⟩ := hE2
  refine w_met (cc := cX4_digits) (maxL := 4) (ret := some .boolean) (own := RX4) (by decide) rfl rfl mW_ok (Nat.le_of_ble_eq_true rfl) ?_
  intro p e s m below meth c hX hsz hK hP hD hA hE hS hR ls hl
  have hx := hX.1
  have hb := hX.2.1
  have hl : lv_has ls 4 [(0, .ref o), (1, .int (iI (↑pl))), (2, .int (iI (↑mo)))] := hl
  refine lv_aload_n hx hb dX4_digits_0 rfl (lv_at hl 0 rfl) ?_
  refine m_calli (As := []) (rest := []) hZ hX hK hD hA hE hP hS (c_here hZ σ _ len hlen hin a t (by omega)) (cwV 0 hX.hts (lw_V q2261 q2263 qs69 q89 q2264) rfl rfl rfl (by decide +kernel) ⟨Nat.le_of_ble_eq_true rfl, Nat.le_of_ble_eq_true rfl⟩) rfl hl.1 (lv_room (Nat.le_of_ble_eq_true rfl)) dX4_digits_1 ⟨Nat.le_refl _, Nat.le_refl _⟩ rfl (fun  H locs hP hS => ?_)
  have hb1 := hrF_bd hin a
  refine z_bipush hX dX4_digits_4 (by decide) ?_
  refine z_bipush hX dX4_digits_6 (by decide) ?_
  refine p_callSi (As := [.int (iI (hrF (σ 9) len a)), .int (iI (48)), .int (iI (57))]) (rest := []) hZ hX hK hA hE hP hS (c_in hZ _ (hrF (σ 9) len a) 48 57 (by omega)) (va_cwS 3 hX.hts (lw_S q1984 q1985 q89 q1986) rfl rfl rfl (by decide +kernel) ⟨Nat.le_of_ble_eq_true rfl, Nat.le_of_ble_eq_true rfl⟩) rfl hl.1 (lv_room (Nat.le_of_ble_eq_true rfl)) dX4_digits_8 ⟨Nat.le_refl _, Nat.le_refl _⟩ rfl (fun  H locs hP hS => ?_)
  refine z_if_neB (tgt := 16) hX dX4_digits_11 (by decide) (fun c_11 => ?_) (fun c_11 => ?_)
  · skip
    refine lv_aload_n hx hb dX4_digits_16 rfl (lv_at hl 0 rfl) ?_
    refine m_get hX hK hP 20 (by decide) q1928 rfl dX4_digits_17 ?_
    refine lv_iload_n hx hb dX4_digits_20 rfl (lv_at hl 1 rfl) ?_
    refine W.eq (g2 := F0 m 21 ls [.int (iI (↑pl)), .ref (ad 20)]) rfl ?_
    refine z_iconst hX dX4_digits_21 ?_
    refine m_st hX hK hD hP hS mW_e20 pl mW_s20 (⟨rfl, hpl⟩) (by decide) dX4_digits_22 (fun H locs hP hS => ?_)
    rw [show uA (pS σ a t) 20 pl 0 = pS σ a (gU t pl 0) from pS_u20] at hP
    refine z_iconst hX dX4_digits_23 ?_
    refine z_top (y := ↑(0 : Nat)) (rfl) ?_
    refine lv_istore_n (lv' := [(3, .int (iI (↑(0 : Nat)))), (0, .ref o), (1, .int (iI (↑pl))), (2, .int (iI (↑mo)))]) hx hb dX4_digits_24 rfl hl (by decide) rfl (fun ls hl => ?_)
    have L25 : ∀ (n : Nat) (k a1 : Nat) (v : Int), (mo < k + n) → (k ≤ mo) → (a1 ≤ len) → (dgF (σ 9) len mo a 0 = dgF (σ 9) len (mo - k) a1 v) → ∀ (H : Heap) (locs : List Loc) (ls : Array Slot), va_P D vwCl (mW o ad cA (pS σ a1 (gU t pl v))) H → va_S (wA (mW o ad cA) sz) s.heap H locs → lv_has ls 4 [(0, .ref o), (1, .int (iI (↑pl))), (2, .int (iI (↑mo))), (3, .int (iI (↑k)))] → W p l e (headSpec (ws_ yX4_digits cX4_digits 4 (some .boolean)) { frames := 1, cells := 0, slots := 0, locals := 22 }).room s m ([.ref o, .int (iI (↑pl)), .int (iI (↑mo))] : List Value).toArray below meth c H locs 0 0 (MQ below (wQi D vwCl (mW o ad cA) (fR ((pP σ (dgS (σ 9) len pl mo (a, t))))) sz) ([.ref o, .int (iI (↑pl)), .int (iI (↑mo))] : List Value).toArray s 0 0 (wA (mW o ad cA) sz)) (F0 m 25 ls []) := by
      intro n
      induction n with
      | zero =>
        intro k a1 v hf hk ha1 hd H locs ls hP hS hl
        exact absurd hf (by omega)
      | succ n ih25 =>
        intro k a1 v hf hk ha1 hd H locs ls hP hS hl
        refine lv_iload_n hx hb dX4_digits_25 rfl (lv_at hl 3 rfl) ?_
        refine lv_iload_n hx hb dX4_digits_26 rfl (lv_at hl 2 rfl) ?_
        refine z_icmp_ge (tgt := 83) hX (by omega) dX4_digits_27 (by decide) (fun c_27 => ?_) (fun c_27 => ?_)
        · skip
          refine z_iconst hX dX4_digits_83 ?_
          exact w_zret hX hP hS (by decide) (pP_of (b := true) (by unfold dgS; rw [if_pos c_11]; first | (rw [hd, show mo - k = 0 from by omega]; rfl) | (rw [hd, dgF_n _ c_41])) rfl) dX4_digits_84
        · skip
          refine lv_aload_n hx hb dX4_digits_30 rfl (lv_at hl 0 rfl) ?_
          refine W.eq (g2 := F0 m 31 ls [.ref o]) rfl ?_
          refine m_calli (As := []) (rest := []) hZ hX hK hD hA hE hP hS (c_here hZ σ _ len hlen hin a1 (gU t pl v) (by omega)) (cwV 0 hX.hts (lw_V q2261 q2263 qs69 q89 q2264) rfl rfl rfl (by decide +kernel) ⟨Nat.le_of_ble_eq_true rfl, Nat.le_of_ble_eq_true rfl⟩) rfl hl.1 (lv_room (Nat.le_of_ble_eq_true rfl)) dX4_digits_31 ⟨Nat.le_refl _, Nat.le_refl _⟩ rfl (fun  H locs hP hS => ?_)
          have hb2 := hrF_bd hin a1
          refine z_bipush hX dX4_digits_34 (by decide) ?_
          refine z_bipush hX dX4_digits_36 (by decide) ?_
          refine p_callSi (As := [.int (iI (hrF (σ 9) len a1)), .int (iI (48)), .int (iI (57))]) (rest := []) hZ hX hK hA hE hP hS (c_in hZ _ (hrF (σ 9) len a1) 48 57 (by omega)) (va_cwS 3 hX.hts (lw_S q1984 q1985 q89 q1986) rfl rfl rfl (by decide +kernel) ⟨Nat.le_of_ble_eq_true rfl, Nat.le_of_ble_eq_true rfl⟩) rfl hl.1 (lv_room (Nat.le_of_ble_eq_true rfl)) dX4_digits_38 ⟨Nat.le_refl _, Nat.le_refl _⟩ rfl (fun  H locs hP hS => ?_)
          refine z_if_eqB (tgt := 83) hX dX4_digits_41 (by decide) (fun c_41 => ?_) (fun c_41 => ?_)
          · skip
            refine z_iconst hX dX4_digits_83 ?_
            exact w_zret hX hP hS (by decide) (pP_of (b := true) (by unfold dgS; rw [if_pos c_11]; first | (rw [hd, show mo - k = 0 from by omega]; rfl) | (rw [hd, dgF_n _ c_41])) rfl) dX4_digits_84
          · skip
            refine lv_aload_n hx hb dX4_digits_44 rfl (lv_at hl 0 rfl) ?_
            refine m_get hX hK hP 20 (by decide) q1928 rfl dX4_digits_45 ?_
            refine lv_iload_n hx hb dX4_digits_48 rfl (lv_at hl 1 rfl) ?_
            refine W.eq (g2 := F0 m 49 ls [.int (iI (↑pl)), .ref (ad 20)]) rfl ?_
            refine z_bipush hX dX4_digits_49 (by decide) ?_
            refine lv_aload_n hx hb dX4_digits_51 rfl (lv_at hl 0 rfl) ?_
            refine m_get hX hK hP 20 (by decide) q1928 rfl dX4_digits_52 ?_
            refine lv_iload_n hx hb dX4_digits_55 rfl (lv_at hl 1 rfl) ?_
            refine m_ld hX hK hP mW_e20 pl (⟨rfl, hpl⟩) (by decide) dX4_digits_56 ?_
            refine z_top (y := v) (by rw [pS_20, gU_eq]) ?_
            refine z_imul hX dX4_digits_57 ?_
            refine lv_aload_n hx hb dX4_digits_58 rfl (lv_at hl 0 rfl) ?_
            refine m_calli (As := []) (rest := [.int (iI (10 * v)), .int (iI (↑pl)), .ref (ad 20)]) hZ hX hK hD hA hE hP hS (c_here hZ σ _ len hlen hin a1 (gU t pl v) (by omega)) (cwV 0 hX.hts (lw_V q2261 q2263 qs69 q89 q2264) rfl rfl rfl (by decide +kernel) ⟨Nat.le_of_ble_eq_true rfl, Nat.le_of_ble_eq_true rfl⟩) rfl hl.1 (lv_room (Nat.le_of_ble_eq_true rfl)) dX4_digits_59 ⟨Nat.le_refl _, Nat.le_refl _⟩ rfl (fun  H locs hP hS => ?_)
            have hb3 := hrF_bd hin a1
            refine z_iadd hX dX4_digits_62 ?_
            refine z_bipush hX dX4_digits_63 (by decide) ?_
            refine W.eq (g2 := F0 m 65 ls [.int (iI (48)), .int (iI ((10 * v) + (hrF (σ 9) len a1))), .int (iI (↑pl)), .ref (ad 20)]) rfl ?_
            refine z_isub hX dX4_digits_65 ?_
            refine m_st hX hK hD hP hS mW_e20 pl mW_s20 (⟨rfl, hpl⟩) (by decide) dX4_digits_66 (fun H locs hP hS => ?_)
            rw [show uA (pS σ a1 (gU t pl v)) 20 pl (((10 * v) + (hrF (σ 9) len a1)) - 48) = pS σ a1 (gU t pl (10 * v + hrF (σ 9) len a1 - 48)) from by rw [pS_u20, gU_uu]] at hP
            refine lv_aload_n hx hb dX4_digits_67 rfl (lv_at hl 0 rfl) ?_
            refine lv_dup hx hb dX4_digits_68 rfl ?_
            refine m_get hX hK hP 19 (by decide) q1927 rfl dX4_digits_69 ?_
            refine z_top (y := ↑a1) (by rw [pS_19]) ?_
            refine z_iconst hX dX4_digits_72 ?_
            refine z_iadd hX dX4_digits_73 ?_
            refine z_top (y := ↑(a1 + 1)) (by omega) ?_
            refine m_put hX hK hD hP hS 19 (by decide) q1927 rfl rfl rfl mW_f19 dX4_digits_74 (fun H locs hP hS => ?_)
            rw [show uA (pS σ a1 (gU t pl (10 * v + hrF (σ 9) len a1 - 48))) 19 0 (↑(a1 + 1)) = pS σ (a1 + 1) (gU t pl (10 * v + hrF (σ 9) len a1 - 48)) from pS_u19] at hP
            refine z_iinc (y := ↑(k + 1)) (lv' := [(3, .int (iI (↑(k + 1)))), (0, .ref o), (1, .int (iI (↑pl))), (2, .int (iI (↑mo)))]) hX dX4_digits_77 hl (k := 3) rfl (by omega) (by decide) rfl (fun ls hl => ?_)
            refine lv_goto (tgt := 25) hx hb dX4_digits_80 (by decide) ?_
            exact ih25 (k + 1) (a1 + 1) (10 * v + hrF (σ 9) len a1 - 48) (by omega) (by omega) (by have hle : a1 < len := (by unfold hrF at c_41; split at c_41 <;> omega); omega) (by rw [hd, show mo - k = (mo - (k + 1)) + 1 from by omega, dgF_s c_41]) _ _ _ hP hS (lv_sub hl [1, 2, 3, 0] rfl)
    exact L25 (mo + 1) (0) (a) (0) (by omega) (by omega) (hal) (rfl) _ _ _ hP hS (lv_sub hl [1, 2, 3, 0] rfl)
  · skip
    refine W.eq (g2 := F0 m 14 ls []) rfl ?_
    refine z_iconst hX dX4_digits_14 ?_
    exact w_zret hX hP hS (by decide) (pP_of (b := false) (if_neg c_11) rfl) dX4_digits_15
