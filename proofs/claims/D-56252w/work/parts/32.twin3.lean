/-! the twin: the changes of one party or pair -/
set_option maxRecDepth 100000
set_option maxHeartbeats 4000000 in
theorem c_addParty {l : Launch} {D : va_G} {Z : zZ} {o : Nat} {ad : Nat → Nat} {cA : Nat → ClassId} (hZ : zOk Z) (σ : zT) (sz : Nat) (P : Int) (hP0 : (-2147483648 ≤ P ∧ P ≤ 2147483647)) (B : Int) (hgo : gOk (σ 0) B) (hB : B ≤ 2000000) (n6 : Nat) (h6 : σ 6 0 = n6 ∧ n6 ≤ 8) (h7 : σ 7 0 = 0 ∨ σ 7 0 = 1) : MI l D Z o ad cA yX4_addParty (ws_ yX4_addParty cX4_addParty 2 (some .int)) { frames := 2, cells := 0, slots := 0, locals := 46 } [.ref o, .int (iI (P))] sz (σ) (fR ((oR σ n6 (cAdd (σ 0) P) (sAdd (σ 0) (σ 0 0).toNat P) (σ 0 0)))) := by
  refine w_met (cc := cX4_addParty) (maxL := 2) (ret := some .int) (own := RX4) (by decide) rfl rfl mW_ok (Nat.le_of_ble_eq_true rfl) ?_
  intro p e s m below meth c hX hsz hK hP hD hA hE hS hR ls hl
  have hx := hX.1
  have hb := hX.2.1
  have hl : lv_has ls 2 [(0, .ref o), (1, .int (iI (P)))] := hl
  have hg := hgo.1
  refine lv_aload_n hx hb dX4_addParty_0 rfl (lv_at hl 0 rfl) ?_
  refine lv_iload_n hx hb dX4_addParty_1 rfl (lv_at hl 1 rfl) ?_
  refine z_iconst hX dX4_addParty_2 ?_
  refine z_sipush hX dX4_addParty_3 (by decide) ?_
  refine p_callSi (As := [.int (iI (P)), .int (iI (0)), .int (iI (999))]) (rest := [.ref o]) hZ hX hK hA hE hP hS (c_in hZ _ (P) (0) (999) (by omega)) (va_cwS 3 hX.hts (lw_S q1984 q1985 q89 q1986) rfl rfl rfl (by decide +kernel) ⟨Nat.le_of_ble_eq_true rfl, Nat.le_of_ble_eq_true rfl⟩) rfl hl.1 (lv_room (Nat.le_of_ble_eq_true rfl)) dX4_addParty_6 ⟨Nat.le_refl _, Nat.le_refl _⟩ rfl (fun  H locs hP hS => ?_)
  refine z_if_neB (tgt := 16) hX dX4_addParty_9 (by decide) (fun c_9 => ?_) (fun c_9 => ?_)
  · skip
    refine lv_aload_n hx hb dX4_addParty_16 rfl (lv_at hl 0 rfl) ?_
    refine m_get hX hK hP 0 (by decide) q1908 rfl dX4_addParty_17 ?_
    refine z_iconst hX dX4_addParty_20 ?_
    refine W.eq (g2 := F0 m 21 ls [.int (iI (0)), .ref (ad 0), .ref o]) rfl ?_
    refine m_ld hX hK hP mW_e0 0 (by decide) (by decide) dX4_addParty_21 ?_
    refine z_bipush hX dX4_addParty_22 (by decide) ?_
    refine z_icmp_ne (tgt := 31) hX (by omega) dX4_addParty_24 (by decide) (fun c_24 => ?_) (fun c_24 => ?_)
    · skip
      refine z_iconst hX dX4_addParty_31 ?_
      refine m_calli (As := [.int (iI (0))]) (rest := []) hZ hX hK hD hA hE hP hS (c_fails hZ (σ) _ (0) (by omega)) (cwV 1 hX.hts (lw_V q1987 q1989 qs42 q89 q1990) rfl rfl rfl (by decide +kernel) ⟨Nat.le_of_ble_eq_true rfl, Nat.le_of_ble_eq_true rfl⟩) rfl hl.1 (lv_room (Nat.le_of_ble_eq_true rfl)) dX4_addParty_32 ⟨Nat.le_refl _, Nat.le_refl _⟩ rfl (fun  H locs hP hS => ?_)
      refine z_if_eqB (tgt := 40) hX dX4_addParty_35 (by decide) (fun h9 => ?_) (fun h9 => absurd h9 (by decide))
      refine lv_aload_n hx hb dX4_addParty_40 rfl (lv_at hl 0 rfl) ?_
      refine lv_aload_n hx hb dX4_addParty_41 rfl (lv_at hl 0 rfl) ?_
      refine m_get hX hK hP 0 (by decide) q1908 rfl dX4_addParty_42 ?_
      refine m_callv (As := [.ref (ad 0)]) (rest := []) hZ hX hK hD hA hE hP hS (c_keeps hZ (uA σ 8 0 0) _ _ 0 _ (fun _ => mW_e0) (by decide) (by decide) (by decide) n6 (by rw [uA_nj (by decide)]; exact h6) (by rw [uA_nj (by decide)]; exact h7)) (cwV 1 hX.hts (lw_V q1991 q1993 qs43 q89 q1994) rfl rfl rfl (by decide +kernel) ⟨Nat.le_of_ble_eq_true rfl, Nat.le_of_ble_eq_true rfl⟩) rfl hl.1 (lv_room (Nat.le_of_ble_eq_true rfl)) dX4_addParty_45 ⟨Nat.le_refl _, Nat.le_refl _⟩ rfl (fun  H locs hP hS => ?_)
      rw [show kF 0 (uA σ 8 0 0) n6 = kF 0 σ n6 from kF_u8 (by decide)] at hP
      refine W.eq (g2 := F0 m 48 ls []) rfl ?_
      refine lv_aload_n hx hb dX4_addParty_48 rfl (lv_at hl 0 rfl) ?_
      refine m_get hX hK hP 0 (by decide) q1908 rfl dX4_addParty_49 ?_
      refine z_iconst hX dX4_addParty_52 ?_
      refine lv_aload_n hx hb dX4_addParty_53 rfl (lv_at hl 0 rfl) ?_
      refine m_get hX hK hP 0 (by decide) q1908 rfl dX4_addParty_54 ?_
      refine z_iconst hX dX4_addParty_57 ?_
      refine m_ld hX hK hP mW_e0 0 (by decide) (by decide) dX4_addParty_58 ?_
      refine z_top (y := σ 0 0) (by rw [kF_i (by decide) (by decide) (by decide)]) ?_
      refine z_iadd hX dX4_addParty_59 ?_
      refine lv_iload_n hx hb dX4_addParty_60 rfl (lv_at hl 1 rfl) ?_
      refine m_st hX hK hD hP hS mW_e0 (5 + (σ 0 0).toNat) mW_s0 (by omega) (by decide) dX4_addParty_61 (fun H locs hP hS => ?_)
      rw [show uA (kF 0 σ n6) 0 (5 + (σ 0 0).toNat) P = sA (kF 0 σ n6) 0 (gU (σ 0) (5 + (σ 0 0).toNat) P) from by rw [uA_sA, kF_i (by decide) (by decide) (by decide)]] at hP
      refine W.eq (g2 := F0 m 62 ls []) rfl ?_
      refine lv_aload_n hx hb dX4_addParty_62 rfl (lv_at hl 0 rfl) ?_
      refine m_get hX hK hP 0 (by decide) q1908 rfl dX4_addParty_63 ?_
      refine z_iconst hX dX4_addParty_66 ?_
      refine lv_dup2_11 hx hb dX4_addParty_67 rfl rfl ?_
      refine m_ld hX hK hP mW_e0 0 (by decide) (by decide) dX4_addParty_68 ?_
      refine z_top (y := σ 0 0) (by rw [sA_j, gU_ne (by omega)]) ?_
      refine z_iconst hX dX4_addParty_69 ?_
      refine z_iadd hX dX4_addParty_70 ?_
      refine m_st hX hK hD hP hS mW_e0 0 mW_s0 (by decide) (by decide) dX4_addParty_71 (fun H locs hP hS => ?_)
      rw [show uA (sA (kF 0 σ n6) 0 (gU (σ 0) (5 + (σ 0 0).toNat) P)) 0 0 ((σ 0 0) + 1) = sA (kF 0 σ n6) 0 (gU (gU (σ 0) (5 + (σ 0 0).toNat) P) 0 ((σ 0 0) + 1)) from uA_in] at hP
      refine lv_aload_n hx hb dX4_addParty_72 rfl (lv_at hl 0 rfl) ?_
      refine m_get hX hK hP 0 (by decide) q1908 rfl dX4_addParty_73 ?_
      refine W.eq (g2 := F0 m 76 ls [.ref (ad 0)]) rfl ?_
      refine z_iconst hX dX4_addParty_76 ?_
      refine m_ld hX hK hP mW_e0 0 (by decide) (by decide) dX4_addParty_77 ?_
      refine z_top (y := (σ 0 0) + 1) (by rw [sA_j, gU_eq]) ?_
      refine z_iconst hX dX4_addParty_78 ?_
      refine z_isub hX dX4_addParty_79 ?_
      refine z_top (y := σ 0 0) (by omega) ?_
      exact w_iret hX hP hS (oR_t (by unfold cAdd; rw [if_neg (fun h => h c_9), if_neg c_24])) dX4_addParty_80
    · skip
      refine z_iconst hX dX4_addParty_27 ?_
      refine lv_goto (tgt := 32) hx hb dX4_addParty_28 (by decide) ?_
      refine m_calli (As := [.int (iI (2))]) (rest := []) hZ hX hK hD hA hE hP hS (c_fails hZ (σ) _ (2) (by omega)) (cwV 1 hX.hts (lw_V q1987 q1989 qs42 q89 q1990) rfl rfl rfl (by decide +kernel) ⟨Nat.le_of_ble_eq_true rfl, Nat.le_of_ble_eq_true rfl⟩) rfl hl.1 (lv_room (Nat.le_of_ble_eq_true rfl)) dX4_addParty_32 ⟨Nat.le_refl _, Nat.le_refl _⟩ rfl (fun  H locs hP hS => ?_)
      refine z_if_eqB (tgt := 40) hX dX4_addParty_35 (by decide) (fun h9 => absurd h9 (by decide)) (fun h9 => ?_)
      refine z_iconst hX dX4_addParty_38 ?_
      refine W.eq (g2 := F0 m 39 ls [.int (iI (0))]) rfl ?_
      exact w_iret hX hP hS (by first | exact oR_f (by unfold cAdd; rw [if_pos c_9]) (by decide) | exact oR_f (by unfold cAdd; rw [if_neg (fun h => h c_9), if_pos c_24]) (by decide)) dX4_addParty_39
  · skip
    refine z_iconst hX dX4_addParty_12 ?_
    refine lv_goto (tgt := 32) hx hb dX4_addParty_13 (by decide) ?_
    refine m_calli (As := [.int (iI (1))]) (rest := []) hZ hX hK hD hA hE hP hS (c_fails hZ (σ) _ (1) (by omega)) (cwV 1 hX.hts (lw_V q1987 q1989 qs42 q89 q1990) rfl rfl rfl (by decide +kernel) ⟨Nat.le_of_ble_eq_true rfl, Nat.le_of_ble_eq_true rfl⟩) rfl hl.1 (lv_room (Nat.le_of_ble_eq_true rfl)) dX4_addParty_32 ⟨Nat.le_refl _, Nat.le_refl _⟩ rfl (fun  H locs hP hS => ?_)
    refine z_if_eqB (tgt := 40) hX dX4_addParty_35 (by decide) (fun h9 => absurd h9 (by decide)) (fun h9 => ?_)
    refine z_iconst hX dX4_addParty_38 ?_
    exact w_iret hX hP hS (by first | exact oR_f (by unfold cAdd; rw [if_pos c_9]) (by decide) | exact oR_f (by unfold cAdd; rw [if_neg (fun h => h c_9), if_pos c_24]) (by decide)) dX4_addParty_39
set_option maxHeartbeats 4000000 in
theorem c_deposit {l : Launch} {D : va_G} {Z : zZ} {o : Nat} {ad : Nat → Nat} {cA : Nat → ClassId} (hZ : zOk Z) (σ : zT) (sz : Nat) (P a : Int) (hP0 : (-2147483648 ≤ P ∧ P ≤ 2147483647)) (ha0 : (-2147483648 ≤ a ∧ a ≤ 2147483647)) (B : Int) (hgo : gOk (σ 0) B) (hB : B ≤ 2000000) (n6 : Nat) (h6 : σ 6 0 = n6 ∧ n6 ≤ 8) (h7 : σ 7 0 = 0 ∨ σ 7 0 = 1) : MI l D Z o ad cA yX4_deposit (ws_ yX4_deposit cX4_deposit 3 (some .int)) { frames := 3, cells := 0, slots := 0, locals := 64 } [.ref o, .int (iI (P)), .int (iI (a))] sz (σ) (fR ((oR σ n6 (cDep (σ 0) P a) (gA (σ 0) (5 + P.toNat) a) (σ 0 (5 + P.toNat) + a)))) := by
  refine w_met (cc := cX4_deposit) (maxL := 3) (ret := some .int) (own := RX4) (by decide) rfl rfl mW_ok (Nat.le_of_ble_eq_true rfl) ?_
  intro p e s m below meth c hX hsz hK hP hD hA hE hS hR ls hl
  have hx := hX.1
  have hb := hX.2.1
  have hl : lv_has ls 3 [(0, .ref o), (1, .int (iI (P))), (2, .int (iI (a)))] := hl
  have hg := hgo.1
  refine lv_aload_n hx hb dX4_deposit_0 rfl (lv_at hl 0 rfl) ?_
  refine lv_iload_n hx hb dX4_deposit_1 rfl (lv_at hl 1 rfl) ?_
  refine m_calli (As := [.int (iI (P))]) (rest := []) hZ hX hK hD hA hE hP hS (c_isNone hZ (σ) _ (P) (by omega) hg) (cwV 1 hX.hts (lw_V q2002 q2004 qs44 q89 q2005) rfl rfl rfl (by decide +kernel) ⟨Nat.le_of_ble_eq_true rfl, Nat.le_of_ble_eq_true rfl⟩) rfl hl.1 (lv_room (Nat.le_of_ble_eq_true rfl)) dX4_deposit_2 ⟨Nat.le_refl _, Nat.le_refl _⟩ rfl (fun  H locs hP hS => ?_)
  refine z_if_neB (tgt := 31) hX dX4_deposit_5 (by decide) (fun c_5 => ?_) (fun c_5 => ?_)
  · skip
    refine z_iconst hX dX4_deposit_31 ?_
    exact w_iret hX hP hS (by first | exact oR_f (by unfold cDep; rw [if_pos c_5, bI_t c_5]) (by rw [bI_t c_5]; decide) | exact oR_f (by unfold cDep; rw [if_neg (fun h => h c_5), if_pos c_17]) (by decide)) dX4_deposit_32
  · skip
    have c_5 : mIs (σ 0) P := Decidable.of_not_not c_5
    have c_5' : 0 ≤ P ∧ P ≤ σ 0 0 - 1 := c_5
    refine lv_aload_n hx hb dX4_deposit_8 rfl (lv_at hl 0 rfl) ?_
    refine lv_iload_n hx hb dX4_deposit_9 rfl (lv_at hl 2 rfl) ?_
    refine z_iconst hX dX4_deposit_10 ?_
    refine W.eq (g2 := F0 m 11 ls [.int (iI (1)), .int (iI (a)), .ref o]) rfl ?_
    refine z_sipush hX dX4_deposit_11 (by decide) ?_
    refine p_callSi (As := [.int (iI (a)), .int (iI (1)), .int (iI (999))]) (rest := [.ref o]) hZ hX hK hA hE hP hS (c_in hZ _ (a) (1) (999) (by omega)) (va_cwS 3 hX.hts (lw_S q1984 q1985 q89 q1986) rfl rfl rfl (by decide +kernel) ⟨Nat.le_of_ble_eq_true rfl, Nat.le_of_ble_eq_true rfl⟩) rfl hl.1 (lv_room (Nat.le_of_ble_eq_true rfl)) dX4_deposit_14 ⟨Nat.le_refl _, Nat.le_refl _⟩ rfl (fun  H locs hP hS => ?_)
    refine z_if_eqB (tgt := 24) hX dX4_deposit_17 (by decide) (fun c_17 => ?_) (fun c_17 => ?_)
    · skip
      refine z_iconst hX dX4_deposit_24 ?_
      refine m_calli (As := [.int (iI (2))]) (rest := []) hZ hX hK hD hA hE hP hS (c_fails hZ (uA σ 8 0 (bI (¬ mIs (σ 0) P))) _ (2) (by omega)) (cwV 1 hX.hts (lw_V q1987 q1989 qs42 q89 q1990) rfl rfl rfl (by decide +kernel) ⟨Nat.le_of_ble_eq_true rfl, Nat.le_of_ble_eq_true rfl⟩) rfl hl.1 (lv_room (Nat.le_of_ble_eq_true rfl)) dX4_deposit_25 ⟨Nat.le_refl _, Nat.le_refl _⟩ rfl (fun  H locs hP hS => ?_)
      rw [show uA (uA σ 8 0 (bI (¬ mIs (σ 0) P))) 8 0 2 = uA σ 8 0 2 from uA_uA] at hP
      refine z_if_eqB (tgt := 33) hX dX4_deposit_28 (by decide) (fun h9 => absurd h9 (by decide)) (fun h9 => ?_)
      refine z_iconst hX dX4_deposit_31 ?_
      exact w_iret hX hP hS (by first | exact oR_f (by unfold cDep; rw [if_pos c_5, bI_t c_5]) (by rw [bI_t c_5]; decide) | exact oR_f (by unfold cDep; rw [if_neg (fun h => h c_5), if_pos c_17]) (by decide)) dX4_deposit_32
    · skip
      refine z_iconst hX dX4_deposit_20 ?_
      refine lv_goto (tgt := 25) hx hb dX4_deposit_21 (by decide) ?_
      refine W.eq (g2 := F0 m 25 ls [.int (iI (0)), .ref o]) rfl ?_
      refine m_calli (As := [.int (iI (0))]) (rest := []) hZ hX hK hD hA hE hP hS (c_fails hZ (uA σ 8 0 (bI (¬ mIs (σ 0) P))) _ (0) (by omega)) (cwV 1 hX.hts (lw_V q1987 q1989 qs42 q89 q1990) rfl rfl rfl (by decide +kernel) ⟨Nat.le_of_ble_eq_true rfl, Nat.le_of_ble_eq_true rfl⟩) rfl hl.1 (lv_room (Nat.le_of_ble_eq_true rfl)) dX4_deposit_25 ⟨Nat.le_refl _, Nat.le_refl _⟩ rfl (fun  H locs hP hS => ?_)
      rw [show uA (uA σ 8 0 (bI (¬ mIs (σ 0) P))) 8 0 0 = uA σ 8 0 0 from uA_uA] at hP
      refine z_if_eqB (tgt := 33) hX dX4_deposit_28 (by decide) (fun h9 => ?_) (fun h9 => absurd h9 (by decide))
      refine lv_aload_n hx hb dX4_deposit_33 rfl (lv_at hl 0 rfl) ?_
      refine lv_aload_n hx hb dX4_deposit_34 rfl (lv_at hl 0 rfl) ?_
      refine m_get hX hK hP 0 (by decide) q1908 rfl dX4_deposit_35 ?_
      refine m_callv (As := [.ref (ad 0)]) (rest := []) hZ hX hK hD hA hE hP hS (c_keeps hZ (uA σ 8 0 0) _ _ 0 _ (fun _ => mW_e0) (by decide) (by decide) (by decide) n6 (by rw [uA_nj (by decide)]; exact h6) (by rw [uA_nj (by decide)]; exact h7)) (cwV 1 hX.hts (lw_V q1991 q1993 qs43 q89 q1994) rfl rfl rfl (by decide +kernel) ⟨Nat.le_of_ble_eq_true rfl, Nat.le_of_ble_eq_true rfl⟩) rfl hl.1 (lv_room (Nat.le_of_ble_eq_true rfl)) dX4_deposit_38 ⟨Nat.le_refl _, Nat.le_refl _⟩ rfl (fun  H locs hP hS => ?_)
      rw [show kF 0 (uA σ 8 0 0) n6 = kF 0 σ n6 from kF_u8 (by decide)] at hP
      refine lv_aload_n hx hb dX4_deposit_41 rfl (lv_at hl 0 rfl) ?_
      refine m_get hX hK hP 0 (by decide) q1908 rfl dX4_deposit_42 ?_
      refine z_iconst hX dX4_deposit_45 ?_
      refine lv_iload_n hx hb dX4_deposit_46 rfl (lv_at hl 1 rfl) ?_
      refine W.eq (g2 := F0 m 47 ls [.int (iI (P)), .int (iI (5)), .ref (ad 0)]) rfl ?_
      refine z_iadd hX dX4_deposit_47 ?_
      refine lv_dup2_11 hx hb dX4_deposit_48 rfl rfl ?_
      refine m_ld hX hK hP mW_e0 (5 + P.toNat) (by omega) (by decide) dX4_deposit_49 ?_
      refine z_top (y := σ 0 (5 + P.toNat)) (by rw [kF_i (by decide) (by decide) (by decide)]) ?_
      refine lv_iload_n hx hb dX4_deposit_50 rfl (lv_at hl 2 rfl) ?_
      refine z_iadd hX dX4_deposit_51 ?_
      refine m_st hX hK hD hP hS mW_e0 (5 + P.toNat) mW_s0 (by omega) (by decide) dX4_deposit_52 (fun H locs hP hS => ?_)
      rw [show uA (kF 0 σ n6) 0 (5 + P.toNat) ((σ 0 (5 + P.toNat)) + a) = sA (kF 0 σ n6) 0 (gU (σ 0) (5 + P.toNat) ((σ 0 (5 + P.toNat)) + a)) from by rw [uA_sA, kF_i (by decide) (by decide) (by decide)]] at hP
      refine lv_aload_n hx hb dX4_deposit_53 rfl (lv_at hl 0 rfl) ?_
      refine m_get hX hK hP 0 (by decide) q1908 rfl dX4_deposit_54 ?_
      refine z_iconst hX dX4_deposit_57 ?_
      refine lv_iload_n hx hb dX4_deposit_58 rfl (lv_at hl 1 rfl) ?_
      refine W.eq (g2 := F0 m 59 ls [.int (iI (P)), .int (iI (5)), .ref (ad 0)]) rfl ?_
      refine z_iadd hX dX4_deposit_59 ?_
      refine m_ld hX hK hP mW_e0 (5 + P.toNat) (by omega) (by decide) dX4_deposit_60 ?_
      refine z_top (y := (σ 0 (5 + P.toNat)) + a) (by rw [sA_j, gU_eq]) ?_
      exact w_iret hX hP hS (oR_t (by unfold cDep; rw [if_neg (fun h => h c_5), if_neg (fun h => h c_17)])) dX4_deposit_61
set_option maxHeartbeats 4000000 in
theorem c_owe {l : Launch} {D : va_G} {Z : zZ} {o : Nat} {ad : Nat → Nat} {cA : Nat → ClassId} (hZ : zOk Z) (σ : zT) (sz : Nat) (P P2 a : Int) (hP0 : (-2147483648 ≤ P ∧ P ≤ 2147483647)) (hP2 : (-2147483648 ≤ P2 ∧ P2 ≤ 2147483647)) (ha0 : (-2147483648 ≤ a ∧ a ≤ 2147483647)) (B : Int) (hgo : gOk (σ 0) B) (hB : B ≤ 2000000) (n6 : Nat) (h6 : σ 6 0 = n6 ∧ n6 ≤ 8) (h7 : σ 7 0 = 0 ∨ σ 7 0 = 1) : MI l D Z o ad cA yX4_owe (ws_ yX4_owe cX4_owe 4 (some .int)) { frames := 3, cells := 0, slots := 0, locals := 65 } [.ref o, .int (iI (P)), .int (iI (P2)), .int (iI (a))] sz (σ) (fR ((oR σ n6 (cOwe (σ 0) P P2 a) (gA (σ 0) (12 + 7 * P.toNat + P2.toNat) a) (σ 0 (12 + 7 * P.toNat + P2.toNat) + a)))) := by
  refine w_met (cc := cX4_owe) (maxL := 4) (ret := some .int) (own := RX4) (by decide) rfl rfl mW_ok (Nat.le_of_ble_eq_true rfl) ?_
  intro p e s m below meth c hX hsz hK hP hD hA hE hS hR ls hl
  have hx := hX.1
  have hb := hX.2.1
  have hl : lv_has ls 4 [(0, .ref o), (1, .int (iI (P))), (2, .int (iI (P2))), (3, .int (iI (a)))] := hl
  have hg := hgo.1
  refine lv_aload_n hx hb dX4_owe_0 rfl (lv_at hl 0 rfl) ?_
  refine lv_iload_n hx hb dX4_owe_1 rfl (lv_at hl 1 rfl) ?_
  refine lv_iload_n hx hb dX4_owe_2 rfl (lv_at hl 2 rfl) ?_
  refine m_calli (As := [.int (iI (P)), .int (iI (P2))]) (rest := []) hZ hX hK hD hA hE hP hS (c_areNone hZ (σ) _ (P) (P2) (by omega) (by omega) hg) (cwV 2 hX.hts (lw_V q2014 q2016 qs46 q89 q2017) rfl rfl rfl (by decide +kernel) ⟨Nat.le_of_ble_eq_true rfl, Nat.le_of_ble_eq_true rfl⟩) rfl hl.1 (lv_room (Nat.le_of_ble_eq_true rfl)) dX4_owe_3 ⟨Nat.le_refl _, Nat.le_refl _⟩ rfl (fun  H locs hP hS => ?_)
  refine z_if_neB (tgt := 55) hX dX4_owe_6 (by decide) (fun c_6 => ?_) (fun c_6 => ?_)
  · skip
    refine z_iconst hX dX4_owe_55 ?_
    exact w_iret hX hP hS (by first | exact oR_f (by unfold cOwe; rw [if_pos c_6, bI_t c_6]) (by rw [bI_t c_6]; decide) | exact oR_f (by unfold cOwe; rw [if_neg (fun h => h c_6), if_pos (Or.inl c_12)]) (by decide) | exact oR_f (by unfold cOwe; rw [if_neg (fun h => h c_6), if_pos (Or.inr c_23)]) (by decide) | exact oR_f (by unfold cOwe; rw [if_neg (fun h => h c_6), if_neg (by omega), if_pos (by omega)]) (by decide)) dX4_owe_56
  · skip
    have c_6 : mIs (σ 0) P ∧ mIs (σ 0) P2 := Decidable.of_not_not c_6
    have c_6' : (0 ≤ P ∧ P ≤ σ 0 0 - 1) ∧ 0 ≤ P2 ∧ P2 ≤ σ 0 0 - 1 := c_6
    have hd := hgo.2.2.1 P.toNat P2.toNat (by omega) (by omega)
    have hd2 := hgo.2.2.1 P2.toNat P.toNat (by omega) (by omega)
    have hc := hgo.2.1 P.toNat (by omega)
    refine lv_aload_n hx hb dX4_owe_9 rfl (lv_at hl 0 rfl) ?_
    refine lv_iload_n hx hb dX4_owe_10 rfl (lv_at hl 1 rfl) ?_
    refine W.eq (g2 := F0 m 11 ls [.int (iI (P)), .ref o]) rfl ?_
    refine lv_iload_n hx hb dX4_owe_11 rfl (lv_at hl 2 rfl) ?_
    refine z_icmp_eq (tgt := 26) hX (by omega) dX4_owe_12 (by decide) (fun c_12 => ?_) (fun c_12 => ?_)
    · skip
      refine z_iconst hX dX4_owe_26 ?_
      refine lv_goto (tgt := 49) hx hb dX4_owe_27 (by decide) ?_
      refine m_calli (As := [.int (iI (2))]) (rest := []) hZ hX hK hD hA hE hP hS (c_fails hZ (uA σ 8 0 (bI (¬ (mIs (σ 0) P ∧ mIs (σ 0) P2)))) _ (2) (by omega)) (cwV 1 hX.hts (lw_V q1987 q1989 qs42 q89 q1990) rfl rfl rfl (by decide +kernel) ⟨Nat.le_of_ble_eq_true rfl, Nat.le_of_ble_eq_true rfl⟩) rfl hl.1 (lv_room (Nat.le_of_ble_eq_true rfl)) dX4_owe_49 ⟨Nat.le_refl _, Nat.le_refl _⟩ rfl (fun  H locs hP hS => ?_)
      rw [show uA (uA σ 8 0 (bI (¬ (mIs (σ 0) P ∧ mIs (σ 0) P2)))) 8 0 2 = uA σ 8 0 2 from uA_uA] at hP
      refine z_if_eqB (tgt := 57) hX dX4_owe_52 (by decide) (fun h9 => absurd h9 (by decide)) (fun h9 => ?_)
      refine z_iconst hX dX4_owe_55 ?_
      exact w_iret hX hP hS (by first | exact oR_f (by unfold cOwe; rw [if_pos c_6, bI_t c_6]) (by rw [bI_t c_6]; decide) | exact oR_f (by unfold cOwe; rw [if_neg (fun h => h c_6), if_pos (Or.inl c_12)]) (by decide) | exact oR_f (by unfold cOwe; rw [if_neg (fun h => h c_6), if_pos (Or.inr c_23)]) (by decide) | exact oR_f (by unfold cOwe; rw [if_neg (fun h => h c_6), if_neg (by omega), if_pos (by omega)]) (by decide)) dX4_owe_56
    · skip
      refine lv_iload_n hx hb dX4_owe_15 rfl (lv_at hl 3 rfl) ?_
      refine z_iconst hX dX4_owe_16 ?_
      refine W.eq (g2 := F0 m 17 ls [.int (iI (1)), .int (iI (a)), .ref o]) rfl ?_
      refine z_sipush hX dX4_owe_17 (by decide) ?_
      refine p_callSi (As := [.int (iI (a)), .int (iI (1)), .int (iI (999))]) (rest := [.ref o]) hZ hX hK hA hE hP hS (c_in hZ _ (a) (1) (999) (by omega)) (va_cwS 3 hX.hts (lw_S q1984 q1985 q89 q1986) rfl rfl rfl (by decide +kernel) ⟨Nat.le_of_ble_eq_true rfl, Nat.le_of_ble_eq_true rfl⟩) rfl hl.1 (lv_room (Nat.le_of_ble_eq_true rfl)) dX4_owe_20 ⟨Nat.le_refl _, Nat.le_refl _⟩ rfl (fun  H locs hP hS => ?_)
      refine z_if_neB (tgt := 30) hX dX4_owe_23 (by decide) (fun c_23 => ?_) (fun c_23 => ?_)
      · skip
        have c_23' : 1 ≤ a ∧ a ≤ 999 := c_23
        refine lv_aload_n hx hb dX4_owe_30 rfl (lv_at hl 0 rfl) ?_
        refine lv_iload_n hx hb dX4_owe_31 rfl (lv_at hl 1 rfl) ?_
        refine lv_iload_n hx hb dX4_owe_32 rfl (lv_at hl 2 rfl) ?_
        refine m_calli (As := [.int (iI (P)), .int (iI (P2))]) (rest := [.ref o]) hZ hX hK hD hA hE hP hS (c_owes hZ (uA σ 8 0 (bI (¬ (mIs (σ 0) P ∧ mIs (σ 0) P2)))) _ P.toNat P2.toNat _ _ (by omega) (by omega)) (cwV 2 hX.hts (lw_V q2018 q2020 qs47 q89 q2021) rfl rfl rfl (by decide +kernel) ⟨Nat.le_of_ble_eq_true rfl, Nat.le_of_ble_eq_true rfl⟩) rfl hl.1 (lv_room (Nat.le_of_ble_eq_true rfl)) dX4_owe_33 ⟨Nat.le_refl _, Nat.le_refl _⟩ rfl (fun  H locs hP hS => ?_)
        refine z_top (y := σ 0 (12 + 7 * P.toNat + P2.toNat)) (by rw [uA_nj (by decide)]) ?_
        refine lv_iload_n hx hb dX4_owe_36 rfl (lv_at hl 3 rfl) ?_
        refine z_iadd hX dX4_owe_37 ?_
        refine z_sipush hX dX4_owe_38 (by decide) ?_
        refine W.eq (g2 := F0 m 41 ls [.int (iI (999)), .int (iI ((σ 0 (12 + 7 * P.toNat + P2.toNat)) + a)), .ref o]) rfl ?_
        refine z_icmp_le (tgt := 48) hX (by omega) dX4_owe_41 (by decide) (fun c_41 => ?_) (fun c_41 => ?_)
        · skip
          refine z_iconst hX dX4_owe_48 ?_
          refine m_calli (As := [.int (iI (0))]) (rest := []) hZ hX hK hD hA hE hP hS (c_fails hZ (uA σ 8 0 (bI (¬ (mIs (σ 0) P ∧ mIs (σ 0) P2)))) _ (0) (by omega)) (cwV 1 hX.hts (lw_V q1987 q1989 qs42 q89 q1990) rfl rfl rfl (by decide +kernel) ⟨Nat.le_of_ble_eq_true rfl, Nat.le_of_ble_eq_true rfl⟩) rfl hl.1 (lv_room (Nat.le_of_ble_eq_true rfl)) dX4_owe_49 ⟨Nat.le_refl _, Nat.le_refl _⟩ rfl (fun  H locs hP hS => ?_)
          rw [show uA (uA σ 8 0 (bI (¬ (mIs (σ 0) P ∧ mIs (σ 0) P2)))) 8 0 0 = uA σ 8 0 0 from uA_uA] at hP
          refine z_if_eqB (tgt := 57) hX dX4_owe_52 (by decide) (fun h9 => ?_) (fun h9 => absurd h9 (by decide))
          refine lv_aload_n hx hb dX4_owe_57 rfl (lv_at hl 0 rfl) ?_
          refine lv_aload_n hx hb dX4_owe_58 rfl (lv_at hl 0 rfl) ?_
          refine m_get hX hK hP 0 (by decide) q1908 rfl dX4_owe_59 ?_
          refine m_callv (As := [.ref (ad 0)]) (rest := []) hZ hX hK hD hA hE hP hS (c_keeps hZ (uA σ 8 0 0) _ _ 0 _ (fun _ => mW_e0) (by decide) (by decide) (by decide) n6 (by rw [uA_nj (by decide)]; exact h6) (by rw [uA_nj (by decide)]; exact h7)) (cwV 1 hX.hts (lw_V q1991 q1993 qs43 q89 q1994) rfl rfl rfl (by decide +kernel) ⟨Nat.le_of_ble_eq_true rfl, Nat.le_of_ble_eq_true rfl⟩) rfl hl.1 (lv_room (Nat.le_of_ble_eq_true rfl)) dX4_owe_62 ⟨Nat.le_refl _, Nat.le_refl _⟩ rfl (fun  H locs hP hS => ?_)
          rw [show kF 0 (uA σ 8 0 0) n6 = kF 0 σ n6 from kF_u8 (by decide)] at hP
          refine lv_aload_n hx hb dX4_owe_65 rfl (lv_at hl 0 rfl) ?_
          refine m_get hX hK hP 0 (by decide) q1908 rfl dX4_owe_66 ?_
          refine W.eq (g2 := F0 m 69 ls [.ref (ad 0)]) rfl ?_
          refine z_bipush hX dX4_owe_69 (by decide) ?_
          refine z_bipush hX dX4_owe_71 (by decide) ?_
          refine lv_iload_n hx hb dX4_owe_73 rfl (lv_at hl 1 rfl) ?_
          refine z_imul hX dX4_owe_74 ?_
          refine z_iadd hX dX4_owe_75 ?_
          refine lv_iload_n hx hb dX4_owe_76 rfl (lv_at hl 2 rfl) ?_
          refine z_iadd hX dX4_owe_77 ?_
          refine lv_dup2_11 hx hb dX4_owe_78 rfl rfl ?_
          refine m_ld hX hK hP mW_e0 (12 + 7 * P.toNat + P2.toNat) (by omega) (by decide) dX4_owe_79 ?_
          refine z_top (y := σ 0 (12 + 7 * P.toNat + P2.toNat)) (by rw [kF_i (by decide) (by decide) (by decide)]) ?_
          refine lv_iload_n hx hb dX4_owe_80 rfl (lv_at hl 3 rfl) ?_
          refine W.eq (g2 := F0 m 81 ls [.int (iI (a)), .int (iI (σ 0 (12 + 7 * P.toNat + P2.toNat))), .int (iI ((12 + (7 * P)) + P2)), .ref (ad 0)]) rfl ?_
          refine z_iadd hX dX4_owe_81 ?_
          refine m_st hX hK hD hP hS mW_e0 (12 + 7 * P.toNat + P2.toNat) mW_s0 (by omega) (by decide) dX4_owe_82 (fun H locs hP hS => ?_)
          rw [show uA (kF 0 σ n6) 0 (12 + 7 * P.toNat + P2.toNat) ((σ 0 (12 + 7 * P.toNat + P2.toNat)) + a) = sA (kF 0 σ n6) 0 (gU (σ 0) (12 + 7 * P.toNat + P2.toNat) ((σ 0 (12 + 7 * P.toNat + P2.toNat)) + a)) from by rw [uA_sA, kF_i (by decide) (by decide) (by decide)]] at hP
          refine lv_aload_n hx hb dX4_owe_83 rfl (lv_at hl 0 rfl) ?_
          refine lv_iload_n hx hb dX4_owe_84 rfl (lv_at hl 1 rfl) ?_
          refine lv_iload_n hx hb dX4_owe_85 rfl (lv_at hl 2 rfl) ?_
          refine m_calli (As := [.int (iI (P)), .int (iI (P2))]) (rest := []) hZ hX hK hD hA hE hP hS (c_owes hZ (sA (kF 0 σ n6) 0 (gU (σ 0) (12 + 7 * P.toNat + P2.toNat) ((σ 0 (12 + 7 * P.toNat + P2.toNat)) + a))) _ P.toNat P2.toNat _ _ (by omega) (by omega)) (cwV 2 hX.hts (lw_V q2018 q2020 qs47 q89 q2021) rfl rfl rfl (by decide +kernel) ⟨Nat.le_of_ble_eq_true rfl, Nat.le_of_ble_eq_true rfl⟩) rfl hl.1 (lv_room (Nat.le_of_ble_eq_true rfl)) dX4_owe_86 ⟨Nat.le_refl _, Nat.le_refl _⟩ rfl (fun  H locs hP hS => ?_)
          refine z_top (y := (σ 0 (12 + 7 * P.toNat + P2.toNat)) + a) (by rw [sA_j, gU_eq]) ?_
          exact w_iret hX hP hS (oR_t (by unfold cOwe; rw [if_neg (fun h => h c_6), if_neg (by omega), if_neg (by omega)])) dX4_owe_89
        · skip
          refine z_iconst hX dX4_owe_44 ?_
          refine lv_goto (tgt := 49) hx hb dX4_owe_45 (by decide) ?_
          refine m_calli (As := [.int (iI (3))]) (rest := []) hZ hX hK hD hA hE hP hS (c_fails hZ (uA σ 8 0 (bI (¬ (mIs (σ 0) P ∧ mIs (σ 0) P2)))) _ (3) (by omega)) (cwV 1 hX.hts (lw_V q1987 q1989 qs42 q89 q1990) rfl rfl rfl (by decide +kernel) ⟨Nat.le_of_ble_eq_true rfl, Nat.le_of_ble_eq_true rfl⟩) rfl hl.1 (lv_room (Nat.le_of_ble_eq_true rfl)) dX4_owe_49 ⟨Nat.le_refl _, Nat.le_refl _⟩ rfl (fun  H locs hP hS => ?_)
          rw [show uA (uA σ 8 0 (bI (¬ (mIs (σ 0) P ∧ mIs (σ 0) P2)))) 8 0 3 = uA σ 8 0 3 from uA_uA] at hP
          refine W.eq (g2 := F0 m 52 ls [.int (iI (bI (0 < 3)))]) rfl ?_
          refine z_if_eqB (tgt := 57) hX dX4_owe_52 (by decide) (fun h9 => absurd h9 (by decide)) (fun h9 => ?_)
          refine z_iconst hX dX4_owe_55 ?_
          exact w_iret hX hP hS (by first | exact oR_f (by unfold cOwe; rw [if_pos c_6, bI_t c_6]) (by rw [bI_t c_6]; decide) | exact oR_f (by unfold cOwe; rw [if_neg (fun h => h c_6), if_pos (Or.inl c_12)]) (by decide) | exact oR_f (by unfold cOwe; rw [if_neg (fun h => h c_6), if_pos (Or.inr c_23)]) (by decide) | exact oR_f (by unfold cOwe; rw [if_neg (fun h => h c_6), if_neg (by omega), if_pos (by omega)]) (by decide)) dX4_owe_56
      · skip
        refine z_iconst hX dX4_owe_26 ?_
        refine lv_goto (tgt := 49) hx hb dX4_owe_27 (by decide) ?_
        refine m_calli (As := [.int (iI (2))]) (rest := []) hZ hX hK hD hA hE hP hS (c_fails hZ (uA σ 8 0 (bI (¬ (mIs (σ 0) P ∧ mIs (σ 0) P2)))) _ (2) (by omega)) (cwV 1 hX.hts (lw_V q1987 q1989 qs42 q89 q1990) rfl rfl rfl (by decide +kernel) ⟨Nat.le_of_ble_eq_true rfl, Nat.le_of_ble_eq_true rfl⟩) rfl hl.1 (lv_room (Nat.le_of_ble_eq_true rfl)) dX4_owe_49 ⟨Nat.le_refl _, Nat.le_refl _⟩ rfl (fun  H locs hP hS => ?_)
        rw [show uA (uA σ 8 0 (bI (¬ (mIs (σ 0) P ∧ mIs (σ 0) P2)))) 8 0 2 = uA σ 8 0 2 from uA_uA] at hP
        refine z_if_eqB (tgt := 57) hX dX4_owe_52 (by decide) (fun h9 => absurd h9 (by decide)) (fun h9 => ?_)
        refine z_iconst hX dX4_owe_55 ?_
        exact w_iret hX hP hS (by first | exact oR_f (by unfold cOwe; rw [if_pos c_6, bI_t c_6]) (by rw [bI_t c_6]; decide) | exact oR_f (by unfold cOwe; rw [if_neg (fun h => h c_6), if_pos (Or.inl c_12)]) (by decide) | exact oR_f (by unfold cOwe; rw [if_neg (fun h => h c_6), if_pos (Or.inr c_23)]) (by decide) | exact oR_f (by unfold cOwe; rw [if_neg (fun h => h c_6), if_neg (by omega), if_pos (by omega)]) (by decide)) dX4_owe_56
set_option maxHeartbeats 4000000 in
theorem c_moves {l : Launch} {D : va_G} {Z : zZ} {o : Nat} {ad : Nat → Nat} {cA : Nat → ClassId} (hZ : zOk Z) (σ : zT) (sz : Nat) (d1 d2 : Nat) (E1 E2 a : Int) (h1 : E1 = d1 ∧ d1 < 7) (h2 : E2 = d2 ∧ d2 < 7) : MV l D Z o ad cA yX4_moves (ws_ yX4_moves cX4_moves 4 (none)) { frames := 0, cells := 0, slots := 0, locals := 0 } [.ref o, .int (iI (E1)), .int (iI (E2)), .int (iI (a))] sz (σ) (fV (sA σ 0 (sMov (σ 0) d1 d2 a))) := by
  obtain ⟨rfl, h1⟩ := h1
  obtain ⟨rfl, h2⟩ := h2
  refine w_met (cc := cX4_moves) (maxL := 4) (ret := none) (own := RX4) (by decide) rfl rfl mW_ok (Nat.le_of_ble_eq_true rfl) ?_
  intro p e s m below meth c hX hsz hK hP hD hA hE hS hR ls hl
  have hx := hX.1
  have hb := hX.2.1
  have hl : lv_has ls 4 [(0, .ref o), (1, .int (iI (↑d1))), (2, .int (iI (↑d2))), (3, .int (iI (a)))] := hl
  refine lv_aload_n hx hb dX4_moves_0 rfl (lv_at hl 0 rfl) ?_
  refine m_get hX hK hP 0 (by decide) q1908 rfl dX4_moves_1 ?_
  refine z_bipush hX dX4_moves_4 (by decide) ?_
  refine z_bipush hX dX4_moves_6 (by decide) ?_
  refine lv_iload_n hx hb dX4_moves_8 rfl (lv_at hl 1 rfl) ?_
  refine z_imul hX dX4_moves_9 ?_
  refine z_iadd hX dX4_moves_10 ?_
  refine lv_iload_n hx hb dX4_moves_11 rfl (lv_at hl 2 rfl) ?_
  refine z_iadd hX dX4_moves_12 ?_
  refine W.eq (g2 := F0 m 13 ls [.int (iI ((12 + (7 * (↑d1))) + (↑d2))), .ref (ad 0)]) rfl ?_
  refine lv_dup2_11 hx hb dX4_moves_13 rfl rfl ?_
  refine m_ld hX hK hP mW_e0 (12 + 7 * d1 + d2) (by omega) (by decide) dX4_moves_14 ?_
  refine lv_iload_n hx hb dX4_moves_15 rfl (lv_at hl 3 rfl) ?_
  refine z_isub hX dX4_moves_16 ?_
  refine m_st hX hK hD hP hS mW_e0 (12 + 7 * d1 + d2) mW_s0 (by omega) (by decide) dX4_moves_17 (fun H locs hP hS => ?_)
  rw [show uA σ 0 (12 + 7 * d1 + d2) ((σ 0 (12 + 7 * d1 + d2)) - a) = sA σ 0 (gU (σ 0) (12 + 7 * d1 + d2) ((σ 0 (12 + 7 * d1 + d2)) - a)) from rfl] at hP
  refine lv_aload_n hx hb dX4_moves_18 rfl (lv_at hl 0 rfl) ?_
  refine m_get hX hK hP 0 (by decide) q1908 rfl dX4_moves_19 ?_
  refine z_iconst hX dX4_moves_22 ?_
  refine lv_iload_n hx hb dX4_moves_23 rfl (lv_at hl 1 rfl) ?_
  refine z_iadd hX dX4_moves_24 ?_
  refine W.eq (g2 := F0 m 25 ls [.int (iI (5 + (↑d1))), .ref (ad 0)]) rfl ?_
  refine lv_dup2_11 hx hb dX4_moves_25 rfl rfl ?_
  refine m_ld hX hK hP mW_e0 (5 + d1) (by omega) (by decide) dX4_moves_26 ?_
  refine z_top (y := (gU (σ 0) (12 + 7 * d1 + d2) ((σ 0 (12 + 7 * d1 + d2)) - a)) (5 + d1)) (by rw [sA_j]) ?_
  refine lv_iload_n hx hb dX4_moves_27 rfl (lv_at hl 3 rfl) ?_
  refine z_isub hX dX4_moves_28 ?_
  refine m_st hX hK hD hP hS mW_e0 (5 + d1) mW_s0 (by omega) (by decide) dX4_moves_29 (fun H locs hP hS => ?_)
  rw [show uA (sA σ 0 (gU (σ 0) (12 + 7 * d1 + d2) ((σ 0 (12 + 7 * d1 + d2)) - a))) 0 (5 + d1) (((gU (σ 0) (12 + 7 * d1 + d2) ((σ 0 (12 + 7 * d1 + d2)) - a)) (5 + d1)) - a) = sA σ 0 (gU (gU (σ 0) (12 + 7 * d1 + d2) ((σ 0 (12 + 7 * d1 + d2)) - a)) (5 + d1) (((gU (σ 0) (12 + 7 * d1 + d2) ((σ 0 (12 + 7 * d1 + d2)) - a)) (5 + d1)) - a)) from uA_in] at hP
  refine lv_aload_n hx hb dX4_moves_30 rfl (lv_at hl 0 rfl) ?_
  refine m_get hX hK hP 0 (by decide) q1908 rfl dX4_moves_31 ?_
  refine z_iconst hX dX4_moves_34 ?_
  refine lv_iload_n hx hb dX4_moves_35 rfl (lv_at hl 2 rfl) ?_
  refine z_iadd hX dX4_moves_36 ?_
  refine W.eq (g2 := F0 m 37 ls [.int (iI (5 + (↑d2))), .ref (ad 0)]) rfl ?_
  refine lv_dup2_11 hx hb dX4_moves_37 rfl rfl ?_
  refine m_ld hX hK hP mW_e0 (5 + d2) (by omega) (by decide) dX4_moves_38 ?_
  refine z_top (y := (gU (gU (σ 0) (12 + 7 * d1 + d2) ((σ 0 (12 + 7 * d1 + d2)) - a)) (5 + d1) (((gU (σ 0) (12 + 7 * d1 + d2) ((σ 0 (12 + 7 * d1 + d2)) - a)) (5 + d1)) - a)) (5 + d2)) (by rw [sA_j]) ?_
  refine lv_iload_n hx hb dX4_moves_39 rfl (lv_at hl 3 rfl) ?_
  refine z_iadd hX dX4_moves_40 ?_
  refine m_st hX hK hD hP hS mW_e0 (5 + d2) mW_s0 (by omega) (by decide) dX4_moves_41 (fun H locs hP hS => ?_)
  rw [show uA (sA σ 0 (gU (gU (σ 0) (12 + 7 * d1 + d2) ((σ 0 (12 + 7 * d1 + d2)) - a)) (5 + d1) (((gU (σ 0) (12 + 7 * d1 + d2) ((σ 0 (12 + 7 * d1 + d2)) - a)) (5 + d1)) - a))) 0 (5 + d2) (((gU (gU (σ 0) (12 + 7 * d1 + d2) ((σ 0 (12 + 7 * d1 + d2)) - a)) (5 + d1) (((gU (σ 0) (12 + 7 * d1 + d2) ((σ 0 (12 + 7 * d1 + d2)) - a)) (5 + d1)) - a)) (5 + d2)) + a) = sA σ 0 (gU (gU (gU (σ 0) (12 + 7 * d1 + d2) ((σ 0 (12 + 7 * d1 + d2)) - a)) (5 + d1) (((gU (σ 0) (12 + 7 * d1 + d2) ((σ 0 (12 + 7 * d1 + d2)) - a)) (5 + d1)) - a)) (5 + d2) (((gU (gU (σ 0) (12 + 7 * d1 + d2) ((σ 0 (12 + 7 * d1 + d2)) - a)) (5 + d1) (((gU (σ 0) (12 + 7 * d1 + d2) ((σ 0 (12 + 7 * d1 + d2)) - a)) (5 + d1)) - a)) (5 + d2)) + a)) from uA_in] at hP
  exact w_vret hX hP hS (rfl) dX4_moves_42
set_option maxHeartbeats 4000000 in
theorem c_pay {l : Launch} {D : va_G} {Z : zZ} {o : Nat} {ad : Nat → Nat} {cA : Nat → ClassId} (hZ : zOk Z) (σ : zT) (sz : Nat) (P P2 a : Int) (hP0 : (-2147483648 ≤ P ∧ P ≤ 2147483647)) (hP2 : (-2147483648 ≤ P2 ∧ P2 ≤ 2147483647)) (ha0 : (-2147483648 ≤ a ∧ a ≤ 2147483647)) (B : Int) (hgo : gOk (σ 0) B) (hB : B ≤ 2000000) (n6 : Nat) (h6 : σ 6 0 = n6 ∧ n6 ≤ 8) (h7 : σ 7 0 = 0 ∨ σ 7 0 = 1) : MI l D Z o ad cA yX4_pay (ws_ yX4_pay cX4_pay 4 (some .int)) { frames := 3, cells := 0, slots := 0, locals := 65 } [.ref o, .int (iI (P)), .int (iI (P2)), .int (iI (a))] sz (σ) (fR ((oR σ n6 (cPay (σ 0) P P2 a) (sMov (σ 0) P.toNat P2.toNat a) (sMov (σ 0) P.toNat P2.toNat a (12 + 7 * P.toNat + P2.toNat))))) := by
  refine w_met (cc := cX4_pay) (maxL := 4) (ret := some .int) (own := RX4) (by decide) rfl rfl mW_ok (Nat.le_of_ble_eq_true rfl) ?_
  intro p e s m below meth c hX hsz hK hP hD hA hE hS hR ls hl
  have hx := hX.1
  have hb := hX.2.1
  have hl : lv_has ls 4 [(0, .ref o), (1, .int (iI (P))), (2, .int (iI (P2))), (3, .int (iI (a)))] := hl
  have hg := hgo.1
  refine lv_aload_n hx hb dX4_pay_0 rfl (lv_at hl 0 rfl) ?_
  refine lv_iload_n hx hb dX4_pay_1 rfl (lv_at hl 1 rfl) ?_
  refine lv_iload_n hx hb dX4_pay_2 rfl (lv_at hl 2 rfl) ?_
  refine m_calli (As := [.int (iI (P)), .int (iI (P2))]) (rest := []) hZ hX hK hD hA hE hP hS (c_areNone hZ (σ) _ (P) (P2) (by omega) (by omega) hg) (cwV 2 hX.hts (lw_V q2014 q2016 qs46 q89 q2017) rfl rfl rfl (by decide +kernel) ⟨Nat.le_of_ble_eq_true rfl, Nat.le_of_ble_eq_true rfl⟩) rfl hl.1 (lv_room (Nat.le_of_ble_eq_true rfl)) dX4_pay_3 ⟨Nat.le_refl _, Nat.le_refl _⟩ rfl (fun  H locs hP hS => ?_)
  refine z_if_neB (tgt := 67) hX dX4_pay_6 (by decide) (fun c_6 => ?_) (fun c_6 => ?_)
  · skip
    refine z_iconst hX dX4_pay_67 ?_
    exact w_iret hX hP hS (by first | exact oR_f (by unfold cPay; rw [if_pos c_6, bI_t c_6]) (by rw [bI_t c_6]; decide) | exact oR_f (by unfold cPay; rw [if_neg (fun h => h c_6), if_pos (Or.inl c_12)]) (by decide) | exact oR_f (by unfold cPay; rw [if_neg (fun h => h c_6), if_pos (Or.inr c_23)]) (by decide) | exact oR_f (by unfold cPay; rw [if_neg (fun h => h c_6), if_neg (by omega), if_pos (by omega)]) (by decide) | exact oR_f (by unfold cPay; rw [if_neg (fun h => h c_6), if_neg (by omega), if_neg (by omega), if_pos (by omega)]) (by decide)) dX4_pay_68
  · skip
    have c_6 : mIs (σ 0) P ∧ mIs (σ 0) P2 := Decidable.of_not_not c_6
    have c_6' : (0 ≤ P ∧ P ≤ σ 0 0 - 1) ∧ 0 ≤ P2 ∧ P2 ≤ σ 0 0 - 1 := c_6
    have hd := hgo.2.2.1 P.toNat P2.toNat (by omega) (by omega)
    have hd2 := hgo.2.2.1 P2.toNat P.toNat (by omega) (by omega)
    have hc := hgo.2.1 P.toNat (by omega)
    refine lv_aload_n hx hb dX4_pay_9 rfl (lv_at hl 0 rfl) ?_
    refine lv_iload_n hx hb dX4_pay_10 rfl (lv_at hl 1 rfl) ?_
    refine W.eq (g2 := F0 m 11 ls [.int (iI (P)), .ref o]) rfl ?_
    refine lv_iload_n hx hb dX4_pay_11 rfl (lv_at hl 2 rfl) ?_
    refine z_icmp_eq (tgt := 26) hX (by omega) dX4_pay_12 (by decide) (fun c_12 => ?_) (fun c_12 => ?_)
    · skip
      refine z_iconst hX dX4_pay_26 ?_
      refine lv_goto (tgt := 61) hx hb dX4_pay_27 (by decide) ?_
      refine m_calli (As := [.int (iI (2))]) (rest := []) hZ hX hK hD hA hE hP hS (c_fails hZ (uA σ 8 0 (bI (¬ (mIs (σ 0) P ∧ mIs (σ 0) P2)))) _ (2) (by omega)) (cwV 1 hX.hts (lw_V q1987 q1989 qs42 q89 q1990) rfl rfl rfl (by decide +kernel) ⟨Nat.le_of_ble_eq_true rfl, Nat.le_of_ble_eq_true rfl⟩) rfl hl.1 (lv_room (Nat.le_of_ble_eq_true rfl)) dX4_pay_61 ⟨Nat.le_refl _, Nat.le_refl _⟩ rfl (fun  H locs hP hS => ?_)
      rw [show uA (uA σ 8 0 (bI (¬ (mIs (σ 0) P ∧ mIs (σ 0) P2)))) 8 0 2 = uA σ 8 0 2 from uA_uA] at hP
      refine z_if_eqB (tgt := 69) hX dX4_pay_64 (by decide) (fun h9 => absurd h9 (by decide)) (fun h9 => ?_)
      refine z_iconst hX dX4_pay_67 ?_
      exact w_iret hX hP hS (by first | exact oR_f (by unfold cPay; rw [if_pos c_6, bI_t c_6]) (by rw [bI_t c_6]; decide) | exact oR_f (by unfold cPay; rw [if_neg (fun h => h c_6), if_pos (Or.inl c_12)]) (by decide) | exact oR_f (by unfold cPay; rw [if_neg (fun h => h c_6), if_pos (Or.inr c_23)]) (by decide) | exact oR_f (by unfold cPay; rw [if_neg (fun h => h c_6), if_neg (by omega), if_pos (by omega)]) (by decide) | exact oR_f (by unfold cPay; rw [if_neg (fun h => h c_6), if_neg (by omega), if_neg (by omega), if_pos (by omega)]) (by decide)) dX4_pay_68
    · skip
      refine lv_iload_n hx hb dX4_pay_15 rfl (lv_at hl 3 rfl) ?_
      refine z_iconst hX dX4_pay_16 ?_
      refine W.eq (g2 := F0 m 17 ls [.int (iI (1)), .int (iI (a)), .ref o]) rfl ?_
      refine z_sipush hX dX4_pay_17 (by decide) ?_
      refine p_callSi (As := [.int (iI (a)), .int (iI (1)), .int (iI (999))]) (rest := [.ref o]) hZ hX hK hA hE hP hS (c_in hZ _ (a) (1) (999) (by omega)) (va_cwS 3 hX.hts (lw_S q1984 q1985 q89 q1986) rfl rfl rfl (by decide +kernel) ⟨Nat.le_of_ble_eq_true rfl, Nat.le_of_ble_eq_true rfl⟩) rfl hl.1 (lv_room (Nat.le_of_ble_eq_true rfl)) dX4_pay_20 ⟨Nat.le_refl _, Nat.le_refl _⟩ rfl (fun  H locs hP hS => ?_)
      refine z_if_neB (tgt := 30) hX dX4_pay_23 (by decide) (fun c_23 => ?_) (fun c_23 => ?_)
      · skip
        have c_23' : 1 ≤ a ∧ a ≤ 999 := c_23
        refine lv_aload_n hx hb dX4_pay_30 rfl (lv_at hl 0 rfl) ?_
        refine lv_iload_n hx hb dX4_pay_31 rfl (lv_at hl 1 rfl) ?_
        refine lv_iload_n hx hb dX4_pay_32 rfl (lv_at hl 2 rfl) ?_
        refine m_calli (As := [.int (iI (P)), .int (iI (P2))]) (rest := [.ref o]) hZ hX hK hD hA hE hP hS (c_owes hZ (uA σ 8 0 (bI (¬ (mIs (σ 0) P ∧ mIs (σ 0) P2)))) _ P.toNat P2.toNat _ _ (by omega) (by omega)) (cwV 2 hX.hts (lw_V q2018 q2020 qs47 q89 q2021) rfl rfl rfl (by decide +kernel) ⟨Nat.le_of_ble_eq_true rfl, Nat.le_of_ble_eq_true rfl⟩) rfl hl.1 (lv_room (Nat.le_of_ble_eq_true rfl)) dX4_pay_33 ⟨Nat.le_refl _, Nat.le_refl _⟩ rfl (fun  H locs hP hS => ?_)
        refine z_top (y := σ 0 (12 + 7 * P.toNat + P2.toNat)) (by rw [uA_nj (by decide)]) ?_
        refine lv_iload_n hx hb dX4_pay_36 rfl (lv_at hl 3 rfl) ?_
        refine z_icmp_ge (tgt := 44) hX (by omega) dX4_pay_37 (by decide) (fun c_37 => ?_) (fun c_37 => ?_)
        · skip
          refine lv_aload_n hx hb dX4_pay_44 rfl (lv_at hl 0 rfl) ?_
          refine W.eq (g2 := F0 m 45 ls [.ref o, .ref o]) rfl ?_
          refine m_get hX hK hP 0 (by decide) q1908 rfl dX4_pay_45 ?_
          refine z_iconst hX dX4_pay_48 ?_
          refine lv_iload_n hx hb dX4_pay_49 rfl (lv_at hl 1 rfl) ?_
          refine z_iadd hX dX4_pay_50 ?_
          refine m_ld hX hK hP mW_e0 (5 + P.toNat) (by omega) (by decide) dX4_pay_51 ?_
          refine z_top (y := σ 0 (5 + P.toNat)) (by rw [uA_nj (by decide)]) ?_
          refine lv_iload_n hx hb dX4_pay_52 rfl (lv_at hl 3 rfl) ?_
          refine z_icmp_ge (tgt := 60) hX (by omega) dX4_pay_53 (by decide) (fun c_53 => ?_) (fun c_53 => ?_)
          · skip
            refine z_iconst hX dX4_pay_60 ?_
            refine m_calli (As := [.int (iI (0))]) (rest := []) hZ hX hK hD hA hE hP hS (c_fails hZ (uA σ 8 0 (bI (¬ (mIs (σ 0) P ∧ mIs (σ 0) P2)))) _ (0) (by omega)) (cwV 1 hX.hts (lw_V q1987 q1989 qs42 q89 q1990) rfl rfl rfl (by decide +kernel) ⟨Nat.le_of_ble_eq_true rfl, Nat.le_of_ble_eq_true rfl⟩) rfl hl.1 (lv_room (Nat.le_of_ble_eq_true rfl)) dX4_pay_61 ⟨Nat.le_refl _, Nat.le_refl _⟩ rfl (fun  H locs hP hS => ?_)
            rw [show uA (uA σ 8 0 (bI (¬ (mIs (σ 0) P ∧ mIs (σ 0) P2)))) 8 0 0 = uA σ 8 0 0 from uA_uA] at hP
            refine z_if_eqB (tgt := 69) hX dX4_pay_64 (by decide) (fun h9 => ?_) (fun h9 => absurd h9 (by decide))
            refine W.eq (g2 := F0 m 69 ls []) rfl ?_
            refine lv_aload_n hx hb dX4_pay_69 rfl (lv_at hl 0 rfl) ?_
            refine lv_aload_n hx hb dX4_pay_70 rfl (lv_at hl 0 rfl) ?_
            refine m_get hX hK hP 0 (by decide) q1908 rfl dX4_pay_71 ?_
            refine m_callv (As := [.ref (ad 0)]) (rest := []) hZ hX hK hD hA hE hP hS (c_keeps hZ (uA σ 8 0 0) _ _ 0 _ (fun _ => mW_e0) (by decide) (by decide) (by decide) n6 (by rw [uA_nj (by decide)]; exact h6) (by rw [uA_nj (by decide)]; exact h7)) (cwV 1 hX.hts (lw_V q1991 q1993 qs43 q89 q1994) rfl rfl rfl (by decide +kernel) ⟨Nat.le_of_ble_eq_true rfl, Nat.le_of_ble_eq_true rfl⟩) rfl hl.1 (lv_room (Nat.le_of_ble_eq_true rfl)) dX4_pay_74 ⟨Nat.le_refl _, Nat.le_refl _⟩ rfl (fun  H locs hP hS => ?_)
            rw [show kF 0 (uA σ 8 0 0) n6 = kF 0 σ n6 from kF_u8 (by decide)] at hP
            refine lv_aload_n hx hb dX4_pay_77 rfl (lv_at hl 0 rfl) ?_
            refine lv_iload_n hx hb dX4_pay_78 rfl (lv_at hl 1 rfl) ?_
            refine lv_iload_n hx hb dX4_pay_79 rfl (lv_at hl 2 rfl) ?_
            refine lv_iload_n hx hb dX4_pay_80 rfl (lv_at hl 3 rfl) ?_
            refine m_callv (As := [.int (iI (P)), .int (iI (P2)), .int (iI (a))]) (rest := []) hZ hX hK hD hA hE hP hS (c_moves hZ (kF 0 σ n6) _ P.toNat P2.toNat _ _ a (by omega) (by omega)) (cwV 3 hX.hts (lw_V q2026 q2028 qs48 q89 q2029) rfl rfl rfl (by decide +kernel) ⟨Nat.le_of_ble_eq_true rfl, Nat.le_of_ble_eq_true rfl⟩) rfl hl.1 (lv_room (Nat.le_of_ble_eq_true rfl)) dX4_pay_81 ⟨Nat.le_refl _, Nat.le_refl _⟩ rfl (fun  H locs hP hS => ?_)
            rw [show sA (kF 0 σ n6) 0 (sMov ((kF 0 σ n6) 0) P.toNat P2.toNat a) = sA (kF 0 σ n6) 0 (sMov (σ 0) P.toNat P2.toNat a) from by rw [kF_i (by decide) (by decide) (by decide)]] at hP
            refine lv_aload_n hx hb dX4_pay_84 rfl (lv_at hl 0 rfl) ?_
            refine W.eq (g2 := F0 m 85 ls [.ref o]) rfl ?_
            refine lv_iload_n hx hb dX4_pay_85 rfl (lv_at hl 1 rfl) ?_
            refine lv_iload_n hx hb dX4_pay_86 rfl (lv_at hl 2 rfl) ?_
            refine m_calli (As := [.int (iI (P)), .int (iI (P2))]) (rest := []) hZ hX hK hD hA hE hP hS (c_owes hZ (sA (kF 0 σ n6) 0 (sMov (σ 0) P.toNat P2.toNat a)) _ P.toNat P2.toNat _ _ (by omega) (by omega)) (cwV 2 hX.hts (lw_V q2018 q2020 qs47 q89 q2021) rfl rfl rfl (by decide +kernel) ⟨Nat.le_of_ble_eq_true rfl, Nat.le_of_ble_eq_true rfl⟩) rfl hl.1 (lv_room (Nat.le_of_ble_eq_true rfl)) dX4_pay_87 ⟨Nat.le_refl _, Nat.le_refl _⟩ rfl (fun  H locs hP hS => ?_)
            refine z_top (y := (sMov (σ 0) P.toNat P2.toNat a) (12 + 7 * P.toNat + P2.toNat)) (by rw [sA_j]) ?_
            exact w_iret hX hP hS (oR_t (by unfold cPay; rw [if_neg (fun h => h c_6), if_neg (by omega), if_neg (by omega), if_neg (by omega)])) dX4_pay_90
          · skip
            refine z_iconst hX dX4_pay_56 ?_
            refine lv_goto (tgt := 61) hx hb dX4_pay_57 (by decide) ?_
            refine m_calli (As := [.int (iI (4))]) (rest := []) hZ hX hK hD hA hE hP hS (c_fails hZ (uA σ 8 0 (bI (¬ (mIs (σ 0) P ∧ mIs (σ 0) P2)))) _ (4) (by omega)) (cwV 1 hX.hts (lw_V q1987 q1989 qs42 q89 q1990) rfl rfl rfl (by decide +kernel) ⟨Nat.le_of_ble_eq_true rfl, Nat.le_of_ble_eq_true rfl⟩) rfl hl.1 (lv_room (Nat.le_of_ble_eq_true rfl)) dX4_pay_61 ⟨Nat.le_refl _, Nat.le_refl _⟩ rfl (fun  H locs hP hS => ?_)
            rw [show uA (uA σ 8 0 (bI (¬ (mIs (σ 0) P ∧ mIs (σ 0) P2)))) 8 0 4 = uA σ 8 0 4 from uA_uA] at hP
            refine z_if_eqB (tgt := 69) hX dX4_pay_64 (by decide) (fun h9 => absurd h9 (by decide)) (fun h9 => ?_)
            refine z_iconst hX dX4_pay_67 ?_
            exact w_iret hX hP hS (by first | exact oR_f (by unfold cPay; rw [if_pos c_6, bI_t c_6]) (by rw [bI_t c_6]; decide) | exact oR_f (by unfold cPay; rw [if_neg (fun h => h c_6), if_pos (Or.inl c_12)]) (by decide) | exact oR_f (by unfold cPay; rw [if_neg (fun h => h c_6), if_pos (Or.inr c_23)]) (by decide) | exact oR_f (by unfold cPay; rw [if_neg (fun h => h c_6), if_neg (by omega), if_pos (by omega)]) (by decide) | exact oR_f (by unfold cPay; rw [if_neg (fun h => h c_6), if_neg (by omega), if_neg (by omega), if_pos (by omega)]) (by decide)) dX4_pay_68
        · skip
          refine W.eq (g2 := F0 m 40 ls [.ref o]) rfl ?_
          refine z_iconst hX dX4_pay_40 ?_
          refine lv_goto (tgt := 61) hx hb dX4_pay_41 (by decide) ?_
          refine m_calli (As := [.int (iI (3))]) (rest := []) hZ hX hK hD hA hE hP hS (c_fails hZ (uA σ 8 0 (bI (¬ (mIs (σ 0) P ∧ mIs (σ 0) P2)))) _ (3) (by omega)) (cwV 1 hX.hts (lw_V q1987 q1989 qs42 q89 q1990) rfl rfl rfl (by decide +kernel) ⟨Nat.le_of_ble_eq_true rfl, Nat.le_of_ble_eq_true rfl⟩) rfl hl.1 (lv_room (Nat.le_of_ble_eq_true rfl)) dX4_pay_61 ⟨Nat.le_refl _, Nat.le_refl _⟩ rfl (fun  H locs hP hS => ?_)
          rw [show uA (uA σ 8 0 (bI (¬ (mIs (σ 0) P ∧ mIs (σ 0) P2)))) 8 0 3 = uA σ 8 0 3 from uA_uA] at hP
          refine z_if_eqB (tgt := 69) hX dX4_pay_64 (by decide) (fun h9 => absurd h9 (by decide)) (fun h9 => ?_)
          refine z_iconst hX dX4_pay_67 ?_
          exact w_iret hX hP hS (by first | exact oR_f (by unfold cPay; rw [if_pos c_6, bI_t c_6]) (by rw [bI_t c_6]; decide) | exact oR_f (by unfold cPay; rw [if_neg (fun h => h c_6), if_pos (Or.inl c_12)]) (by decide) | exact oR_f (by unfold cPay; rw [if_neg (fun h => h c_6), if_pos (Or.inr c_23)]) (by decide) | exact oR_f (by unfold cPay; rw [if_neg (fun h => h c_6), if_neg (by omega), if_pos (by omega)]) (by decide) | exact oR_f (by unfold cPay; rw [if_neg (fun h => h c_6), if_neg (by omega), if_neg (by omega), if_pos (by omega)]) (by decide)) dX4_pay_68
      · skip
        refine z_iconst hX dX4_pay_26 ?_
        refine lv_goto (tgt := 61) hx hb dX4_pay_27 (by decide) ?_
        refine m_calli (As := [.int (iI (2))]) (rest := []) hZ hX hK hD hA hE hP hS (c_fails hZ (uA σ 8 0 (bI (¬ (mIs (σ 0) P ∧ mIs (σ 0) P2)))) _ (2) (by omega)) (cwV 1 hX.hts (lw_V q1987 q1989 qs42 q89 q1990) rfl rfl rfl (by decide +kernel) ⟨Nat.le_of_ble_eq_true rfl, Nat.le_of_ble_eq_true rfl⟩) rfl hl.1 (lv_room (Nat.le_of_ble_eq_true rfl)) dX4_pay_61 ⟨Nat.le_refl _, Nat.le_refl _⟩ rfl (fun  H locs hP hS => ?_)
        rw [show uA (uA σ 8 0 (bI (¬ (mIs (σ 0) P ∧ mIs (σ 0) P2)))) 8 0 2 = uA σ 8 0 2 from uA_uA] at hP
        refine z_if_eqB (tgt := 69) hX dX4_pay_64 (by decide) (fun h9 => absurd h9 (by decide)) (fun h9 => ?_)
        refine W.eq (g2 := F0 m 67 ls []) rfl ?_
        refine z_iconst hX dX4_pay_67 ?_
        exact w_iret hX hP hS (by first | exact oR_f (by unfold cPay; rw [if_pos c_6, bI_t c_6]) (by rw [bI_t c_6]; decide) | exact oR_f (by unfold cPay; rw [if_neg (fun h => h c_6), if_pos (Or.inl c_12)]) (by decide) | exact oR_f (by unfold cPay; rw [if_neg (fun h => h c_6), if_pos (Or.inr c_23)]) (by decide) | exact oR_f (by unfold cPay; rw [if_neg (fun h => h c_6), if_neg (by omega), if_pos (by omega)]) (by decide) | exact oR_f (by unfold cPay; rw [if_neg (fun h => h c_6), if_neg (by omega), if_neg (by omega), if_pos (by omega)]) (by decide)) dX4_pay_68
set_option maxHeartbeats 4000000 in
theorem c_netPair {l : Launch} {D : va_G} {Z : zZ} {o : Nat} {ad : Nat → Nat} {cA : Nat → ClassId} (hZ : zOk Z) (σ : zT) (sz : Nat) (P P2 : Int) (hP0 : (-2147483648 ≤ P ∧ P ≤ 2147483647)) (hP2 : (-2147483648 ≤ P2 ∧ P2 ≤ 2147483647)) (B : Int) (hgo : gOk (σ 0) B) (hB : B ≤ 2000000) (n6 : Nat) (h6 : σ 6 0 = n6 ∧ n6 ≤ 8) (h7 : σ 7 0 = 0 ∨ σ 7 0 = 1) : MI l D Z o ad cA yX4_netPair (ws_ yX4_netPair cX4_netPair 4 (some .int)) { frames := 3, cells := 0, slots := 0, locals := 65 } [.ref o, .int (iI (P)), .int (iI (P2))] sz (σ) (fR ((oR σ n6 (cPair (σ 0) P P2) (sPair (σ 0) P.toNat P2.toNat (min (σ 0 (12 + 7 * P.toNat + P2.toNat)) (σ 0 (12 + 7 * P2.toNat + P.toNat)))) (min (σ 0 (12 + 7 * P.toNat + P2.toNat)) (σ 0 (12 + 7 * P2.toNat + P.toNat)))))) := by
  refine w_met (cc := cX4_netPair) (maxL := 4) (ret := some .int) (own := RX4) (by decide) rfl rfl mW_ok (Nat.le_of_ble_eq_true rfl) ?_
  intro p e s m below meth c hX hsz hK hP hD hA hE hS hR ls hl
  have hx := hX.1
  have hb := hX.2.1
  have hl : lv_has ls 4 [(0, .ref o), (1, .int (iI (P))), (2, .int (iI (P2)))] := hl
  have hg := hgo.1
  refine lv_aload_n hx hb dX4_netPair_0 rfl (lv_at hl 0 rfl) ?_
  refine lv_iload_n hx hb dX4_netPair_1 rfl (lv_at hl 1 rfl) ?_
  refine lv_iload_n hx hb dX4_netPair_2 rfl (lv_at hl 2 rfl) ?_
  refine m_calli (As := [.int (iI (P)), .int (iI (P2))]) (rest := []) hZ hX hK hD hA hE hP hS (c_areNone hZ (σ) _ (P) (P2) (by omega) (by omega) hg) (cwV 2 hX.hts (lw_V q2014 q2016 qs46 q89 q2017) rfl rfl rfl (by decide +kernel) ⟨Nat.le_of_ble_eq_true rfl, Nat.le_of_ble_eq_true rfl⟩) rfl hl.1 (lv_room (Nat.le_of_ble_eq_true rfl)) dX4_netPair_3 ⟨Nat.le_refl _, Nat.le_refl _⟩ rfl (fun  H locs hP hS => ?_)
  refine z_if_neB (tgt := 26) hX dX4_netPair_6 (by decide) (fun c_6 => ?_) (fun c_6 => ?_)
  · skip
    refine z_iconst hX dX4_netPair_26 ?_
    exact w_iret hX hP hS (by first | exact oR_f (by unfold cPair; rw [if_pos c_6, bI_t c_6]) (by rw [bI_t c_6]; decide) | exact oR_f (by unfold cPair; rw [if_neg (fun h => h c_6), if_pos c_12]) (by decide)) dX4_netPair_27
  · skip
    have c_6 : mIs (σ 0) P ∧ mIs (σ 0) P2 := Decidable.of_not_not c_6
    have c_6' : (0 ≤ P ∧ P ≤ σ 0 0 - 1) ∧ 0 ≤ P2 ∧ P2 ≤ σ 0 0 - 1 := c_6
    have hd := hgo.2.2.1 P.toNat P2.toNat (by omega) (by omega)
    have hd2 := hgo.2.2.1 P2.toNat P.toNat (by omega) (by omega)
    have hc := hgo.2.1 P.toNat (by omega)
    refine lv_aload_n hx hb dX4_netPair_9 rfl (lv_at hl 0 rfl) ?_
    refine lv_iload_n hx hb dX4_netPair_10 rfl (lv_at hl 1 rfl) ?_
    refine W.eq (g2 := F0 m 11 ls [.int (iI (P)), .ref o]) rfl ?_
    refine lv_iload_n hx hb dX4_netPair_11 rfl (lv_at hl 2 rfl) ?_
    refine z_icmp_ne (tgt := 19) hX (by omega) dX4_netPair_12 (by decide) (fun c_12 => ?_) (fun c_12 => ?_)
    · skip
      refine z_iconst hX dX4_netPair_19 ?_
      refine m_calli (As := [.int (iI (0))]) (rest := []) hZ hX hK hD hA hE hP hS (c_fails hZ (uA σ 8 0 (bI (¬ (mIs (σ 0) P ∧ mIs (σ 0) P2)))) _ (0) (by omega)) (cwV 1 hX.hts (lw_V q1987 q1989 qs42 q89 q1990) rfl rfl rfl (by decide +kernel) ⟨Nat.le_of_ble_eq_true rfl, Nat.le_of_ble_eq_true rfl⟩) rfl hl.1 (lv_room (Nat.le_of_ble_eq_true rfl)) dX4_netPair_20 ⟨Nat.le_refl _, Nat.le_refl _⟩ rfl (fun  H locs hP hS => ?_)
      rw [show uA (uA σ 8 0 (bI (¬ (mIs (σ 0) P ∧ mIs (σ 0) P2)))) 8 0 0 = uA σ 8 0 0 from uA_uA] at hP
      refine z_if_eqB (tgt := 28) hX dX4_netPair_23 (by decide) (fun h9 => ?_) (fun h9 => absurd h9 (by decide))
      refine lv_aload_n hx hb dX4_netPair_28 rfl (lv_at hl 0 rfl) ?_
      refine lv_iload_n hx hb dX4_netPair_29 rfl (lv_at hl 1 rfl) ?_
      refine lv_iload_n hx hb dX4_netPair_30 rfl (lv_at hl 2 rfl) ?_
      refine m_calli (As := [.int (iI (P)), .int (iI (P2))]) (rest := []) hZ hX hK hD hA hE hP hS (c_owes hZ (uA σ 8 0 0) _ P.toNat P2.toNat _ _ (by omega) (by omega)) (cwV 2 hX.hts (lw_V q2018 q2020 qs47 q89 q2021) rfl rfl rfl (by decide +kernel) ⟨Nat.le_of_ble_eq_true rfl, Nat.le_of_ble_eq_true rfl⟩) rfl hl.1 (lv_room (Nat.le_of_ble_eq_true rfl)) dX4_netPair_31 ⟨Nat.le_refl _, Nat.le_refl _⟩ rfl (fun  H locs hP hS => ?_)
      refine z_top (y := σ 0 (12 + 7 * P.toNat + P2.toNat)) (by rw [uA_nj (by decide)]) ?_
      refine lv_aload_n hx hb dX4_netPair_34 rfl (lv_at hl 0 rfl) ?_
      refine W.eq (g2 := F0 m 35 ls [.ref o, .int (iI (σ 0 (12 + 7 * P.toNat + P2.toNat)))]) rfl ?_
      refine lv_iload_n hx hb dX4_netPair_35 rfl (lv_at hl 2 rfl) ?_
      refine lv_iload_n hx hb dX4_netPair_36 rfl (lv_at hl 1 rfl) ?_
      refine m_calli (As := [.int (iI (P2)), .int (iI (P))]) (rest := [.int (iI (σ 0 (12 + 7 * P.toNat + P2.toNat)))]) hZ hX hK hD hA hE hP hS (c_owes hZ (uA σ 8 0 0) _ P2.toNat P.toNat _ _ (by omega) (by omega)) (cwV 2 hX.hts (lw_V q2018 q2020 qs47 q89 q2021) rfl rfl rfl (by decide +kernel) ⟨Nat.le_of_ble_eq_true rfl, Nat.le_of_ble_eq_true rfl⟩) rfl hl.1 (lv_room (Nat.le_of_ble_eq_true rfl)) dX4_netPair_37 ⟨Nat.le_refl _, Nat.le_refl _⟩ rfl (fun  H locs hP hS => ?_)
      refine z_top (y := σ 0 (12 + 7 * P2.toNat + P.toNat)) (by rw [uA_nj (by decide)]) ?_
      refine p_callSi (As := [.int (iI (σ 0 (12 + 7 * P.toNat + P2.toNat))), .int (iI (σ 0 (12 + 7 * P2.toNat + P.toNat)))]) (rest := []) hZ hX hK hA hE hP hS (c_least hZ _ (σ 0 (12 + 7 * P.toNat + P2.toNat)) (σ 0 (12 + 7 * P2.toNat + P.toNat)) (by omega)) (va_cwS 2 hX.hts (lw_S q2034 q2035 q89 q2036) rfl rfl rfl (by decide +kernel) ⟨Nat.le_of_ble_eq_true rfl, Nat.le_of_ble_eq_true rfl⟩) rfl hl.1 (lv_room (Nat.le_of_ble_eq_true rfl)) dX4_netPair_40 ⟨Nat.le_refl _, Nat.le_refl _⟩ rfl (fun  H locs hP hS => ?_)
      refine lv_istore_n (lv' := [(3, .int (iI (min (σ 0 (12 + 7 * P.toNat + P2.toNat)) (σ 0 (12 + 7 * P2.toNat + P.toNat))))), (0, .ref o), (1, .int (iI (P))), (2, .int (iI (P2)))]) hx hb dX4_netPair_43 rfl hl (by decide) rfl (fun ls hl => ?_)
      refine lv_aload_n hx hb dX4_netPair_44 rfl (lv_at hl 1 rfl) ?_
      refine lv_aload_n hx hb dX4_netPair_45 rfl (lv_at hl 1 rfl) ?_
      refine m_get hX hK hP 0 (by decide) q1908 rfl dX4_netPair_46 ?_
      refine m_callv (As := [.ref (ad 0)]) (rest := []) hZ hX hK hD hA hE hP hS (c_keeps hZ (uA σ 8 0 0) _ _ 0 _ (fun _ => mW_e0) (by decide) (by decide) (by decide) n6 (by rw [uA_nj (by decide)]; exact h6) (by rw [uA_nj (by decide)]; exact h7)) (cwV 1 hX.hts (lw_V q1991 q1993 qs43 q89 q1994) rfl rfl rfl (by decide +kernel) ⟨Nat.le_of_ble_eq_true rfl, Nat.le_of_ble_eq_true rfl⟩) rfl hl.1 (lv_room (Nat.le_of_ble_eq_true rfl)) dX4_netPair_49 ⟨Nat.le_refl _, Nat.le_refl _⟩ rfl (fun  H locs hP hS => ?_)
      rw [show kF 0 (uA σ 8 0 0) n6 = kF 0 σ n6 from kF_u8 (by decide)] at hP
      refine lv_aload_n hx hb dX4_netPair_52 rfl (lv_at hl 1 rfl) ?_
      refine W.eq (g2 := F0 m 53 ls [.ref o]) rfl ?_
      refine m_get hX hK hP 0 (by decide) q1908 rfl dX4_netPair_53 ?_
      refine z_bipush hX dX4_netPair_56 (by decide) ?_
      refine z_bipush hX dX4_netPair_58 (by decide) ?_
      refine lv_iload_n hx hb dX4_netPair_60 rfl (lv_at hl 2 rfl) ?_
      refine z_imul hX dX4_netPair_61 ?_
      refine z_iadd hX dX4_netPair_62 ?_
      refine lv_iload_n hx hb dX4_netPair_63 rfl (lv_at hl 3 rfl) ?_
      refine z_iadd hX dX4_netPair_64 ?_
      refine lv_dup2_11 hx hb dX4_netPair_65 rfl rfl ?_
      refine m_ld hX hK hP mW_e0 (12 + 7 * P.toNat + P2.toNat) (by omega) (by decide) dX4_netPair_66 ?_
      refine z_top (y := σ 0 (12 + 7 * P.toNat + P2.toNat)) (by rw [kF_i (by decide) (by decide) (by decide)]) ?_
      refine W.eq (g2 := F0 m 67 ls [.int (iI (σ 0 (12 + 7 * P.toNat + P2.toNat))), .int (iI ((12 + (7 * P)) + P2)), .ref (ad 0)]) rfl ?_
      refine lv_iload_n hx hb dX4_netPair_67 rfl (lv_at hl 0 rfl) ?_
      refine z_isub hX dX4_netPair_68 ?_
      refine m_st hX hK hD hP hS mW_e0 (12 + 7 * P.toNat + P2.toNat) mW_s0 (by omega) (by decide) dX4_netPair_69 (fun H locs hP hS => ?_)
      rw [show uA (kF 0 σ n6) 0 (12 + 7 * P.toNat + P2.toNat) ((σ 0 (12 + 7 * P.toNat + P2.toNat)) - (min (σ 0 (12 + 7 * P.toNat + P2.toNat)) (σ 0 (12 + 7 * P2.toNat + P.toNat)))) = sA (kF 0 σ n6) 0 (gU (σ 0) (12 + 7 * P.toNat + P2.toNat) ((σ 0 (12 + 7 * P.toNat + P2.toNat)) - (min (σ 0 (12 + 7 * P.toNat + P2.toNat)) (σ 0 (12 + 7 * P2.toNat + P.toNat))))) from by rw [uA_sA, kF_i (by decide) (by decide) (by decide)]] at hP
      refine lv_aload_n hx hb dX4_netPair_70 rfl (lv_at hl 1 rfl) ?_
      refine m_get hX hK hP 0 (by decide) q1908 rfl dX4_netPair_71 ?_
      refine z_bipush hX dX4_netPair_74 (by decide) ?_
      refine z_bipush hX dX4_netPair_76 (by decide) ?_
      refine lv_iload_n hx hb dX4_netPair_78 rfl (lv_at hl 3 rfl) ?_
      refine z_imul hX dX4_netPair_79 ?_
      refine z_iadd hX dX4_netPair_80 ?_
      refine W.eq (g2 := F0 m 81 ls [.int (iI (12 + (7 * P2))), .ref (ad 0)]) rfl ?_
      refine lv_iload_n hx hb dX4_netPair_81 rfl (lv_at hl 2 rfl) ?_
      refine z_iadd hX dX4_netPair_82 ?_
      refine lv_dup2_11 hx hb dX4_netPair_83 rfl rfl ?_
      refine m_ld hX hK hP mW_e0 (12 + 7 * P2.toNat + P.toNat) (by omega) (by decide) dX4_netPair_84 ?_
      refine z_top (y := (gU (σ 0) (12 + 7 * P.toNat + P2.toNat) ((σ 0 (12 + 7 * P.toNat + P2.toNat)) - (min (σ 0 (12 + 7 * P.toNat + P2.toNat)) (σ 0 (12 + 7 * P2.toNat + P.toNat))))) (12 + 7 * P2.toNat + P.toNat)) (by rw [sA_j]) ?_
      refine lv_iload_n hx hb dX4_netPair_85 rfl (lv_at hl 0 rfl) ?_
      refine z_isub hX dX4_netPair_86 ?_
      refine m_st hX hK hD hP hS mW_e0 (12 + 7 * P2.toNat + P.toNat) mW_s0 (by omega) (by decide) dX4_netPair_87 (fun H locs hP hS => ?_)
      rw [show uA (sA (kF 0 σ n6) 0 (gU (σ 0) (12 + 7 * P.toNat + P2.toNat) ((σ 0 (12 + 7 * P.toNat + P2.toNat)) - (min (σ 0 (12 + 7 * P.toNat + P2.toNat)) (σ 0 (12 + 7 * P2.toNat + P.toNat)))))) 0 (12 + 7 * P2.toNat + P.toNat) (((gU (σ 0) (12 + 7 * P.toNat + P2.toNat) ((σ 0 (12 + 7 * P.toNat + P2.toNat)) - (min (σ 0 (12 + 7 * P.toNat + P2.toNat)) (σ 0 (12 + 7 * P2.toNat + P.toNat))))) (12 + 7 * P2.toNat + P.toNat)) - (min (σ 0 (12 + 7 * P.toNat + P2.toNat)) (σ 0 (12 + 7 * P2.toNat + P.toNat)))) = sA (kF 0 σ n6) 0 (gU (gU (σ 0) (12 + 7 * P.toNat + P2.toNat) ((σ 0 (12 + 7 * P.toNat + P2.toNat)) - (min (σ 0 (12 + 7 * P.toNat + P2.toNat)) (σ 0 (12 + 7 * P2.toNat + P.toNat))))) (12 + 7 * P2.toNat + P.toNat) (((gU (σ 0) (12 + 7 * P.toNat + P2.toNat) ((σ 0 (12 + 7 * P.toNat + P2.toNat)) - (min (σ 0 (12 + 7 * P.toNat + P2.toNat)) (σ 0 (12 + 7 * P2.toNat + P.toNat))))) (12 + 7 * P2.toNat + P.toNat)) - (min (σ 0 (12 + 7 * P.toNat + P2.toNat)) (σ 0 (12 + 7 * P2.toNat + P.toNat))))) from uA_in] at hP
      refine lv_aload_n hx hb dX4_netPair_88 rfl (lv_at hl 1 rfl) ?_
      refine m_get hX hK hP 0 (by decide) q1908 rfl dX4_netPair_89 ?_
      refine z_iconst hX dX4_netPair_92 ?_
      refine W.eq (g2 := F0 m 93 ls [.int (iI (2)), .ref (ad 0)]) rfl ?_
      refine lv_dup2_11 hx hb dX4_netPair_93 rfl rfl ?_
      refine m_ld hX hK hP mW_e0 2 (by decide) (by decide) dX4_netPair_94 ?_
      refine z_top (y := (gU (gU (σ 0) (12 + 7 * P.toNat + P2.toNat) ((σ 0 (12 + 7 * P.toNat + P2.toNat)) - (min (σ 0 (12 + 7 * P.toNat + P2.toNat)) (σ 0 (12 + 7 * P2.toNat + P.toNat))))) (12 + 7 * P2.toNat + P.toNat) (((gU (σ 0) (12 + 7 * P.toNat + P2.toNat) ((σ 0 (12 + 7 * P.toNat + P2.toNat)) - (min (σ 0 (12 + 7 * P.toNat + P2.toNat)) (σ 0 (12 + 7 * P2.toNat + P.toNat))))) (12 + 7 * P2.toNat + P.toNat)) - (min (σ 0 (12 + 7 * P.toNat + P2.toNat)) (σ 0 (12 + 7 * P2.toNat + P.toNat))))) 2) (by rw [sA_j]) ?_
      refine z_iconst hX dX4_netPair_95 ?_
      refine lv_iload_n hx hb dX4_netPair_96 rfl (lv_at hl 0 rfl) ?_
      refine z_imul hX dX4_netPair_97 ?_
      refine z_iadd hX dX4_netPair_98 ?_
      refine m_st hX hK hD hP hS mW_e0 2 mW_s0 (by decide) (by decide) dX4_netPair_99 (fun H locs hP hS => ?_)
      rw [show uA (sA (kF 0 σ n6) 0 (gU (gU (σ 0) (12 + 7 * P.toNat + P2.toNat) ((σ 0 (12 + 7 * P.toNat + P2.toNat)) - (min (σ 0 (12 + 7 * P.toNat + P2.toNat)) (σ 0 (12 + 7 * P2.toNat + P.toNat))))) (12 + 7 * P2.toNat + P.toNat) (((gU (σ 0) (12 + 7 * P.toNat + P2.toNat) ((σ 0 (12 + 7 * P.toNat + P2.toNat)) - (min (σ 0 (12 + 7 * P.toNat + P2.toNat)) (σ 0 (12 + 7 * P2.toNat + P.toNat))))) (12 + 7 * P2.toNat + P.toNat)) - (min (σ 0 (12 + 7 * P.toNat + P2.toNat)) (σ 0 (12 + 7 * P2.toNat + P.toNat)))))) 0 2 (((gU (gU (σ 0) (12 + 7 * P.toNat + P2.toNat) ((σ 0 (12 + 7 * P.toNat + P2.toNat)) - (min (σ 0 (12 + 7 * P.toNat + P2.toNat)) (σ 0 (12 + 7 * P2.toNat + P.toNat))))) (12 + 7 * P2.toNat + P.toNat) (((gU (σ 0) (12 + 7 * P.toNat + P2.toNat) ((σ 0 (12 + 7 * P.toNat + P2.toNat)) - (min (σ 0 (12 + 7 * P.toNat + P2.toNat)) (σ 0 (12 + 7 * P2.toNat + P.toNat))))) (12 + 7 * P2.toNat + P.toNat)) - (min (σ 0 (12 + 7 * P.toNat + P2.toNat)) (σ 0 (12 + 7 * P2.toNat + P.toNat))))) 2) + (2 * (min (σ 0 (12 + 7 * P.toNat + P2.toNat)) (σ 0 (12 + 7 * P2.toNat + P.toNat))))) = sA (kF 0 σ n6) 0 (gU (gU (gU (σ 0) (12 + 7 * P.toNat + P2.toNat) ((σ 0 (12 + 7 * P.toNat + P2.toNat)) - (min (σ 0 (12 + 7 * P.toNat + P2.toNat)) (σ 0 (12 + 7 * P2.toNat + P.toNat))))) (12 + 7 * P2.toNat + P.toNat) (((gU (σ 0) (12 + 7 * P.toNat + P2.toNat) ((σ 0 (12 + 7 * P.toNat + P2.toNat)) - (min (σ 0 (12 + 7 * P.toNat + P2.toNat)) (σ 0 (12 + 7 * P2.toNat + P.toNat))))) (12 + 7 * P2.toNat + P.toNat)) - (min (σ 0 (12 + 7 * P.toNat + P2.toNat)) (σ 0 (12 + 7 * P2.toNat + P.toNat))))) 2 (((gU (gU (σ 0) (12 + 7 * P.toNat + P2.toNat) ((σ 0 (12 + 7 * P.toNat + P2.toNat)) - (min (σ 0 (12 + 7 * P.toNat + P2.toNat)) (σ 0 (12 + 7 * P2.toNat + P.toNat))))) (12 + 7 * P2.toNat + P.toNat) (((gU (σ 0) (12 + 7 * P.toNat + P2.toNat) ((σ 0 (12 + 7 * P.toNat + P2.toNat)) - (min (σ 0 (12 + 7 * P.toNat + P2.toNat)) (σ 0 (12 + 7 * P2.toNat + P.toNat))))) (12 + 7 * P2.toNat + P.toNat)) - (min (σ 0 (12 + 7 * P.toNat + P2.toNat)) (σ 0 (12 + 7 * P2.toNat + P.toNat))))) 2) + (2 * (min (σ 0 (12 + 7 * P.toNat + P2.toNat)) (σ 0 (12 + 7 * P2.toNat + P.toNat)))))) from uA_in] at hP
      refine lv_iload_n hx hb dX4_netPair_100 rfl (lv_at hl 0 rfl) ?_
      exact w_iret hX hP hS (oR_t (by unfold cPair; rw [if_neg (fun h => h c_6), if_neg c_12])) dX4_netPair_101
    · skip
      refine z_iconst hX dX4_netPair_15 ?_
      refine lv_goto (tgt := 20) hx hb dX4_netPair_16 (by decide) ?_
      refine m_calli (As := [.int (iI (2))]) (rest := []) hZ hX hK hD hA hE hP hS (c_fails hZ (uA σ 8 0 (bI (¬ (mIs (σ 0) P ∧ mIs (σ 0) P2)))) _ (2) (by omega)) (cwV 1 hX.hts (lw_V q1987 q1989 qs42 q89 q1990) rfl rfl rfl (by decide +kernel) ⟨Nat.le_of_ble_eq_true rfl, Nat.le_of_ble_eq_true rfl⟩) rfl hl.1 (lv_room (Nat.le_of_ble_eq_true rfl)) dX4_netPair_20 ⟨Nat.le_refl _, Nat.le_refl _⟩ rfl (fun  H locs hP hS => ?_)
      rw [show uA (uA σ 8 0 (bI (¬ (mIs (σ 0) P ∧ mIs (σ 0) P2)))) 8 0 2 = uA σ 8 0 2 from uA_uA] at hP
      refine z_if_eqB (tgt := 28) hX dX4_netPair_23 (by decide) (fun h9 => absurd h9 (by decide)) (fun h9 => ?_)
      refine z_iconst hX dX4_netPair_26 ?_
      exact w_iret hX hP hS (by first | exact oR_f (by unfold cPair; rw [if_pos c_6, bI_t c_6]) (by rw [bI_t c_6]; decide) | exact oR_f (by unfold cPair; rw [if_neg (fun h => h c_6), if_pos c_12]) (by decide)) dX4_netPair_27
