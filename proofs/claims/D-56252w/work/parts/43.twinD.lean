/-! the twin: written texts, undo, save, restore -/
set_option maxRecDepth 100000
set_option maxHeartbeats 4000000 in
theorem c_writeParty {l : Launch} {D : va_G} {Z : zZ} {o : Nat} {ad : Nat → Nat} {cA : Nat → ClassId} (hZ : zOk Z) (σ : zT) (sz : Nat) (P : Int) (hP0 : (-2147483648 ≤ P ∧ P ≤ 2147483647)) (B : Int) (hgo : gOk (σ 0) B) (hB : B ≤ 2000000) : MI l D Z o ad cA yX4_writeParty (ws_ yX4_writeParty cX4_writeParty 3 (some .int)) { frames := 12, cells := 0, slots := 0, locals := 253 } [.ref o, .int (iI (P))] sz (σ) (fR ((wpR σ P))) := by
  refine w_met (cc := cX4_writeParty) (maxL := 3) (ret := some .int) (own := RX4) (by decide) rfl rfl mW_ok (Nat.le_of_ble_eq_true rfl) ?_
  intro p e s m below meth c hX hsz hK hP hD hA hE hS hR ls hl
  have hx := hX.1
  have hb := hX.2.1
  have hl : lv_has ls 3 [(0, .ref o), (1, .int (iI (P)))] := hl
  have hg := hgo.1
  refine lv_aload_n hx hb dX4_writeParty_0 rfl (lv_at hl 0 rfl) ?_
  refine lv_iload_n hx hb dX4_writeParty_1 rfl (lv_at hl 1 rfl) ?_
  refine m_calli (As := [.int (iI (P))]) (rest := []) hZ hX hK hD hA hE hP hS (c_isNone hZ (σ) _ (P) (by omega) hg) (cwV 1 hX.hts (lw_V q2002 q2004 qs44 q89 q2005) rfl rfl rfl (by decide +kernel) ⟨Nat.le_of_ble_eq_true rfl, Nat.le_of_ble_eq_true rfl⟩) rfl hl.1 (lv_room (Nat.le_of_ble_eq_true rfl)) dX4_writeParty_2 ⟨Nat.le_refl _, Nat.le_refl _⟩ rfl (fun  H locs hP hS => ?_)
  refine z_if_eqB (tgt := 10) hX dX4_writeParty_5 (by decide) (fun c_5 => ?_) (fun c_5 => ?_)
  · skip
    have c_5 : mIs (σ 0) P := Decidable.of_not_not c_5
    have c_5' : 0 ≤ P ∧ P ≤ σ 0 0 - 1 := c_5
    have hcs := hgo.2.1 P.toNat (by omega)
    have hlc := decL_len 9 7 (σ 0 (5 + P.toNat)).toNat (by decide) (by omega)
    have hlp := decL_len 9 1 P.toNat (by decide) (by omega)
    refine lv_aload_n hx hb dX4_writeParty_10 rfl (lv_at hl 0 rfl) ?_
    refine z_iconst hX dX4_writeParty_11 ?_
    refine m_put hX hK hD hP hS 14 (by decide) q1922 rfl rfl rfl mW_f14 dX4_writeParty_12 (fun H locs hP hS => ?_)
    rw [show uA (uA σ 8 0 (bI (¬ mIs (σ 0) P))) 14 0 0 = uA (uA σ 8 0 0) 14 0 0 from by rw [bI_f (P := ¬ mIs (σ 0) P) (fun h => h c_5)]] at hP
    refine lv_aload_n hx hb dX4_writeParty_15 rfl (lv_at hl 0 rfl) ?_
    refine lv_iload_n hx hb dX4_writeParty_16 rfl (lv_at hl 1 rfl) ?_
    refine W.eq (g2 := F0 m 17 ls [.int (iI (P)), .ref o]) rfl ?_
    refine m_callv (As := [.int (iI (P))]) (rest := []) hZ hX hK hD hA hE hP hS (c_writesNumber hZ 9 (uA (uA σ 8 0 0) 14 0 0) _ P.toNat _ (by omega) (by omega) (by omega) 0 ⟨by rw [uA_eq]; rfl, by omega⟩) (cwV 1 hX.hts (lw_V q2323 q2325 qs76 q89 q2326) rfl rfl rfl (by decide +kernel) ⟨Nat.le_of_ble_eq_true rfl, Nat.le_of_ble_eq_true rfl⟩) rfl hl.1 (lv_room (Nat.le_of_ble_eq_true rfl)) dX4_writeParty_17 ⟨Nat.le_refl _, Nat.le_refl _⟩ rfl (fun  H locs hP hS => ?_)
    refine lv_aload_n hx hb dX4_writeParty_20 rfl (lv_at hl 0 rfl) ?_
    refine z_bipush hX dX4_writeParty_21 (by decide) ?_
    refine lv_aload_n hx hb dX4_writeParty_23 rfl (lv_at hl 0 rfl) ?_
    refine m_get hX hK hP 0 (by decide) q1908 rfl dX4_writeParty_24 ?_
    refine z_iconst hX dX4_writeParty_27 ?_
    refine lv_iload_n hx hb dX4_writeParty_28 rfl (lv_at hl 1 rfl) ?_
    refine z_iadd hX dX4_writeParty_29 ?_
    refine m_ld hX hK hP mW_e0 (5 + P.toNat) (by omega) (by decide) dX4_writeParty_30 ?_
    refine z_top (y := σ 0 (5 + P.toNat)) (by rw [wrL_i (by decide) (by decide), uA_nj (by decide), uA_nj (by decide)]) ?_
    refine m_callv (As := [.int (iI (36)), .int (iI (σ 0 (5 + P.toNat)))]) (rest := []) hZ hX hK hD hA hE hP hS (c_writesBehind hZ (wrL (uA (uA σ 8 0 0) 14 0 0) (decL 9 P.toNat)) _ 36 ((σ 0 (5 + P.toNat)).toNat) ((decL 9 P.toNat).length) (by decide) _ _ (by first | rfl | omega) (by first | rfl | omega) (by omega) ⟨by rw [wrL_14, uA_eq]; omega, by omega⟩) (cwV 2 hX.hts (lw_V q2331 q2333 qs78 q89 q2334) rfl rfl rfl (by decide +kernel) ⟨Nat.le_of_ble_eq_true rfl, Nat.le_of_ble_eq_true rfl⟩) rfl hl.1 (lv_room (Nat.le_of_ble_eq_true rfl)) dX4_writeParty_31 ⟨Nat.le_refl _, Nat.le_refl _⟩ rfl (fun  H locs hP hS => ?_)
    rw [show wrL (wrL (uA (uA σ 8 0 0) 14 0 0) (decL 9 P.toNat)) (36 :: decL 9 ((σ 0 (5 + P.toNat)).toNat)) = wrL (uA (uA σ 8 0 0) 14 0 0) (tpF (σ 0) P.toNat 0) from by rw [wrL_app]; rfl] at hP
    refine W.eq (g2 := F0 m 34 ls []) rfl ?_
    refine z_iconst hX dX4_writeParty_34 ?_
    refine z_top (y := ↑(0 : Nat)) (rfl) ?_
    refine lv_istore_n (lv' := [(2, .int (iI (↑(0 : Nat)))), (0, .ref o), (1, .int (iI (P)))]) hx hb dX4_writeParty_35 rfl hl (by decide) rfl (fun ls hl => ?_)
    have L36 : ∀ (n : Nat) (k : Nat), (7 < k + n) → (k ≤ 7) → ∀ (H : Heap) (locs : List Loc) (ls : Array Slot), va_P D vwCl (mW o ad cA (wrL (uA (uA σ 8 0 0) 14 0 0) (tpF (σ 0) P.toNat k))) H → va_S (wA (mW o ad cA) sz) s.heap H locs → lv_has ls 3 [(0, .ref o), (1, .int (iI (P))), (2, .int (iI (↑k)))] → W p l e (headSpec (ws_ yX4_writeParty cX4_writeParty 3 (some .int)) { frames := 12, cells := 0, slots := 0, locals := 253 }).room s m ([.ref o, .int (iI (P))] : List Value).toArray below meth c H locs 0 0 (MQ below (wQi D vwCl (mW o ad cA) (fR ((wpR σ P))) sz) ([.ref o, .int (iI (P))] : List Value).toArray s 0 0 (wA (mW o ad cA) sz)) (F0 m 36 ls []) := by
      intro n
      induction n with
      | zero =>
        intro k hf hk H locs ls hP hS hl
        exact absurd hf (by omega)
      | succ n ih36 =>
        intro k hf hk H locs ls hP hS hl
        refine lv_iload_n hx hb dX4_writeParty_36 rfl (lv_at hl 2 rfl) ?_
        refine z_bipush hX dX4_writeParty_37 (by decide) ?_
        refine z_icmp_ge (tgt := 79) hX (by omega) dX4_writeParty_39 (by decide) (fun c_39 => ?_) (fun c_39 => ?_)
        · skip
          obtain rfl : k = 7 := by omega
          refine lv_aload_n hx hb dX4_writeParty_79 rfl (lv_at hl 0 rfl) ?_
          refine m_get hX hK hP 14 (by decide) q1922 rfl dX4_writeParty_80 ?_
          exact w_iret hX hP hS (⟨_, rfl, Or.inr ⟨c_5, by rw [wrL_14, uA_eq]; omega, rfl⟩⟩) dX4_writeParty_83
        · skip
          have hlk := tpF_len hgo hB (p := P.toNat) (by omega) k hk
          have hde := hgo.2.2.1 P.toNat k (by omega) (by omega)
          have hl1 := decL_len 9 1 k (by decide) (by omega)
          have hl3 := decL_len 9 3 (σ 0 (12 + 7 * P.toNat + k)).toNat (by decide) (by omega)
          refine lv_aload_n hx hb dX4_writeParty_42 rfl (lv_at hl 0 rfl) ?_
          refine lv_iload_n hx hb dX4_writeParty_43 rfl (lv_at hl 1 rfl) ?_
          refine W.eq (g2 := F0 m 44 ls [.int (iI (P)), .ref o]) rfl ?_
          refine lv_iload_n hx hb dX4_writeParty_44 rfl (lv_at hl 2 rfl) ?_
          refine m_calli (As := [.int (iI (P)), .int (iI (↑k))]) (rest := []) hZ hX hK hD hA hE hP hS (c_owes hZ (wrL (uA (uA σ 8 0 0) 14 0 0) (tpF (σ 0) P.toNat k)) _ P.toNat k _ _ (by omega) ⟨rfl, by omega⟩) (cwV 2 hX.hts (lw_V q2018 q2020 qs47 q89 q2021) rfl rfl rfl (by decide +kernel) ⟨Nat.le_of_ble_eq_true rfl, Nat.le_of_ble_eq_true rfl⟩) rfl hl.1 (lv_room (Nat.le_of_ble_eq_true rfl)) dX4_writeParty_45 ⟨Nat.le_refl _, Nat.le_refl _⟩ rfl (fun  H locs hP hS => ?_)
          refine z_top (y := σ 0 (12 + 7 * P.toNat + k)) (by rw [wrL_i (by decide) (by decide), uA_nj (by decide), uA_nj (by decide)]) ?_
          refine z_if_ne (tgt := 54) hX (by omega) dX4_writeParty_48 (by decide) (fun c_48 => ?_) (fun c_48 => ?_)
          · skip
            refine lv_aload_n hx hb dX4_writeParty_54 rfl (lv_at hl 0 rfl) ?_
            refine z_bipush hX dX4_writeParty_55 (by decide) ?_
            refine lv_iload_n hx hb dX4_writeParty_57 rfl (lv_at hl 2 rfl) ?_
            refine m_callv (As := [.int (iI (62)), .int (iI (↑k))]) (rest := []) hZ hX hK hD hA hE hP hS (c_writesBehind hZ (wrL (uA (uA σ 8 0 0) 14 0 0) (tpF (σ 0) P.toNat k)) _ 62 (k) ((tpF (σ 0) P.toNat k).length) (by decide) _ _ (by first | rfl | omega) (by first | rfl | omega) (by omega) ⟨by rw [wrL_14, uA_eq]; omega, by omega⟩) (cwV 2 hX.hts (lw_V q2331 q2333 qs78 q89 q2334) rfl rfl rfl (by decide +kernel) ⟨Nat.le_of_ble_eq_true rfl, Nat.le_of_ble_eq_true rfl⟩) rfl hl.1 (lv_room (Nat.le_of_ble_eq_true rfl)) dX4_writeParty_58 ⟨Nat.le_refl _, Nat.le_refl _⟩ rfl (fun  H locs hP hS => ?_)
            rw [show wrL (wrL (uA (uA σ 8 0 0) 14 0 0) (tpF (σ 0) P.toNat k)) (62 :: decL 9 (k)) = wrL (uA (uA σ 8 0 0) 14 0 0) (tpF (σ 0) P.toNat k ++ (62 :: decL 9 k)) from wrL_app] at hP
            refine lv_aload_n hx hb dX4_writeParty_61 rfl (lv_at hl 0 rfl) ?_
            refine z_bipush hX dX4_writeParty_62 (by decide) ?_
            refine lv_aload_n hx hb dX4_writeParty_64 rfl (lv_at hl 0 rfl) ?_
            refine W.eq (g2 := F0 m 65 ls [.ref o, .int (iI (61)), .ref o]) rfl ?_
            refine lv_iload_n hx hb dX4_writeParty_65 rfl (lv_at hl 1 rfl) ?_
            refine lv_iload_n hx hb dX4_writeParty_66 rfl (lv_at hl 2 rfl) ?_
            refine m_calli (As := [.int (iI (P)), .int (iI (↑k))]) (rest := [.int (iI (61)), .ref o]) hZ hX hK hD hA hE hP hS (c_owes hZ (wrL (uA (uA σ 8 0 0) 14 0 0) (tpF (σ 0) P.toNat k ++ (62 :: decL 9 k))) _ P.toNat k _ _ (by omega) ⟨rfl, by omega⟩) (cwV 2 hX.hts (lw_V q2018 q2020 qs47 q89 q2021) rfl rfl rfl (by decide +kernel) ⟨Nat.le_of_ble_eq_true rfl, Nat.le_of_ble_eq_true rfl⟩) rfl hl.1 (lv_room (Nat.le_of_ble_eq_true rfl)) dX4_writeParty_67 ⟨Nat.le_refl _, Nat.le_refl _⟩ rfl (fun  H locs hP hS => ?_)
            refine z_top (y := σ 0 (12 + 7 * P.toNat + k)) (by rw [wrL_i (by decide) (by decide), uA_nj (by decide), uA_nj (by decide)]) ?_
            refine m_callv (As := [.int (iI (61)), .int (iI (σ 0 (12 + 7 * P.toNat + k)))]) (rest := []) hZ hX hK hD hA hE hP hS (c_writesBehind hZ (wrL (uA (uA σ 8 0 0) 14 0 0) (tpF (σ 0) P.toNat k ++ (62 :: decL 9 k))) _ 61 ((σ 0 (12 + 7 * P.toNat + k)).toNat) ((tpF (σ 0) P.toNat k ++ (62 :: decL 9 k)).length) (by decide) _ _ (by first | rfl | omega) (by first | rfl | omega) (by omega) ⟨by rw [wrL_14, uA_eq]; omega, by rw [List.length_append, List.length_cons]; omega⟩) (cwV 2 hX.hts (lw_V q2331 q2333 qs78 q89 q2334) rfl rfl rfl (by decide +kernel) ⟨Nat.le_of_ble_eq_true rfl, Nat.le_of_ble_eq_true rfl⟩) rfl hl.1 (lv_room (Nat.le_of_ble_eq_true rfl)) dX4_writeParty_70 ⟨Nat.le_refl _, Nat.le_refl _⟩ rfl (fun  H locs hP hS => ?_)
            rw [show wrL (wrL (uA (uA σ 8 0 0) 14 0 0) (tpF (σ 0) P.toNat k ++ (62 :: decL 9 k))) (61 :: decL 9 ((σ 0 (12 + 7 * P.toNat + k)).toNat)) = wrL (uA (uA σ 8 0 0) 14 0 0) (tpF (σ 0) P.toNat (k + 1)) from by rw [wrL_app]; exact congrArg _ (if_neg c_48).symm] at hP
            refine z_iinc (y := ↑(k + 1)) (lv' := [(2, .int (iI (↑(k + 1)))), (0, .ref o), (1, .int (iI (P)))]) hX dX4_writeParty_73 hl (k := 2) rfl (by omega) (by decide) rfl (fun ls hl => ?_)
            refine lv_goto (tgt := 36) hx hb dX4_writeParty_76 (by decide) ?_
            exact ih36 (k + 1) (by omega) (by omega) _ _ _ hP hS (lv_sub hl [1, 2, 0] rfl)
          · skip
            refine lv_goto (tgt := 73) hx hb dX4_writeParty_51 (by decide) ?_
            refine z_iinc (y := ↑(k + 1)) (lv' := [(2, .int (iI (↑(k + 1)))), (0, .ref o), (1, .int (iI (P)))]) hX dX4_writeParty_73 hl (k := 2) rfl (by omega) (by decide) rfl (fun ls hl => ?_)
            refine lv_goto (tgt := 36) hx hb dX4_writeParty_76 (by decide) ?_
            rw [show tpF (σ 0) P.toNat k = tpF (σ 0) P.toNat (k + 1) from (if_pos (by omega)).symm] at hP
            exact ih36 (k + 1) (by omega) (by omega) _ _ _ hP hS (lv_sub hl [1, 2, 0] rfl)
    exact L36 (8) (0) (by omega) (by omega) _ _ _ hP hS (lv_sub hl [1, 2, 0] rfl)
  · skip
    refine z_iconst hX dX4_writeParty_8 ?_
    refine W.eq (g2 := F0 m 9 ls [.int (iI (0))]) rfl ?_
    exact w_iret hX hP hS (⟨0, rfl, Or.inl ⟨c_5, rfl, by rw [bI_t c_5]⟩⟩) dX4_writeParty_9
set_option maxHeartbeats 4000000 in
theorem c_writeCycle {l : Launch} {D : va_G} {Z : zZ} {o : Nat} {ad : Nat → Nat} {cA : Nat → ClassId} (hZ : zOk Z) (σ : zT) (sz : Nat) (n0 : Nat) (hn : σ 0 0 = n0 ∧ n0 ≤ 7) (B : Int) (hgo : gOk (σ 0) B) : MI l D Z o ad cA yX4_writeCycle (ws_ yX4_writeCycle cX4_writeCycle 3 (some .int)) { frames := 12, cells := 0, slots := 0, locals := 253 } [.ref o] sz (σ) (fR ((wcR σ n0))) := by
  refine w_met (cc := cX4_writeCycle) (maxL := 3) (ret := some .int) (own := RX4) (by decide) rfl rfl mW_ok (Nat.le_of_ble_eq_true rfl) ?_
  intro p e s m below meth c hX hsz hK hP hD hA hE hS hR ls hl
  have hx := hX.1
  have hb := hX.2.1
  have hl : lv_has ls 3 [(0, .ref o)] := hl
  refine lv_aload_n hx hb dX4_writeCycle_0 rfl (lv_at hl 0 rfl) ?_
  refine m_callR (As := []) (rest := []) hZ hX hK hD hA hE hP hS (c_looks hZ (σ) _ n0 hn B hgo) (cwV 0 hX.hts (lw_V q2041 q2043 qs49 q89 q2044) rfl rfl rfl (by decide +kernel) ⟨Nat.le_of_ble_eq_true rfl, Nat.le_of_ble_eq_true rfl⟩) rfl hl.1 (lv_room (Nat.le_of_ble_eq_true rfl)) dX4_writeCycle_1 ⟨Nat.le_refl _, Nat.le_refl _⟩ rfl (fun z y H locs hq hP hS => ?_)
  obtain ⟨c1, hy2, hlc1⟩ := hq
  rw [hy2] at hP
  have hzc1 := lR_z (by omega) hlc1
  refine lv_istore_n (lv' := [(1, .int (iI (z))), (0, .ref o)]) hx hb dX4_writeCycle_4 rfl hl (by decide) rfl (fun ls hl => ?_)
  refine lv_aload_n hx hb dX4_writeCycle_5 rfl (lv_at hl 1 rfl) ?_
  refine lv_iload_n hx hb dX4_writeCycle_6 rfl (lv_at hl 0 rfl) ?_
  refine z_if_ne (tgt := 14) hX (by omega) dX4_writeCycle_7 (by decide) (fun c_7 => ?_) (fun c_7 => ?_)
  · skip
    obtain ⟨q, hlq, hlz, hla⟩ := lR_some hlc1 c_7
    have hqo := lookF_ok hlq
    have hq2 := hqo.2.1
    have hq3 := hqo.2.2.1
    have hqn := hqo.1.2.1 0 (by omega)
    have hl0 := decL_len 9 1 (qk q 0) (by decide) (by omega)
    refine z_iconst hX dX4_writeCycle_14 ?_
    refine m_calli (As := [.int (iI (0))]) (rest := []) hZ hX hK hD hA hE hP hS (c_fails hZ (sA σ 15 c1) _ (0) (by omega)) (cwV 1 hX.hts (lw_V q1987 q1989 qs42 q89 q1990) rfl rfl rfl (by decide +kernel) ⟨Nat.le_of_ble_eq_true rfl, Nat.le_of_ble_eq_true rfl⟩) rfl hl.1 (lv_room (Nat.le_of_ble_eq_true rfl)) dX4_writeCycle_15 ⟨Nat.le_refl _, Nat.le_refl _⟩ rfl (fun  H locs hP hS => ?_)
    refine z_if_eqB (tgt := 23) hX dX4_writeCycle_18 (by decide) (fun h9 => ?_) (fun h9 => absurd h9 (by decide))
    refine W.eq (g2 := F0 m 23 ls []) rfl ?_
    refine lv_aload_n hx hb dX4_writeCycle_23 rfl (lv_at hl 1 rfl) ?_
    refine z_iconst hX dX4_writeCycle_24 ?_
    refine m_put hX hK hD hP hS 14 (by decide) q1922 rfl rfl rfl mW_f14 dX4_writeCycle_25 (fun H locs hP hS => ?_)
    refine lv_aload_n hx hb dX4_writeCycle_28 rfl (lv_at hl 1 rfl) ?_
    refine lv_aload_n hx hb dX4_writeCycle_29 rfl (lv_at hl 1 rfl) ?_
    refine m_get hX hK hP 15 (by decide) q1923 rfl dX4_writeCycle_30 ?_
    refine z_iconst hX dX4_writeCycle_33 ?_
    refine m_ld hX hK hP mW_e15 0 (by decide) (by decide) dX4_writeCycle_34 ?_
    refine z_top (y := ↑(qk q 0)) (by rw [uA_nj (by decide), uA_nj (by decide), sA_j]; exact hla 0 (by omega)) ?_
    refine m_callv (As := [.int (iI (↑(qk q 0)))]) (rest := []) hZ hX hK hD hA hE hP hS (c_writesNumber hZ 9 (uA (uA (sA σ 15 c1) 8 0 0) 14 0 0) _ (qk q 0) _ rfl (by omega) (by omega) 0 ⟨by rw [uA_eq]; rfl, by omega⟩) (cwV 1 hX.hts (lw_V q2323 q2325 qs76 q89 q2326) rfl rfl rfl (by decide +kernel) ⟨Nat.le_of_ble_eq_true rfl, Nat.le_of_ble_eq_true rfl⟩) rfl hl.1 (lv_room (Nat.le_of_ble_eq_true rfl)) dX4_writeCycle_35 ⟨Nat.le_refl _, Nat.le_refl _⟩ rfl (fun  H locs hP hS => ?_)
    refine z_iconst hX dX4_writeCycle_38 ?_
    refine z_top (y := ↑(0 + 1)) (rfl) ?_
    refine W.eq (g2 := F0 m 39 ls [.int (iI (↑(0 + 1)))]) rfl ?_
    refine lv_istore_n (lv' := [(2, .int (iI (↑(0 + 1)))), (1, .int (iI (z))), (0, .ref o)]) hx hb dX4_writeCycle_39 rfl hl (by decide) rfl (fun ls hl => ?_)
    have L40 : ∀ (n : Nat) (k : Nat), (q.length < k + n) → (k + 1 ≤ q.length) → ∀ (H : Heap) (locs : List Loc) (ls : Array Slot), va_P D vwCl (mW o ad cA (wrL (uA (uA (sA σ 15 c1) 8 0 0) 14 0 0) (tcF q k))) H → va_S (wA (mW o ad cA) sz) s.heap H locs → lv_has ls 3 [(0, .ref o), (1, .int (iI (z))), (2, .int (iI (↑(k + 1))))] → W p l e (headSpec (ws_ yX4_writeCycle cX4_writeCycle 3 (some .int)) { frames := 12, cells := 0, slots := 0, locals := 253 }).room s m ([.ref o] : List Value).toArray below meth c H locs 0 0 (MQ below (wQi D vwCl (mW o ad cA) (fR ((wcR σ n0))) sz) ([.ref o] : List Value).toArray s 0 0 (wA (mW o ad cA) sz)) (F0 m 40 ls []) := by
      intro n
      induction n with
      | zero =>
        intro k hf hk H locs ls hP hS hl
        exact absurd hf (by omega)
      | succ n ih40 =>
        intro k hf hk H locs ls hP hS hl
        refine lv_iload_n hx hb dX4_writeCycle_40 rfl (lv_at hl 2 rfl) ?_
        refine lv_iload_n hx hb dX4_writeCycle_41 rfl (lv_at hl 1 rfl) ?_
        refine z_icmp_ge (tgt := 63) hX (by omega) dX4_writeCycle_42 (by decide) (fun c_42 => ?_) (fun c_42 => ?_)
        · skip
          obtain ⟨km, rfl⟩ : ∃ km, k = km := ⟨k, rfl⟩
          have hkm : k = q.length - 1 := by omega
          have htl := tcF_len (q := q) (fun j hj => by have := hqo.1.2.1 j hj; omega) (by omega) (q.length - 1) (by omega)
          rw [hkm] at hP
          have hsm1 := smF_999 (g := σ 0) (q := q) q.length
          have hsm0 := smF_pos (g := σ 0) (q := q) q.length (fun j hj => cOk_edge hqo hj)
          have hls := decL_len 9 3 (smF (σ 0) q q.length).toNat (by decide) (by omega)
          have he0 : (wrL (uA (uA (sA σ 15 c1) 8 0 0) 14 0 0) (tcF q (q.length - 1))) 0 = σ 0 := by rw [wrL_i (by decide) (by decide), uA_sA, sA_i (by decide), uA_sA, sA_i (by decide), sA_i (by decide)]
          have he15 : (wrL (uA (uA (sA σ 15 c1) 8 0 0) 14 0 0) (tcF q (q.length - 1))) 15 = c1 := by rw [wrL_i (by decide) (by decide), uA_sA, sA_i (by decide), uA_sA, sA_i (by decide), sA_j]
          refine lv_aload_n hx hb dX4_writeCycle_63 rfl (lv_at hl 0 rfl) ?_
          refine z_bipush hX dX4_writeCycle_64 (by decide) ?_
          refine lv_aload_n hx hb dX4_writeCycle_66 rfl (lv_at hl 0 rfl) ?_
          refine lv_iload_n hx hb dX4_writeCycle_67 rfl (lv_at hl 1 rfl) ?_
          refine m_calli (As := [.int (iI (z))]) (rest := [.int (iI (61)), .ref o]) hZ hX hK hD hA hE hP hS (c_smallest hZ (wrL (uA (uA (sA σ 15 c1) 8 0 0) 14 0 0) (tcF q (q.length - 1))) _ n0 (by rw [wrL_i (by decide) (by decide), uA_nj (by decide), uA_nj (by decide), sA_i (by decide)]; exact hn) B (by rw [he0]; exact hgo) q (by rw [he0]; exact hqo) (by rw [he15]; exact hla) _ hlz) (cwV 1 hX.hts (lw_V q2053 q2055 qs52 q89 q2056) rfl rfl rfl (by decide +kernel) ⟨Nat.le_of_ble_eq_true rfl, Nat.le_of_ble_eq_true rfl⟩) rfl hl.1 (lv_room (Nat.le_of_ble_eq_true rfl)) dX4_writeCycle_68 ⟨Nat.le_refl _, Nat.le_refl _⟩ rfl (fun  H locs hP hS => ?_)
          refine z_top (y := smF (σ 0) q q.length) (by rw [he0]) ?_
          refine m_callv (As := [.int (iI (61)), .int (iI (smF (σ 0) q q.length))]) (rest := []) hZ hX hK hD hA hE hP hS (c_writesBehind hZ (wrL (uA (uA (sA σ 15 c1) 8 0 0) 14 0 0) (tcF q (q.length - 1))) _ 61 ((smF (σ 0) q q.length).toNat) ((tcF q (q.length - 1)).length) (by decide) _ _ (by first | rfl | omega) (by first | rfl | omega) (by omega) ⟨by rw [wrL_14, uA_eq]; omega, by omega⟩) (cwV 2 hX.hts (lw_V q2331 q2333 qs78 q89 q2334) rfl rfl rfl (by decide +kernel) ⟨Nat.le_of_ble_eq_true rfl, Nat.le_of_ble_eq_true rfl⟩) rfl hl.1 (lv_room (Nat.le_of_ble_eq_true rfl)) dX4_writeCycle_71 ⟨Nat.le_refl _, Nat.le_refl _⟩ rfl (fun  H locs hP hS => ?_)
          rw [show wrL (wrL (uA (uA (sA σ 15 c1) 8 0 0) 14 0 0) (tcF q (q.length - 1))) (61 :: decL 9 ((smF (σ 0) q q.length).toNat)) = wrL (uA (uA (sA σ 15 c1) 8 0 0) 14 0 0) (tcF q (q.length - 1) ++ 61 :: decL 9 (smF (σ 0) q q.length).toNat) from wrL_app] at hP
          refine W.eq (g2 := F0 m 74 ls []) rfl ?_
          refine lv_aload_n hx hb dX4_writeCycle_74 rfl (lv_at hl 0 rfl) ?_
          refine m_get hX hK hP 14 (by decide) q1922 rfl dX4_writeCycle_75 ?_
          exact w_iret hX hP hS (⟨_, rfl, c1, Or.inr ⟨q, hlq, by rw [wrL_14, uA_eq]; omega, rfl⟩⟩) dX4_writeCycle_78
        · skip
          have hqk := hqo.1.2.1 (k + 1) (by omega)
          have hlk := decL_len 9 1 (qk q (k + 1)) (by decide) (by omega)
          have htl := tcF_len (q := q) (fun j hj => by have := hqo.1.2.1 j hj; omega) (by omega) k (by omega)
          refine lv_aload_n hx hb dX4_writeCycle_45 rfl (lv_at hl 0 rfl) ?_
          refine z_bipush hX dX4_writeCycle_46 (by decide) ?_
          refine lv_aload_n hx hb dX4_writeCycle_48 rfl (lv_at hl 0 rfl) ?_
          refine m_get hX hK hP 15 (by decide) q1923 rfl dX4_writeCycle_49 ?_
          refine lv_iload_n hx hb dX4_writeCycle_52 rfl (lv_at hl 2 rfl) ?_
          refine m_ld hX hK hP mW_e15 ((k + 1)) (⟨rfl, by omega⟩) (by decide) dX4_writeCycle_53 ?_
          refine z_top (y := ↑(qk q (k + 1))) (by rw [wrL_i (by decide) (by decide), uA_nj (by decide), uA_nj (by decide), sA_j]; exact hla _ (by omega)) ?_
          refine m_callv (As := [.int (iI (62)), .int (iI (↑(qk q (k + 1))))]) (rest := []) hZ hX hK hD hA hE hP hS (c_writesBehind hZ (wrL (uA (uA (sA σ 15 c1) 8 0 0) 14 0 0) (tcF q k)) _ 62 (qk q (k + 1)) ((tcF q k).length) (by decide) _ _ (by first | rfl | omega) (by first | rfl | omega) (by omega) ⟨by rw [wrL_14, uA_eq]; omega, by omega⟩) (cwV 2 hX.hts (lw_V q2331 q2333 qs78 q89 q2334) rfl rfl rfl (by decide +kernel) ⟨Nat.le_of_ble_eq_true rfl, Nat.le_of_ble_eq_true rfl⟩) rfl hl.1 (lv_room (Nat.le_of_ble_eq_true rfl)) dX4_writeCycle_54 ⟨Nat.le_refl _, Nat.le_refl _⟩ rfl (fun  H locs hP hS => ?_)
          rw [show wrL (wrL (uA (uA (sA σ 15 c1) 8 0 0) 14 0 0) (tcF q k)) (62 :: decL 9 (qk q (k + 1))) = wrL (uA (uA (sA σ 15 c1) 8 0 0) 14 0 0) (tcF q (k + 1)) from wrL_app] at hP
          refine W.eq (g2 := F0 m 57 ls []) rfl ?_
          refine z_iinc (y := ↑(k + 1 + 1)) (lv' := [(2, .int (iI (↑(k + 1 + 1)))), (0, .ref o), (1, .int (iI (z)))]) hX dX4_writeCycle_57 hl (k := 2) rfl (by omega) (by decide) rfl (fun ls hl => ?_)
          refine lv_goto (tgt := 40) hx hb dX4_writeCycle_60 (by decide) ?_
          exact ih40 (k + 1) (by omega) (by omega) _ _ _ hP hS (lv_sub hl [1, 2, 0] rfl)
    exact L40 (q.length + 1) (0) (by omega) (by omega) _ _ _ hP hS (lv_sub hl [2, 1, 0] rfl)
  · skip
    refine z_iconst hX dX4_writeCycle_10 ?_
    refine lv_goto (tgt := 15) hx hb dX4_writeCycle_11 (by decide) ?_
    refine m_calli (As := [.int (iI (1))]) (rest := []) hZ hX hK hD hA hE hP hS (c_fails hZ (sA σ 15 c1) _ (1) (by omega)) (cwV 1 hX.hts (lw_V q1987 q1989 qs42 q89 q1990) rfl rfl rfl (by decide +kernel) ⟨Nat.le_of_ble_eq_true rfl, Nat.le_of_ble_eq_true rfl⟩) rfl hl.1 (lv_room (Nat.le_of_ble_eq_true rfl)) dX4_writeCycle_15 ⟨Nat.le_refl _, Nat.le_refl _⟩ rfl (fun  H locs hP hS => ?_)
    refine z_if_eqB (tgt := 23) hX dX4_writeCycle_18 (by decide) (fun h9 => absurd h9 (by decide)) (fun h9 => ?_)
    refine z_iconst hX dX4_writeCycle_21 ?_
    exact w_iret hX hP hS (⟨0, rfl, c1, Or.inl ⟨lR_none hlc1 c_7, rfl, rfl⟩⟩) dX4_writeCycle_22
set_option maxHeartbeats 4000000 in
theorem c_outputAt {l : Launch} {D : va_G} {Z : zZ} {o : Nat} {ad : Nat → Nat} {cA : Nat → ClassId} (hZ : zOk Z) (σ : zT) (sz : Nat) (P : Int) (hP0 : (-2147483648 ≤ P ∧ P ≤ 2147483647)) (h14 : 0 ≤ σ 14 0 ∧ σ 14 0 ≤ 80) (h13 : ∀ k : Nat, k < 80 → 0 ≤ σ 13 k ∧ σ 13 k < 65536) : MI l D Z o ad cA yX4_outputAt (ws_ yX4_outputAt cX4_outputAt 2 (some .char)) { frames := 1, cells := 0, slots := 0, locals := 22 } [.ref o, .int (iI (P))] sz (σ) (fR ((outR σ P))) := by
  refine w_met (cc := cX4_outputAt) (maxL := 2) (ret := some .char) (own := RX4) (by decide) rfl rfl mW_ok (Nat.le_of_ble_eq_true rfl) ?_
  intro p e s m below meth c hX hsz hK hP hD hA hE hS hR ls hl
  have hx := hX.1
  have hb := hX.2.1
  have hl : lv_has ls 2 [(0, .ref o), (1, .int (iI (P)))] := hl
  refine lv_aload_n hx hb dX4_outputAt_0 rfl (lv_at hl 0 rfl) ?_
  refine lv_iload_n hx hb dX4_outputAt_1 rfl (lv_at hl 1 rfl) ?_
  refine z_iconst hX dX4_outputAt_2 ?_
  refine lv_aload_n hx hb dX4_outputAt_3 rfl (lv_at hl 0 rfl) ?_
  refine m_get hX hK hP 14 (by decide) q1922 rfl dX4_outputAt_4 ?_
  refine z_iconst hX dX4_outputAt_7 ?_
  refine z_isub hX dX4_outputAt_8 ?_
  refine p_callSi (As := [.int (iI (P)), .int (iI (0)), .int (iI ((σ 14 0) - 1))]) (rest := [.ref o]) hZ hX hK hA hE hP hS (c_in hZ _ (P) (0) ((σ 14 0) - 1) (by omega)) (va_cwS 3 hX.hts (lw_S q1984 q1985 q89 q1986) rfl rfl rfl (by decide +kernel) ⟨Nat.le_of_ble_eq_true rfl, Nat.le_of_ble_eq_true rfl⟩) rfl hl.1 (lv_room (Nat.le_of_ble_eq_true rfl)) dX4_outputAt_9 ⟨Nat.le_refl _, Nat.le_refl _⟩ rfl (fun  H locs hP hS => ?_)
  refine z_if_eqB (tgt := 19) hX dX4_outputAt_12 (by decide) (fun c_12 => ?_) (fun c_12 => ?_)
  · skip
    refine W.eq (g2 := F0 m 19 ls [.ref o]) rfl ?_
    refine z_iconst hX dX4_outputAt_19 ?_
    refine m_calli (As := [.int (iI (1))]) (rest := []) hZ hX hK hD hA hE hP hS (c_fails hZ (σ) _ (1) (by omega)) (cwV 1 hX.hts (lw_V q1987 q1989 qs42 q89 q1990) rfl rfl rfl (by decide +kernel) ⟨Nat.le_of_ble_eq_true rfl, Nat.le_of_ble_eq_true rfl⟩) rfl hl.1 (lv_room (Nat.le_of_ble_eq_true rfl)) dX4_outputAt_20 ⟨Nat.le_refl _, Nat.le_refl _⟩ rfl (fun  H locs hP hS => ?_)
    refine z_if_eqB (tgt := 31) hX dX4_outputAt_23 (by decide) (fun h9 => absurd h9 (by decide)) (fun h9 => ?_)
    refine z_bipush hX dX4_outputAt_26 (by decide) ?_
    refine lv_goto (tgt := 37) hx hb dX4_outputAt_28 (by decide) ?_
    exact w_cret hX hP hS (by first | decide | exact h13 _ (by omega)) (⟨_, rfl, Or.inr ⟨c_12, rfl, rfl⟩⟩) dX4_outputAt_37
  · skip
    have c_12' : 0 ≤ P ∧ P ≤ σ 14 0 - 1 := c_12
    refine z_iconst hX dX4_outputAt_15 ?_
    refine lv_goto (tgt := 20) hx hb dX4_outputAt_16 (by decide) ?_
    refine m_calli (As := [.int (iI (0))]) (rest := []) hZ hX hK hD hA hE hP hS (c_fails hZ (σ) _ (0) (by omega)) (cwV 1 hX.hts (lw_V q1987 q1989 qs42 q89 q1990) rfl rfl rfl (by decide +kernel) ⟨Nat.le_of_ble_eq_true rfl, Nat.le_of_ble_eq_true rfl⟩) rfl hl.1 (lv_room (Nat.le_of_ble_eq_true rfl)) dX4_outputAt_20 ⟨Nat.le_refl _, Nat.le_refl _⟩ rfl (fun  H locs hP hS => ?_)
    refine z_if_eqB (tgt := 31) hX dX4_outputAt_23 (by decide) (fun h9 => ?_) (fun h9 => absurd h9 (by decide))
    refine W.eq (g2 := F0 m 31 ls []) rfl ?_
    refine lv_aload_n hx hb dX4_outputAt_31 rfl (lv_at hl 0 rfl) ?_
    refine m_get hX hK hP 13 (by decide) q1921 rfl dX4_outputAt_32 ?_
    refine lv_iload_n hx hb dX4_outputAt_35 rfl (lv_at hl 1 rfl) ?_
    refine m_cld hX hK hP (P.toNat) (by omega) dX4_outputAt_36 ?_
    refine z_top (y := σ 13 (P.toNat)) (by rw [uA_nj (by decide)]) ?_
    exact w_cret hX hP hS (by first | decide | exact h13 _ (by omega)) (⟨_, rfl, Or.inl ⟨c_12, rfl, rfl⟩⟩) dX4_outputAt_37
set_option maxHeartbeats 4000000 in
theorem c_undo {l : Launch} {D : va_G} {Z : zZ} {o : Nat} {ad : Nat → Nat} {cA : Nat → ClassId} (hZ : zOk Z) (σ : zT) (sz : Nat) (n6 : Nat) (h6 : σ 6 0 = n6 ∧ n6 ≤ 8) : MI l D Z o ad cA yX4_undo (ws_ yX4_undo cX4_undo 1 (some .int)) { frames := 1, cells := 0, slots := 0, locals := 24 } [.ref o] sz (σ) (fR ((undR σ n6))) := by
  refine w_met (cc := cX4_undo) (maxL := 1) (ret := some .int) (own := RX4) (by decide) rfl rfl mW_ok (Nat.le_of_ble_eq_true rfl) ?_
  intro p e s m below meth c hX hsz hK hP hD hA hE hS hR ls hl
  have hx := hX.1
  have hb := hX.2.1
  have hl : lv_has ls 1 [(0, .ref o)] := hl
  refine lv_aload_n hx hb dX4_undo_0 rfl (lv_at hl 0 rfl) ?_
  refine lv_aload_n hx hb dX4_undo_1 rfl (lv_at hl 0 rfl) ?_
  refine m_get hX hK hP 6 (by decide) q1914 rfl dX4_undo_2 ?_
  refine z_if_ne (tgt := 12) hX (by omega) dX4_undo_5 (by decide) (fun c_5 => ?_) (fun c_5 => ?_)
  · skip
    obtain ⟨k, rfl⟩ : ∃ k, n6 = k + 1 := ⟨n6 - 1, by omega⟩
    refine z_iconst hX dX4_undo_12 ?_
    refine m_calli (As := [.int (iI (0))]) (rest := []) hZ hX hK hD hA hE hP hS (c_fails hZ (σ) _ (0) (by omega)) (cwV 1 hX.hts (lw_V q1987 q1989 qs42 q89 q1990) rfl rfl rfl (by decide +kernel) ⟨Nat.le_of_ble_eq_true rfl, Nat.le_of_ble_eq_true rfl⟩) rfl hl.1 (lv_room (Nat.le_of_ble_eq_true rfl)) dX4_undo_13 ⟨Nat.le_refl _, Nat.le_refl _⟩ rfl (fun  H locs hP hS => ?_)
    refine z_if_eqB (tgt := 21) hX dX4_undo_16 (by decide) (fun h9 => ?_) (fun h9 => absurd h9 (by decide))
    refine lv_aload_n hx hb dX4_undo_21 rfl (lv_at hl 0 rfl) ?_
    refine lv_dup hx hb dX4_undo_22 rfl ?_
    refine W.eq (g2 := F0 m 23 ls [.ref o, .ref o]) rfl ?_
    refine m_get hX hK hP 6 (by decide) q1914 rfl dX4_undo_23 ?_
    refine z_top (y := σ 6 0) (by rw [uA_nj (by decide)]) ?_
    refine z_iconst hX dX4_undo_26 ?_
    refine z_isub hX dX4_undo_27 ?_
    refine z_top (y := ↑k) (by omega) ?_
    refine m_put hX hK hD hP hS 6 (by decide) q1914 rfl rfl rfl mW_f6 dX4_undo_28 (fun H locs hP hS => ?_)
    refine lv_aload_n hx hb dX4_undo_31 rfl (lv_at hl 0 rfl) ?_
    refine m_get hX hK hP 1 (by decide) q1909 rfl dX4_undo_32 ?_
    refine z_bipush hX dX4_undo_35 (by decide) ?_
    refine lv_aload_n hx hb dX4_undo_37 rfl (lv_at hl 0 rfl) ?_
    refine m_get hX hK hP 6 (by decide) q1914 rfl dX4_undo_38 ?_
    refine z_top (y := ↑k) (by rw [uA_eq]) ?_
    refine z_imul hX dX4_undo_41 ?_
    refine W.eq (g2 := F0 m 42 ls [.int (iI (61 * (↑k))), .ref (ad 1)]) rfl ?_
    refine lv_aload_n hx hb dX4_undo_42 rfl (lv_at hl 0 rfl) ?_
    refine m_get hX hK hP 0 (by decide) q1908 rfl dX4_undo_43 ?_
    refine z_iconst hX dX4_undo_46 ?_
    refine m_callSv (As := [.ref (ad 1), .int (iI (61 * (↑k))), .ref (ad 0), .int (iI (0))]) (rest := []) hZ hX hK hD hA hE hP hS (c_copies hZ (uA (uA σ 8 0 0) 6 0 (↑k)) _ _ _ 1 _ (fun _ => mW_e1) (by decide) _ _ 0 _ (fun _ => mW_e0) (by decide) (fun _ _ _ => mW_s0) (by decide) (61 * k) (0) _ _ (by omega) (⟨rfl, by decide⟩)) (va_cwS 4 hX.hts (lw_S q1995 q1996 q89 q1997) rfl rfl rfl (by decide +kernel) ⟨Nat.le_of_ble_eq_true rfl, Nat.le_of_ble_eq_true rfl⟩) rfl hl.1 (lv_room (Nat.le_of_ble_eq_true rfl)) dX4_undo_47 ⟨Nat.le_refl _, Nat.le_refl _⟩ rfl (fun  H locs hP hS => ?_)
    refine lv_aload_n hx hb dX4_undo_50 rfl (lv_at hl 0 rfl) ?_
    refine m_get hX hK hP 6 (by decide) q1914 rfl dX4_undo_51 ?_
    refine z_top (y := ↑k) (by rw [cpF_i (by decide), uA_eq]) ?_
    exact w_iret hX hP hS (⟨_, rfl, Or.inr ⟨k, rfl, rfl, rfl⟩⟩) dX4_undo_54
  · skip
    refine z_iconst hX dX4_undo_8 ?_
    refine lv_goto (tgt := 13) hx hb dX4_undo_9 (by decide) ?_
    refine m_calli (As := [.int (iI (1))]) (rest := []) hZ hX hK hD hA hE hP hS (c_fails hZ (σ) _ (1) (by omega)) (cwV 1 hX.hts (lw_V q1987 q1989 qs42 q89 q1990) rfl rfl rfl (by decide +kernel) ⟨Nat.le_of_ble_eq_true rfl, Nat.le_of_ble_eq_true rfl⟩) rfl hl.1 (lv_room (Nat.le_of_ble_eq_true rfl)) dX4_undo_13 ⟨Nat.le_refl _, Nat.le_refl _⟩ rfl (fun  H locs hP hS => ?_)
    refine W.eq (g2 := F0 m 16 ls [.int (iI (bI (0 < 1)))]) rfl ?_
    refine z_if_eqB (tgt := 21) hX dX4_undo_16 (by decide) (fun h9 => absurd h9 (by decide)) (fun h9 => ?_)
    refine z_iconst hX dX4_undo_19 ?_
    exact w_iret hX hP hS (⟨0, rfl, Or.inl ⟨by omega, rfl, rfl⟩⟩) dX4_undo_20
set_option maxHeartbeats 4000000 in
theorem c_save {l : Launch} {D : va_G} {Z : zZ} {o : Nat} {ad : Nat → Nat} {cA : Nat → ClassId} (hZ : zOk Z) (σ : zT) (sz : Nat) : MV l D Z o ad cA yX4_save (ws_ yX4_save cX4_save 1 (none)) { frames := 1, cells := 0, slots := 0, locals := 24 } [.ref o] sz (σ) (fV (cpF (uA (uA σ 8 0 0) 5 0 1) 0 0 2 0 61)) := by
  refine w_met (cc := cX4_save) (maxL := 1) (ret := none) (own := RX4) (by decide) rfl rfl mW_ok (Nat.le_of_ble_eq_true rfl) ?_
  intro p e s m below meth c hX hsz hK hP hD hA hE hS hR ls hl
  have hx := hX.1
  have hb := hX.2.1
  have hl : lv_has ls 1 [(0, .ref o)] := hl
  refine lv_aload_n hx hb dX4_save_0 rfl (lv_at hl 0 rfl) ?_
  refine z_iconst hX dX4_save_1 ?_
  refine m_put hX hK hD hP hS 8 (by decide) q1916 rfl rfl rfl mW_f8 dX4_save_2 (fun H locs hP hS => ?_)
  refine lv_aload_n hx hb dX4_save_5 rfl (lv_at hl 0 rfl) ?_
  refine z_iconst hX dX4_save_6 ?_
  refine m_put hX hK hD hP hS 5 (by decide) q1913 rfl (by decide) (by decide) mW_f5 dX4_save_7 (fun H locs hP hS => ?_)
  refine lv_aload_n hx hb dX4_save_10 rfl (lv_at hl 0 rfl) ?_
  refine m_get hX hK hP 0 (by decide) q1908 rfl dX4_save_11 ?_
  refine z_iconst hX dX4_save_14 ?_
  refine W.eq (g2 := F0 m 15 ls [.int (iI (0)), .ref (ad 0)]) rfl ?_
  refine lv_aload_n hx hb dX4_save_15 rfl (lv_at hl 0 rfl) ?_
  refine m_get hX hK hP 2 (by decide) q1910 rfl dX4_save_16 ?_
  refine z_iconst hX dX4_save_19 ?_
  refine m_callSv (As := [.ref (ad 0), .int (iI (0)), .ref (ad 2), .int (iI (0))]) (rest := []) hZ hX hK hD hA hE hP hS (c_copies hZ (uA (uA σ 8 0 0) 5 0 1) _ _ _ 0 _ (fun _ => mW_e0) (by decide) _ _ 2 _ (fun _ => mW_e2) (by decide) (fun _ _ _ => mW_s2) (by decide) (0) (0) _ _ (⟨rfl, by decide⟩) (⟨rfl, by decide⟩)) (va_cwS 4 hX.hts (lw_S q1995 q1996 q89 q1997) rfl rfl rfl (by decide +kernel) ⟨Nat.le_of_ble_eq_true rfl, Nat.le_of_ble_eq_true rfl⟩) rfl hl.1 (lv_room (Nat.le_of_ble_eq_true rfl)) dX4_save_20 ⟨Nat.le_refl _, Nat.le_refl _⟩ rfl (fun  H locs hP hS => ?_)
  exact w_vret hX hP hS (rfl) dX4_save_23
set_option maxHeartbeats 4000000 in
theorem c_restore {l : Launch} {D : va_G} {Z : zZ} {o : Nat} {ad : Nat → Nat} {cA : Nat → ClassId} (hZ : zOk Z) (σ : zT) (sz : Nat) (h5 : σ 5 0 = 0 ∨ σ 5 0 = 1) : MV l D Z o ad cA yX4_restore (ws_ yX4_restore cX4_restore 1 (none)) { frames := 1, cells := 0, slots := 0, locals := 24 } [.ref o] sz (σ) ((resR σ)) := by
  refine w_met (cc := cX4_restore) (maxL := 1) (ret := none) (own := RX4) (by decide) rfl rfl mW_ok (Nat.le_of_ble_eq_true rfl) ?_
  intro p e s m below meth c hX hsz hK hP hD hA hE hS hR ls hl
  have hx := hX.1
  have hb := hX.2.1
  have hl : lv_has ls 1 [(0, .ref o)] := hl
  refine lv_aload_n hx hb dX4_restore_0 rfl (lv_at hl 0 rfl) ?_
  refine lv_aload_n hx hb dX4_restore_1 rfl (lv_at hl 0 rfl) ?_
  refine m_get hX hK hP 5 (by decide) q1913 rfl dX4_restore_2 ?_
  refine z_if_eq (tgt := 12) hX (by omega) dX4_restore_5 (by decide) (fun c_5 => ?_) (fun c_5 => ?_)
  · skip
    refine z_iconst hX dX4_restore_12 ?_
    refine m_calli (As := [.int (iI (1))]) (rest := []) hZ hX hK hD hA hE hP hS (c_fails hZ (σ) _ (1) (by omega)) (cwV 1 hX.hts (lw_V q1987 q1989 qs42 q89 q1990) rfl rfl rfl (by decide +kernel) ⟨Nat.le_of_ble_eq_true rfl, Nat.le_of_ble_eq_true rfl⟩) rfl hl.1 (lv_room (Nat.le_of_ble_eq_true rfl)) dX4_restore_13 ⟨Nat.le_refl _, Nat.le_refl _⟩ rfl (fun  H locs hP hS => ?_)
    refine z_if_eqB (tgt := 20) hX dX4_restore_16 (by decide) (fun h9 => absurd h9 (by decide)) (fun h9 => ?_)
    exact w_vret hX hP hS (Or.inl ⟨c_5, rfl⟩) dX4_restore_19
  · skip
    refine z_iconst hX dX4_restore_8 ?_
    refine lv_goto (tgt := 13) hx hb dX4_restore_9 (by decide) ?_
    refine m_calli (As := [.int (iI (0))]) (rest := []) hZ hX hK hD hA hE hP hS (c_fails hZ (σ) _ (0) (by omega)) (cwV 1 hX.hts (lw_V q1987 q1989 qs42 q89 q1990) rfl rfl rfl (by decide +kernel) ⟨Nat.le_of_ble_eq_true rfl, Nat.le_of_ble_eq_true rfl⟩) rfl hl.1 (lv_room (Nat.le_of_ble_eq_true rfl)) dX4_restore_13 ⟨Nat.le_refl _, Nat.le_refl _⟩ rfl (fun  H locs hP hS => ?_)
    refine z_if_eqB (tgt := 20) hX dX4_restore_16 (by decide) (fun h9 => ?_) (fun h9 => absurd h9 (by decide))
    refine lv_aload_n hx hb dX4_restore_20 rfl (lv_at hl 0 rfl) ?_
    refine m_get hX hK hP 2 (by decide) q1910 rfl dX4_restore_21 ?_
    refine z_iconst hX dX4_restore_24 ?_
    refine lv_aload_n hx hb dX4_restore_25 rfl (lv_at hl 0 rfl) ?_
    refine m_get hX hK hP 0 (by decide) q1908 rfl dX4_restore_26 ?_
    refine z_iconst hX dX4_restore_29 ?_
    refine m_callSv (As := [.ref (ad 2), .int (iI (0)), .ref (ad 0), .int (iI (0))]) (rest := []) hZ hX hK hD hA hE hP hS (c_copies hZ (uA σ 8 0 0) _ _ _ 2 _ (fun _ => mW_e2) (by decide) _ _ 0 _ (fun _ => mW_e0) (by decide) (fun _ _ _ => mW_s0) (by decide) (0) (0) _ _ (⟨rfl, by decide⟩) (⟨rfl, by decide⟩)) (va_cwS 4 hX.hts (lw_S q1995 q1996 q89 q1997) rfl rfl rfl (by decide +kernel) ⟨Nat.le_of_ble_eq_true rfl, Nat.le_of_ble_eq_true rfl⟩) rfl hl.1 (lv_room (Nat.le_of_ble_eq_true rfl)) dX4_restore_30 ⟨Nat.le_refl _, Nat.le_refl _⟩ rfl (fun  H locs hP hS => ?_)
    refine W.eq (g2 := F0 m 33 ls []) rfl ?_
    refine lv_aload_n hx hb dX4_restore_33 rfl (lv_at hl 0 rfl) ?_
    refine z_iconst hX dX4_restore_34 ?_
    refine m_put hX hK hD hP hS 6 (by decide) q1914 rfl rfl rfl mW_f6 dX4_restore_35 (fun H locs hP hS => ?_)
    exact w_vret hX hP hS (Or.inr ⟨c_5, rfl⟩) dX4_restore_38
