/-! the twin: defaults and calls -/
set_option maxRecDepth 100000
set_option maxHeartbeats 4000000 in
theorem c_declareDefault {l : Launch} {D : va_G} {Z : zZ} {o : Nat} {ad : Nat → Nat} {cA : Nat → ClassId} (hZ : zOk Z) (σ : zT) (sz : Nat) (P : Int) (hP0 : (-2147483648 ≤ P ∧ P ≤ 2147483647)) (B : Int) (hgo : gOk (σ 0) B) (hB : B ≤ 2000000) (n6 : Nat) (h6 : σ 6 0 = n6 ∧ n6 ≤ 8) (h7 : σ 7 0 = 0 ∨ σ 7 0 = 1) : MI l D Z o ad cA yX4_declareDefault (ws_ yX4_declareDefault cX4_declareDefault 2 (some .int)) { frames := 5, cells := 0, slots := 0, locals := 116 } [.ref o, .int (iI (P))] sz (σ) (fR ((decR σ n6 P))) := by
  refine w_met (cc := cX4_declareDefault) (maxL := 2) (ret := some .int) (own := RX4) (by decide) rfl rfl mW_ok (Nat.le_of_ble_eq_true rfl) ?_
  intro p e s m below meth c hX hsz hK hP hD hA hE hS hR ls hl
  have hx := hX.1
  have hb := hX.2.1
  have hl : lv_has ls 2 [(0, .ref o), (1, .int (iI (P)))] := hl
  have hg := hgo.1
  refine lv_aload_n hx hb dX4_declareDefault_0 rfl (lv_at hl 0 rfl) ?_
  refine lv_iload_n hx hb dX4_declareDefault_1 rfl (lv_at hl 1 rfl) ?_
  refine m_calli (As := [.int (iI (P))]) (rest := []) hZ hX hK hD hA hE hP hS (c_isNone hZ (σ) _ (P) (by omega) hg) (cwV 1 hX.hts (lw_V q2002 q2004 qs44 q89 q2005) rfl rfl rfl (by decide +kernel) ⟨Nat.le_of_ble_eq_true rfl, Nat.le_of_ble_eq_true rfl⟩) rfl hl.1 (lv_room (Nat.le_of_ble_eq_true rfl)) dX4_declareDefault_2 ⟨Nat.le_refl _, Nat.le_refl _⟩ rfl (fun  H locs hP hS => ?_)
  refine z_if_neB (tgt := 28) hX dX4_declareDefault_5 (by decide) (fun c_5 => ?_) (fun c_5 => ?_)
  · skip
    refine z_iconst hX dX4_declareDefault_28 ?_
    exact w_iret hX hP hS (by first | exact ⟨0, rfl, Or.inl ⟨by unfold cDecl; rw [if_pos c_5]; decide, rfl, by unfold cDecl; rw [if_pos c_5, bI_t c_5]⟩⟩ | exact ⟨0, rfl, Or.inl ⟨by unfold cDecl; rw [if_neg (fun h => h c_5), if_pos (by omega)]; decide, rfl, by unfold cDecl; rw [if_neg (fun h => h c_5), if_pos (by omega)]⟩⟩) dX4_declareDefault_29
  · skip
    have c_5 : mIs (σ 0) P := Decidable.of_not_not c_5
    have c_5' : 0 ≤ P ∧ P ≤ σ 0 0 - 1 := c_5
    have hlk := mLk_bd hgo hB (p := P.toNat) (by omega)
    refine lv_aload_n hx hb dX4_declareDefault_8 rfl (lv_at hl 0 rfl) ?_
    refine lv_aload_n hx hb dX4_declareDefault_9 rfl (lv_at hl 0 rfl) ?_
    refine lv_iload_n hx hb dX4_declareDefault_10 rfl (lv_at hl 1 rfl) ?_
    refine W.eq (g2 := F0 m 11 ls [.int (iI (P)), .ref o, .ref o]) rfl ?_
    refine m_calli (As := [.int (iI (P))]) (rest := [.ref o]) hZ hX hK hD hA hE hP hS (c_lacks hZ (uA σ 8 0 (bI (¬ mIs (σ 0) P))) _ (P.toNat) _ (by omega)) (cwV 1 hX.hts (lw_V q2085 q2087 qs53 q89 q2088) rfl rfl rfl (by decide +kernel) ⟨Nat.le_of_ble_eq_true rfl, Nat.le_of_ble_eq_true rfl⟩) rfl hl.1 (lv_room (Nat.le_of_ble_eq_true rfl)) dX4_declareDefault_11 ⟨Nat.le_refl _, Nat.le_refl _⟩ rfl (fun  H locs hP hS => ?_)
    refine z_top (y := mLk (σ 0) (P.toNat)) (by rw [uA_sA, sA_i (by decide)]) ?_
    refine z_if_le (tgt := 21) hX (by omega) dX4_declareDefault_14 (by decide) (fun c_14 => ?_) (fun c_14 => ?_)
    · skip
      refine z_iconst hX dX4_declareDefault_21 ?_
      refine m_calli (As := [.int (iI (2))]) (rest := []) hZ hX hK hD hA hE hP hS (c_fails hZ (uA σ 8 0 (bI (¬ mIs (σ 0) P))) _ (2) (by omega)) (cwV 1 hX.hts (lw_V q1987 q1989 qs42 q89 q1990) rfl rfl rfl (by decide +kernel) ⟨Nat.le_of_ble_eq_true rfl, Nat.le_of_ble_eq_true rfl⟩) rfl hl.1 (lv_room (Nat.le_of_ble_eq_true rfl)) dX4_declareDefault_22 ⟨Nat.le_refl _, Nat.le_refl _⟩ rfl (fun  H locs hP hS => ?_)
      rw [show uA (uA σ 8 0 (bI (¬ mIs (σ 0) P))) 8 0 2 = uA σ 8 0 2 from uA_uA] at hP
      refine z_if_eqB (tgt := 30) hX dX4_declareDefault_25 (by decide) (fun h9 => absurd h9 (by decide)) (fun h9 => ?_)
      refine z_iconst hX dX4_declareDefault_28 ?_
      exact w_iret hX hP hS (by first | exact ⟨0, rfl, Or.inl ⟨by unfold cDecl; rw [if_pos c_5]; decide, rfl, by unfold cDecl; rw [if_pos c_5, bI_t c_5]⟩⟩ | exact ⟨0, rfl, Or.inl ⟨by unfold cDecl; rw [if_neg (fun h => h c_5), if_pos (by omega)]; decide, rfl, by unfold cDecl; rw [if_neg (fun h => h c_5), if_pos (by omega)]⟩⟩) dX4_declareDefault_29
    · skip
      refine z_iconst hX dX4_declareDefault_17 ?_
      refine lv_goto (tgt := 22) hx hb dX4_declareDefault_18 (by decide) ?_
      refine m_calli (As := [.int (iI (0))]) (rest := []) hZ hX hK hD hA hE hP hS (c_fails hZ (uA σ 8 0 (bI (¬ mIs (σ 0) P))) _ (0) (by omega)) (cwV 1 hX.hts (lw_V q1987 q1989 qs42 q89 q1990) rfl rfl rfl (by decide +kernel) ⟨Nat.le_of_ble_eq_true rfl, Nat.le_of_ble_eq_true rfl⟩) rfl hl.1 (lv_room (Nat.le_of_ble_eq_true rfl)) dX4_declareDefault_22 ⟨Nat.le_refl _, Nat.le_refl _⟩ rfl (fun  H locs hP hS => ?_)
      rw [show uA (uA σ 8 0 (bI (¬ mIs (σ 0) P))) 8 0 0 = uA σ 8 0 0 from uA_uA] at hP
      refine W.eq (g2 := F0 m 25 ls [.int (iI (bI (0 < 0)))]) rfl ?_
      refine z_if_eqB (tgt := 30) hX dX4_declareDefault_25 (by decide) (fun h9 => ?_) (fun h9 => absurd h9 (by decide))
      refine lv_aload_n hx hb dX4_declareDefault_30 rfl (lv_at hl 0 rfl) ?_
      refine lv_aload_n hx hb dX4_declareDefault_31 rfl (lv_at hl 0 rfl) ?_
      refine m_get hX hK hP 0 (by decide) q1908 rfl dX4_declareDefault_32 ?_
      refine m_callv (As := [.ref (ad 0)]) (rest := []) hZ hX hK hD hA hE hP hS (c_keeps hZ (uA σ 8 0 0) _ _ 0 _ (fun _ => mW_e0) (by decide) (by decide) (by decide) n6 (by rw [uA_nj (by decide)]; exact h6) (by rw [uA_nj (by decide)]; exact h7)) (cwV 1 hX.hts (lw_V q1991 q1993 qs43 q89 q1994) rfl rfl rfl (by decide +kernel) ⟨Nat.le_of_ble_eq_true rfl, Nat.le_of_ble_eq_true rfl⟩) rfl hl.1 (lv_room (Nat.le_of_ble_eq_true rfl)) dX4_declareDefault_35 ⟨Nat.le_refl _, Nat.le_refl _⟩ rfl (fun  H locs hP hS => ?_)
      rw [show kF 0 (uA σ 8 0 0) n6 = kF 0 σ n6 from kF_u8 (by decide)] at hP
      refine lv_aload_n hx hb dX4_declareDefault_38 rfl (lv_at hl 0 rfl) ?_
      refine lv_iload_n hx hb dX4_declareDefault_39 rfl (lv_at hl 1 rfl) ?_
      refine m_calli (As := [.int (iI (P))]) (rest := []) hZ hX hK hD hA hE hP hS (c_falls hZ (kF 0 σ n6) _ P.toNat _ (by omega) (by rw [kF_i (by decide) (by decide) (by decide)]; exact mLk_ob hgo (by omega) c_14) B (by rw [kF_i (by decide) (by decide) (by decide)]; exact hgo) hB) (cwV 1 hX.hts (lw_V q2097 q2099 qs56 q89 q2100) rfl rfl rfl (by decide +kernel) ⟨Nat.le_of_ble_eq_true rfl, Nat.le_of_ble_eq_true rfl⟩) rfl hl.1 (lv_room (Nat.le_of_ble_eq_true rfl)) dX4_declareDefault_40 ⟨Nat.le_refl _, Nat.le_refl _⟩ rfl (fun  H locs hP hS => ?_)
      rw [show sA (sA (kF 0 σ n6) 16 (fil (mSh ((kF 0 σ n6) 0) P.toNat) ((kF 0 σ n6) 16) 7)) 0 (sFall ((kF 0 σ n6) 0) P.toNat) = sA (sA (kF 0 σ n6) 16 (fil (mSh (σ 0) P.toNat) (σ 16) 7)) 0 (sFall (σ 0) P.toNat) from by rw [kF_i (by decide) (by decide) (by decide), kF_i (by decide) (by decide) (by decide)]] at hP
      refine z_top (y := mOb (σ 0) P.toNat - σ 0 (5 + P.toNat)) (by rw [kF_i (by decide) (by decide) (by decide)]) ?_
      exact w_iret hX hP hS (⟨_, rfl, Or.inr ⟨by unfold cDecl; rw [if_neg (fun h => h c_5), if_neg (by omega)], rfl, _, rfl⟩⟩) dX4_declareDefault_43
set_option maxHeartbeats 4000000 in
theorem c_fallsAll {l : Launch} {D : va_G} {Z : zZ} {o : Nat} {ad : Nat → Nat} {cA : Nat → ClassId} (hZ : zOk Z) (σ : zT) (sz : Nat) (n0 : Nat) (hn : σ 0 0 = n0 ∧ n0 ≤ 7) (B : Int) (hgo : gOk (σ 0) B) (hB : B ≤ 2000000) (F : Nat) (hFm : gNo (σ 0) < F) : MI l D Z o ad cA yX4_fallsAll (ws_ yX4_fallsAll cX4_fallsAll 4 (some .int)) { frames := 5, cells := 0, slots := 0, locals := 116 } [.ref o] sz (σ) (fR ((faR σ n0 F))) := by
  refine w_met (cc := cX4_fallsAll) (maxL := 4) (ret := some .int) (own := RX4) (by decide) rfl rfl mW_ok (Nat.le_of_ble_eq_true rfl) ?_
  intro p e s m below meth c hX hsz hK hP hD hA hE hS hR ls hl
  have hx := hX.1
  have hb := hX.2.1
  have hl : lv_has ls 4 [(0, .ref o)] := hl
  refine z_iconst hX dX4_fallsAll_0 ?_
  refine z_top (y := ↑(0 : Nat)) (rfl) ?_
  refine lv_istore_n (lv' := [(1, .int (iI (↑(0 : Nat)))), (0, .ref o)]) hx hb dX4_fallsAll_1 rfl hl (by decide) rfl (fun ls hl => ?_)
  refine z_iconst hX dX4_fallsAll_2 ?_
  refine lv_istore_n (lv' := [(2, .int (iI (0))), (1, .int (iI (↑(0 : Nat)))), (0, .ref o)]) hx hb dX4_fallsAll_3 rfl hl (by decide) rfl (fun ls hl => ?_)
  have L4 : ∀ (n : Nat) (k f : Nat) (G s1 : Nat → Int) (w1 : Int), (f < n) → (gOk G B ∧ G 0 = n0 ∧ gNo G < f) → (faF n0 F (σ 0) = ((faF n0 f G).1, (faF n0 f G).2 + k)) → (0 ≤ w1 ∧ w1 ≤ 7) → ∀ (H : Heap) (locs : List Loc) (ls : Array Slot), va_P D vwCl (mW o ad cA (sA (sA σ 16 s1) 0 G)) H → va_S (wA (mW o ad cA) sz) s.heap H locs → lv_has ls 4 [(0, .ref o), (1, .int (iI (↑k))), (2, .int (iI (w1)))] → W p l e (headSpec (ws_ yX4_fallsAll cX4_fallsAll 4 (some .int)) { frames := 5, cells := 0, slots := 0, locals := 116 }).room s m ([.ref o] : List Value).toArray below meth c H locs 0 0 (MQ below (wQi D vwCl (mW o ad cA) (fR ((faR σ n0 F))) sz) ([.ref o] : List Value).toArray s 0 0 (wA (mW o ad cA) sz)) (F0 m 4 ls []) := by
    intro n
    induction n with
    | zero =>
      intro k f G s1 w1 hf hG hN hw H locs ls hP hS hl
      exact absurd hf (by omega)
    | succ n ih4 =>
      intro k f G s1 w1 hf hG hN hw H locs ls hP hS hl
      obtain ⟨f', rfl⟩ : ∃ f', f = f' + 1 := ⟨f - 1, by have := gNo_nn (g := G); omega⟩
      have hG0 := hG.1.1
      refine lv_iload_n hx hb dX4_fallsAll_4 rfl (lv_at hl 2 rfl) ?_
      refine z_if_lt (tgt := 73) hX (by omega) dX4_fallsAll_5 (by decide) (fun c_5 => ?_) (fun c_5 => ?_)
      · exact absurd c_5 (by omega)
      · skip
        refine z_iconst hX dX4_fallsAll_8 ?_
        refine z_top (y := wkF G 0) (rfl) ?_
        refine lv_istore_n (lv' := [(2, .int (iI (wkF G 0))), (0, .ref o), (1, .int (iI (↑k)))]) hx hb dX4_fallsAll_9 rfl hl (by decide) rfl (fun ls hl => ?_)
        refine z_iconst hX dX4_fallsAll_10 ?_
        refine z_top (y := ↑(0 : Nat)) (rfl) ?_
        refine W.eq (g2 := F0 m 11 ls [.int (iI (↑(0 : Nat)))]) rfl ?_
        refine lv_istore_n (lv' := [(3, .int (iI (↑(0 : Nat)))), (2, .int (iI (wkF G 0))), (0, .ref o), (1, .int (iI (↑k)))]) hx hb dX4_fallsAll_11 rfl hl (by decide) rfl (fun ls hl => ?_)
        have L12 : ∀ (n : Nat) (i : Nat), (n0 < i + n) → (i ≤ n0) → ∀ (H : Heap) (locs : List Loc) (ls : Array Slot), va_P D vwCl (mW o ad cA (sA (sA σ 16 s1) 0 G)) H → va_S (wA (mW o ad cA) sz) s.heap H locs → lv_has ls 4 [(0, .ref o), (1, .int (iI (↑k))), (2, .int (iI (wkF G i))), (3, .int (iI (↑i)))] → W p l e (headSpec (ws_ yX4_fallsAll cX4_fallsAll 4 (some .int)) { frames := 5, cells := 0, slots := 0, locals := 116 }).room s m ([.ref o] : List Value).toArray below meth c H locs 0 0 (MQ below (wQi D vwCl (mW o ad cA) (fR ((faR σ n0 F))) sz) ([.ref o] : List Value).toArray s 0 0 (wA (mW o ad cA) sz)) (F0 m 12 ls []) := by
          intro n
          induction n with
          | zero =>
            intro i hf hi H locs ls hP hS hl
            exact absurd hf (by omega)
          | succ n ih12 =>
            intro i hf hi H locs ls hP hS hl
            refine lv_iload_n hx hb dX4_fallsAll_12 rfl (lv_at hl 3 rfl) ?_
            refine lv_aload_n hx hb dX4_fallsAll_13 rfl (lv_at hl 0 rfl) ?_
            refine m_get hX hK hP 0 (by decide) q1908 rfl dX4_fallsAll_14 ?_
            refine z_iconst hX dX4_fallsAll_17 ?_
            refine m_ld hX hK hP mW_e0 0 (by decide) (by decide) dX4_fallsAll_18 ?_
            refine z_top (y := G 0) (by rw [sA_j]) ?_
            refine z_icmp_ge (tgt := 55) hX (by omega) dX4_fallsAll_19 (by decide) (fun c_19 => ?_) (fun c_19 => ?_)
            · skip
              obtain rfl : n0 = i := by omega
              have hwb := wkF_bd (g := G) n0
              refine lv_iload_n hx hb dX4_fallsAll_55 rfl (lv_at hl 2 rfl) ?_
              refine z_if_ge (tgt := 61) hX (by omega) dX4_fallsAll_56 (by decide) (fun c_56 => ?_) (fun c_56 => ?_)
              · skip
                have hsf := sFall_ok hG.1 hB (p := (wkF G n0).toNat) (by omega) (hwb.2.2 c_56)
                refine lv_aload_n hx hb dX4_fallsAll_61 rfl (lv_at hl 0 rfl) ?_
                refine W.eq (g2 := F0 m 62 ls [.ref o]) rfl ?_
                refine lv_iload_n hx hb dX4_fallsAll_62 rfl (lv_at hl 2 rfl) ?_
                refine m_calli (As := [.int (iI (wkF G n0))]) (rest := []) hZ hX hK hD hA hE hP hS (c_falls hZ (sA (sA σ 16 s1) 0 G) _ (wkF G n0).toNat _ (by omega) (by rw [sA_j]; exact mLk_ob hG.1 (by omega) (hwb.2.2 c_56)) B (by rw [sA_j]; exact hG.1) hB) (cwV 1 hX.hts (lw_V q2097 q2099 qs56 q89 q2100) rfl rfl rfl (by decide +kernel) ⟨Nat.le_of_ble_eq_true rfl, Nat.le_of_ble_eq_true rfl⟩) rfl hl.1 (lv_room (Nat.le_of_ble_eq_true rfl)) dX4_fallsAll_63 ⟨Nat.le_refl _, Nat.le_refl _⟩ rfl (fun  H locs hP hS => ?_)
                obtain ⟨s2, hs2⟩ : ∃ s2, sA (sA (sA (sA σ 16 s1) 0 G) 16 (fil (mSh ((sA (sA σ 16 s1) 0 G) 0) (wkF G n0).toNat) ((sA (sA σ 16 s1) 0 G) 16) 7)) 0 (sFall ((sA (sA σ 16 s1) 0 G) 0) (wkF G n0).toNat) = sA (sA σ 16 s2) 0 (sFall G (wkF G n0).toNat) := ⟨_, by rw [sA_comm (by decide), sA_sA, sA_comm (by decide), sA_sA, sA_j]⟩
                rw [hs2] at hP
                refine lv_pop hx hb dX4_fallsAll_66 rfl ?_
                refine z_iinc (y := ↑(k + 1)) (lv' := [(1, .int (iI (↑(k + 1)))), (0, .ref o), (2, .int (iI (wkF G n0))), (3, .int (iI (↑n0)))]) hX dX4_fallsAll_67 hl (k := 1) rfl (by omega) (by decide) rfl (fun ls hl => ?_)
                refine lv_goto (tgt := 4) hx hb dX4_fallsAll_70 (by decide) ?_
                exact ih4 (k + 1) (f') (sFall G (wkF G n0).toNat) (s2) (wkF G n0) (by omega) (⟨hsf.1, hsf.2.2.trans hG.2.1, by omega⟩) (by rw [hN, faF_some (by omega)]; exact congrArg (Prod.mk _) (by omega)) (by omega) _ _ _ hP hS (lv_sub hl [1, 0, 2] rfl)
              · skip
                refine lv_iload_n hx hb dX4_fallsAll_59 rfl (lv_at hl 1 rfl) ?_
                exact w_iret hX hP hS (⟨_, rfl, s1, by rw [hN, faF_none (by omega)], by rw [hN, faF_none (by omega)]; simp⟩) dX4_fallsAll_60
            · skip
              have hlk := mLk_bd hG.1 hB (p := i) (by omega)
              have hwb := wkF_bd (g := G) i
              refine lv_aload_n hx hb dX4_fallsAll_22 rfl (lv_at hl 0 rfl) ?_
              refine lv_iload_n hx hb dX4_fallsAll_23 rfl (lv_at hl 3 rfl) ?_
              refine m_calli (As := [.int (iI (↑i))]) (rest := []) hZ hX hK hD hA hE hP hS (c_lacks hZ (sA (sA σ 16 s1) 0 G) _ i _ ⟨rfl, by omega⟩) (cwV 1 hX.hts (lw_V q2085 q2087 qs53 q89 q2088) rfl rfl rfl (by decide +kernel) ⟨Nat.le_of_ble_eq_true rfl, Nat.le_of_ble_eq_true rfl⟩) rfl hl.1 (lv_room (Nat.le_of_ble_eq_true rfl)) dX4_fallsAll_24 ⟨Nat.le_refl _, Nat.le_refl _⟩ rfl (fun  H locs hP hS => ?_)
              refine z_top (y := mLk G i) (by rw [sA_j]) ?_
              refine W.eq (g2 := F0 m 27 ls [.int (iI (mLk G i))]) rfl ?_
              refine z_if_le (tgt := 49) hX (by omega) dX4_fallsAll_27 (by decide) (fun c_27 => ?_) (fun c_27 => ?_)
              · skip
                refine z_iinc (y := ↑(i + 1)) (lv' := [(3, .int (iI (↑(i + 1)))), (0, .ref o), (1, .int (iI (↑k))), (2, .int (iI (wkF G i)))]) hX dX4_fallsAll_49 hl (k := 3) rfl (by omega) (by decide) rfl (fun ls hl => ?_)
                refine lv_goto (tgt := 12) hx hb dX4_fallsAll_52 (by decide) ?_
                rw [show wkF G i = wkF G (i + 1) from by (show _ = if _ then _ else _; rw [if_neg (by omega)])] at hl
                exact ih12 (i + 1) (by omega) (by omega) _ _ _ hP hS (lv_sub hl [1, 2, 3, 0] rfl)
              · skip
                refine lv_iload_n hx hb dX4_fallsAll_30 rfl (lv_at hl 2 rfl) ?_
                refine z_if_lt (tgt := 47) hX (by omega) dX4_fallsAll_31 (by decide) (fun c_31 => ?_) (fun c_31 => ?_)
                · skip
                  refine lv_iload_n hx hb dX4_fallsAll_47 rfl (lv_at hl 3 rfl) ?_
                  refine z_top (y := wkF G (i + 1)) (by show _ = if _ then _ else _; rw [if_pos (by omega)]) ?_
                  refine lv_istore_n (lv' := [(2, .int (iI (wkF G (i + 1)))), (0, .ref o), (1, .int (iI (↑k))), (3, .int (iI (↑i)))]) hx hb dX4_fallsAll_48 rfl hl (by decide) rfl (fun ls hl => ?_)
                  refine z_iinc (y := ↑(i + 1)) (lv' := [(3, .int (iI (↑(i + 1)))), (2, .int (iI (wkF G (i + 1)))), (0, .ref o), (1, .int (iI (↑k)))]) hX dX4_fallsAll_49 hl (k := 3) rfl (by omega) (by decide) rfl (fun ls hl => ?_)
                  refine lv_goto (tgt := 12) hx hb dX4_fallsAll_52 (by decide) ?_
                  exact ih12 (i + 1) (by omega) (by omega) _ _ _ hP hS (lv_sub hl [2, 3, 1, 0] rfl)
                · skip
                  have hlk2 := mLk_bd hG.1 hB (p := (wkF G i).toNat) (by omega)
                  refine lv_aload_n hx hb dX4_fallsAll_34 rfl (lv_at hl 0 rfl) ?_
                  refine W.eq (g2 := F0 m 35 ls [.ref o]) rfl ?_
                  refine lv_iload_n hx hb dX4_fallsAll_35 rfl (lv_at hl 3 rfl) ?_
                  refine m_calli (As := [.int (iI (↑i))]) (rest := []) hZ hX hK hD hA hE hP hS (c_lacks hZ (sA (sA σ 16 s1) 0 G) _ i _ ⟨rfl, by omega⟩) (cwV 1 hX.hts (lw_V q2085 q2087 qs53 q89 q2088) rfl rfl rfl (by decide +kernel) ⟨Nat.le_of_ble_eq_true rfl, Nat.le_of_ble_eq_true rfl⟩) rfl hl.1 (lv_room (Nat.le_of_ble_eq_true rfl)) dX4_fallsAll_36 ⟨Nat.le_refl _, Nat.le_refl _⟩ rfl (fun  H locs hP hS => ?_)
                  refine z_top (y := mLk G i) (by rw [sA_j]) ?_
                  refine lv_aload_n hx hb dX4_fallsAll_39 rfl (lv_at hl 0 rfl) ?_
                  refine lv_iload_n hx hb dX4_fallsAll_40 rfl (lv_at hl 2 rfl) ?_
                  refine m_calli (As := [.int (iI (wkF G i))]) (rest := [.int (iI (mLk G i))]) hZ hX hK hD hA hE hP hS (c_lacks hZ (sA (sA σ 16 s1) 0 G) _ ((wkF G i).toNat) _ (by omega)) (cwV 1 hX.hts (lw_V q2085 q2087 qs53 q89 q2088) rfl rfl rfl (by decide +kernel) ⟨Nat.le_of_ble_eq_true rfl, Nat.le_of_ble_eq_true rfl⟩) rfl hl.1 (lv_room (Nat.le_of_ble_eq_true rfl)) dX4_fallsAll_41 ⟨Nat.le_refl _, Nat.le_refl _⟩ rfl (fun  H locs hP hS => ?_)
                  refine z_top (y := mLk G ((wkF G i).toNat)) (by rw [sA_j]) ?_
                  refine z_icmp_le (tgt := 49) hX (by omega) dX4_fallsAll_44 (by decide) (fun c_44 => ?_) (fun c_44 => ?_)
                  · skip
                    refine z_iinc (y := ↑(i + 1)) (lv' := [(3, .int (iI (↑(i + 1)))), (0, .ref o), (1, .int (iI (↑k))), (2, .int (iI (wkF G i)))]) hX dX4_fallsAll_49 hl (k := 3) rfl (by omega) (by decide) rfl (fun ls hl => ?_)
                    refine lv_goto (tgt := 12) hx hb dX4_fallsAll_52 (by decide) ?_
                    rw [show wkF G i = wkF G (i + 1) from by (show _ = if _ then _ else _; rw [if_neg (by omega)])] at hl
                    exact ih12 (i + 1) (by omega) (by omega) _ _ _ hP hS (lv_sub hl [1, 2, 3, 0] rfl)
                  · skip
                    refine lv_iload_n hx hb dX4_fallsAll_47 rfl (lv_at hl 3 rfl) ?_
                    refine z_top (y := wkF G (i + 1)) (by show _ = if _ then _ else _; rw [if_pos (by omega)]) ?_
                    refine lv_istore_n (lv' := [(2, .int (iI (wkF G (i + 1)))), (0, .ref o), (1, .int (iI (↑k))), (3, .int (iI (↑i)))]) hx hb dX4_fallsAll_48 rfl hl (by decide) rfl (fun ls hl => ?_)
                    refine W.eq (g2 := F0 m 49 ls []) rfl ?_
                    refine z_iinc (y := ↑(i + 1)) (lv' := [(3, .int (iI (↑(i + 1)))), (2, .int (iI (wkF G (i + 1)))), (0, .ref o), (1, .int (iI (↑k)))]) hX dX4_fallsAll_49 hl (k := 3) rfl (by omega) (by decide) rfl (fun ls hl => ?_)
                    refine lv_goto (tgt := 12) hx hb dX4_fallsAll_52 (by decide) ?_
                    exact ih12 (i + 1) (by omega) (by omega) _ _ _ hP hS (lv_sub hl [2, 3, 1, 0] rfl)
        exact L12 (n0 + 1) (0) (by omega) (by omega) _ _ _ hP hS (lv_sub hl [2, 3, 1, 0] rfl)
  rw [show σ = sA (sA σ 16 (σ 16)) 0 (σ 0) from by rw [sA_self, sA_self]] at hP
  exact L4 (F + 1) (0) (F) (σ 0) (σ 16) (0) (by omega) (⟨hgo, hn.1, hFm⟩) (by rw [Nat.add_zero]) (by omega) _ _ _ hP hS (lv_sub hl [2, 1, 0] rfl)
