/-! the twin: consistency, the buffer, texts, undo -/
set_option maxRecDepth 100000
set_option maxHeartbeats 4000000 in
theorem c_isConsistent {l : Launch} {D : va_G} {Z : zZ} {o : Nat} {ad : Nat → Nat} {cA : Nat → ClassId} (hZ : zOk Z) (σ : zT) (sz : Nat) (n0 : Nat) (hn : σ 0 0 = n0 ∧ n0 ≤ 7) (B : Int) (hgo : gOk (σ 0) B) (hB : B ≤ 2000000) : MI l D Z o ad cA yX4_isConsistent (ws_ yX4_isConsistent cX4_isConsistent 6 (some .boolean)) { frames := 4, cells := 0, slots := 0, locals := 93 } [.ref o] sz (σ) (fI (1) ((uA σ 8 0 0))) := by
  refine w_met (cc := cX4_isConsistent) (maxL := 6) (ret := some .boolean) (own := RX4) (by decide) rfl rfl mW_ok (Nat.le_of_ble_eq_true rfl) ?_
  intro p e s m below meth c hX hsz hK hP hD hA hE hS hR ls hl
  have hx := hX.1
  have hb := hX.2.1
  have hl : lv_has ls 6 [(0, .ref o)] := hl
  refine lv_aload_n hx hb dX4_isConsistent_0 rfl (lv_at hl 0 rfl) ?_
  refine z_iconst hX dX4_isConsistent_1 ?_
  refine m_put hX hK hD hP hS 8 (by decide) q1916 rfl rfl rfl mW_f8 dX4_isConsistent_2 (fun H locs hP hS => ?_)
  refine z_iconst hX dX4_isConsistent_5 ?_
  refine z_top (y := sg (fun j => mNet (σ 0) j) 0) (rfl) ?_
  refine lv_istore_n (lv' := [(1, .int (iI (sg (fun j => mNet (σ 0) j) 0))), (0, .ref o)]) hx hb dX4_isConsistent_6 rfl hl (by decide) rfl (fun ls hl => ?_)
  refine z_iconst hX dX4_isConsistent_7 ?_
  refine lv_istore_n (lv' := [(2, .int (iI (1))), (1, .int (iI (sg (fun j => mNet (σ 0) j) 0))), (0, .ref o)]) hx hb dX4_isConsistent_8 rfl hl (by decide) rfl (fun ls hl => ?_)
  refine z_iconst hX dX4_isConsistent_9 ?_
  refine z_top (y := ↑(0 : Nat)) (rfl) ?_
  refine lv_istore_n (lv' := [(3, .int (iI (↑(0 : Nat)))), (2, .int (iI (1))), (1, .int (iI (sg (fun j => mNet (σ 0) j) 0))), (0, .ref o)]) hx hb dX4_isConsistent_10 rfl hl (by decide) rfl (fun ls hl => ?_)
  have L11 : ∀ (n : Nat) (k : Nat), (n0 < k + n) → (k ≤ n0) → ∀ (H : Heap) (locs : List Loc) (ls : Array Slot), va_P D vwCl (mW o ad cA (uA σ 8 0 0)) H → va_S (wA (mW o ad cA) sz) s.heap H locs → lv_has ls 6 [(0, .ref o), (1, .int (iI (sg (fun j => mNet (σ 0) j) k))), (2, .int (iI (1))), (3, .int (iI (↑k)))] → W p l e (headSpec (ws_ yX4_isConsistent cX4_isConsistent 6 (some .boolean)) { frames := 4, cells := 0, slots := 0, locals := 93 }).room s m ([.ref o] : List Value).toArray below meth c H locs 0 0 (MQ below (wQi D vwCl (mW o ad cA) (fI (1) ((uA σ 8 0 0))) sz) ([.ref o] : List Value).toArray s 0 0 (wA (mW o ad cA) sz)) (F0 m 11 ls []) := by
    intro n
    induction n with
    | zero =>
      intro k hf hk H locs ls hP hS hl
      exact absurd hf (by omega)
    | succ n ih11 =>
      intro k hf hk H locs ls hP hS hl
      refine W.eq (g2 := F0 m 11 ls []) rfl ?_
      refine lv_iload_n hx hb dX4_isConsistent_11 rfl (lv_at hl 3 rfl) ?_
      refine lv_aload_n hx hb dX4_isConsistent_12 rfl (lv_at hl 0 rfl) ?_
      refine m_get hX hK hP 0 (by decide) q1908 rfl dX4_isConsistent_13 ?_
      refine z_iconst hX dX4_isConsistent_16 ?_
      refine m_ld hX hK hP mW_e0 0 (by decide) (by decide) dX4_isConsistent_17 ?_
      refine z_top (y := σ 0 0) (by rw [uA_nj (by decide)]) ?_
      refine z_icmp_ge (tgt := 109) hX (by omega) dX4_isConsistent_18 (by decide) (fun c_18 => ?_) (fun c_18 => ?_)
      · skip
        obtain rfl : n0 = k := by omega
        have hz := mNet_0 hgo hn
        refine lv_iload_n hx hb dX4_isConsistent_109 rfl (lv_at hl 2 rfl) ?_
        refine z_if_eq (tgt := 121) hX (by decide) dX4_isConsistent_110 (by decide) (fun h9 => absurd h9 (by decide)) (fun h9 => ?_)
        refine lv_iload_n hx hb dX4_isConsistent_113 rfl (lv_at hl 1 rfl) ?_
        refine z_if_ne (tgt := 121) hX (by omega) dX4_isConsistent_114 (by decide) (fun c_114 => ?_) (fun c_114 => ?_)
        · exact absurd c_114 (by omega)
        · skip
          refine W.eq (g2 := F0 m 117 ls []) rfl ?_
          refine z_iconst hX dX4_isConsistent_117 ?_
          refine lv_goto (tgt := 122) hx hb dX4_isConsistent_118 (by decide) ?_
          exact w_zret hX hP hS (by decide) (⟨rfl, rfl⟩) dX4_isConsistent_122
      · skip
        refine z_iconst hX dX4_isConsistent_21 ?_
        refine z_top (y := sg (fun j => mSh (σ 0) k j) 0) (rfl) ?_
        refine lv_istore (lv' := [(4, .int (iI (sg (fun j => mSh (σ 0) k j) 0))), (0, .ref o), (1, .int (iI (sg (fun j => mNet (σ 0) j) k))), (2, .int (iI (1))), (3, .int (iI (↑k)))]) hx hb dX4_isConsistent_22 hl (by decide) rfl (fun ls hl => ?_)
        refine z_iconst hX dX4_isConsistent_24 ?_
        refine z_top (y := ↑(0 : Nat)) (rfl) ?_
        refine lv_istore (lv' := [(5, .int (iI (↑(0 : Nat)))), (4, .int (iI (sg (fun j => mSh (σ 0) k j) 0))), (0, .ref o), (1, .int (iI (sg (fun j => mNet (σ 0) j) k))), (2, .int (iI (1))), (3, .int (iI (↑k)))]) hx hb dX4_isConsistent_25 hl (by decide) rfl (fun ls hl => ?_)
        have L27 : ∀ (n : Nat) (i : Nat), (n0 < i + n) → (i ≤ n0) → ∀ (H : Heap) (locs : List Loc) (ls : Array Slot), va_P D vwCl (mW o ad cA (uA σ 8 0 0)) H → va_S (wA (mW o ad cA) sz) s.heap H locs → lv_has ls 6 [(0, .ref o), (1, .int (iI (sg (fun j => mNet (σ 0) j) k))), (2, .int (iI (1))), (3, .int (iI (↑k))), (4, .int (iI (sg (fun j => mSh (σ 0) k j) i))), (5, .int (iI (↑i)))] → W p l e (headSpec (ws_ yX4_isConsistent cX4_isConsistent 6 (some .boolean)) { frames := 4, cells := 0, slots := 0, locals := 93 }).room s m ([.ref o] : List Value).toArray below meth c H locs 0 0 (MQ below (wQi D vwCl (mW o ad cA) (fI (1) ((uA σ 8 0 0))) sz) ([.ref o] : List Value).toArray s 0 0 (wA (mW o ad cA) sz)) (F0 m 27 ls []) := by
          intro n
          induction n with
          | zero =>
            intro i hf hi H locs ls hP hS hl
            exact absurd hf (by omega)
          | succ n ih27 =>
            intro i hf hi H locs ls hP hS hl
            refine lv_iload hx hb dX4_isConsistent_27 (lv_at hl 5 rfl) ?_
            refine lv_aload_n hx hb dX4_isConsistent_29 rfl (lv_at hl 0 rfl) ?_
            refine m_get hX hK hP 0 (by decide) q1908 rfl dX4_isConsistent_30 ?_
            refine W.eq (g2 := F0 m 33 ls [.ref (ad 0), .int (iI (↑i))]) rfl ?_
            refine z_iconst hX dX4_isConsistent_33 ?_
            refine m_ld hX hK hP mW_e0 0 (by decide) (by decide) dX4_isConsistent_34 ?_
            refine z_top (y := σ 0 0) (by rw [uA_nj (by decide)]) ?_
            refine z_icmp_ge (tgt := 64) hX (by omega) dX4_isConsistent_35 (by decide) (fun c_35 => ?_) (fun c_35 => ?_)
            · skip
              refine lv_iload_n hx hb dX4_isConsistent_64 rfl (lv_at hl 2 rfl) ?_
              refine z_if_eq (tgt := 93) hX (by decide) dX4_isConsistent_65 (by decide) (fun h9 => absurd h9 (by decide)) (fun h9 => ?_)
              refine lv_aload_n hx hb dX4_isConsistent_68 rfl (lv_at hl 0 rfl) ?_
              refine lv_iload_n hx hb dX4_isConsistent_69 rfl (lv_at hl 3 rfl) ?_
              refine m_calli (As := [.int (iI (↑k))]) (rest := []) hZ hX hK hD hA hE hP hS (c_lacks hZ (uA σ 8 0 0) _ k _ ⟨rfl, by omega⟩) (cwV 1 hX.hts (lw_V q2085 q2087 qs53 q89 q2088) rfl rfl rfl (by decide +kernel) ⟨Nat.le_of_ble_eq_true rfl, Nat.le_of_ble_eq_true rfl⟩) rfl hl.1 (lv_room (Nat.le_of_ble_eq_true rfl)) dX4_isConsistent_70 ⟨Nat.le_refl _, Nat.le_refl _⟩ rfl (fun  H locs hP hS => ?_)
              refine z_top (y := mLk (σ 0) k) (by rw [uA_sA, sA_i (by decide)]) ?_
              have hlk := mLk_bd hgo hB (p := k) (by omega)
              refine z_if_le (tgt := 89) hX (by omega) dX4_isConsistent_73 (by decide) (fun c_73 => ?_) (fun c_73 => ?_)
              · skip
                refine z_iconst hX dX4_isConsistent_89 ?_
                refine lv_goto (tgt := 94) hx hb dX4_isConsistent_90 (by decide) ?_
                refine lv_istore_n (lv' := [(2, .int (iI (1))), (0, .ref o), (1, .int (iI (sg (fun j => mNet (σ 0) j) k))), (3, .int (iI (↑k))), (4, .int (iI (sg (fun j => mSh (σ 0) k j) i))), (5, .int (iI (↑i)))]) hx hb dX4_isConsistent_94 rfl hl (by decide) rfl (fun ls hl => ?_)
                refine lv_iload_n hx hb dX4_isConsistent_95 rfl (lv_at hl 2 rfl) ?_
                refine lv_aload_n hx hb dX4_isConsistent_96 rfl (lv_at hl 1 rfl) ?_
                refine lv_iload_n hx hb dX4_isConsistent_97 rfl (lv_at hl 3 rfl) ?_
                refine m_calli (As := [.int (iI (↑k))]) (rest := [.int (iI (sg (fun j => mNet (σ 0) j) k))]) hZ hX hK hD hA hE hP hS (c_net hZ (uA σ 8 0 0) _ k _ ⟨rfl, by omega⟩) (cwV 1 hX.hts (lw_V q2161 q2163 qs61 q89 q2164) rfl rfl rfl (by decide +kernel) ⟨Nat.le_of_ble_eq_true rfl, Nat.le_of_ble_eq_true rfl⟩) rfl hl.1 (lv_room (Nat.le_of_ble_eq_true rfl)) dX4_isConsistent_98 ⟨Nat.le_refl _, Nat.le_refl _⟩ rfl (fun  H locs hP hS => ?_)
                refine z_top (y := mNet (σ 0) k) (by rw [uA_sA, sA_i (by decide)]) ?_
                refine z_iadd hX dX4_isConsistent_101 ?_
                refine z_top (y := sg (fun j => mNet (σ 0) j) (k + 1)) (rfl) ?_
                refine lv_istore_n (lv' := [(1, .int (iI (sg (fun j => mNet (σ 0) j) (k + 1)))), (2, .int (iI (1))), (0, .ref o), (3, .int (iI (↑k))), (4, .int (iI (sg (fun j => mSh (σ 0) k j) i))), (5, .int (iI (↑i)))]) hx hb dX4_isConsistent_102 rfl hl (by decide) rfl (fun ls hl => ?_)
                refine z_iinc (y := ↑(k + 1)) (lv' := [(3, .int (iI (↑(k + 1)))), (1, .int (iI (sg (fun j => mNet (σ 0) j) (k + 1)))), (2, .int (iI (1))), (0, .ref o), (4, .int (iI (sg (fun j => mSh (σ 0) k j) i))), (5, .int (iI (↑i)))]) hX dX4_isConsistent_103 hl (k := 3) rfl (by omega) (by decide) rfl (fun ls hl => ?_)
                refine lv_goto (tgt := 11) hx hb dX4_isConsistent_106 (by decide) ?_
                exact ih11 (k + 1) (by omega) (by omega) _ _ _ hP hS (lv_sub hl [3, 1, 2, 0] rfl)
              · skip
                have hsum := mSh_sumn hgo hn (p := k) (by omega) (mLk_ob hgo (by omega) c_73)
                have hcs := hgo.2.1 k (by omega)
                obtain rfl : n0 = i := by omega
                refine W.eq (g2 := F0 m 76 ls []) rfl ?_
                refine lv_iload hx hb dX4_isConsistent_76 (lv_at hl 4 rfl) ?_
                refine lv_aload_n hx hb dX4_isConsistent_78 rfl (lv_at hl 0 rfl) ?_
                refine m_get hX hK hP 0 (by decide) q1908 rfl dX4_isConsistent_79 ?_
                refine z_iconst hX dX4_isConsistent_82 ?_
                refine lv_iload_n hx hb dX4_isConsistent_83 rfl (lv_at hl 3 rfl) ?_
                refine z_iadd hX dX4_isConsistent_84 ?_
                refine m_ld hX hK hP mW_e0 (5 + k) (by omega) (by decide) dX4_isConsistent_85 ?_
                refine z_top (y := σ 0 (5 + k)) (by rw [uA_nj (by decide)]) ?_
                refine z_icmp_ne (tgt := 93) hX (by omega) dX4_isConsistent_86 (by decide) (fun c_86 => ?_) (fun c_86 => ?_)
                · exact absurd c_86 (by omega)
                · skip
                  refine z_iconst hX dX4_isConsistent_89 ?_
                  refine lv_goto (tgt := 94) hx hb dX4_isConsistent_90 (by decide) ?_
                  refine W.eq (g2 := F0 m 94 ls [.int (iI (1))]) rfl ?_
                  refine lv_istore_n (lv' := [(2, .int (iI (1))), (0, .ref o), (1, .int (iI (sg (fun j => mNet (σ 0) j) k))), (3, .int (iI (↑k))), (4, .int (iI (sg (fun j => mSh (σ 0) k j) n0))), (5, .int (iI (↑n0)))]) hx hb dX4_isConsistent_94 rfl hl (by decide) rfl (fun ls hl => ?_)
                  refine lv_iload_n hx hb dX4_isConsistent_95 rfl (lv_at hl 2 rfl) ?_
                  refine lv_aload_n hx hb dX4_isConsistent_96 rfl (lv_at hl 1 rfl) ?_
                  refine lv_iload_n hx hb dX4_isConsistent_97 rfl (lv_at hl 3 rfl) ?_
                  refine m_calli (As := [.int (iI (↑k))]) (rest := [.int (iI (sg (fun j => mNet (σ 0) j) k))]) hZ hX hK hD hA hE hP hS (c_net hZ (uA σ 8 0 0) _ k _ ⟨rfl, by omega⟩) (cwV 1 hX.hts (lw_V q2161 q2163 qs61 q89 q2164) rfl rfl rfl (by decide +kernel) ⟨Nat.le_of_ble_eq_true rfl, Nat.le_of_ble_eq_true rfl⟩) rfl hl.1 (lv_room (Nat.le_of_ble_eq_true rfl)) dX4_isConsistent_98 ⟨Nat.le_refl _, Nat.le_refl _⟩ rfl (fun  H locs hP hS => ?_)
                  refine z_top (y := mNet (σ 0) k) (by rw [uA_sA, sA_i (by decide)]) ?_
                  refine z_iadd hX dX4_isConsistent_101 ?_
                  refine z_top (y := sg (fun j => mNet (σ 0) j) (k + 1)) (rfl) ?_
                  refine lv_istore_n (lv' := [(1, .int (iI (sg (fun j => mNet (σ 0) j) (k + 1)))), (2, .int (iI (1))), (0, .ref o), (3, .int (iI (↑k))), (4, .int (iI (sg (fun j => mSh (σ 0) k j) n0))), (5, .int (iI (↑n0)))]) hx hb dX4_isConsistent_102 rfl hl (by decide) rfl (fun ls hl => ?_)
                  refine z_iinc (y := ↑(k + 1)) (lv' := [(3, .int (iI (↑(k + 1)))), (1, .int (iI (sg (fun j => mNet (σ 0) j) (k + 1)))), (2, .int (iI (1))), (0, .ref o), (4, .int (iI (sg (fun j => mSh (σ 0) k j) n0))), (5, .int (iI (↑n0)))]) hX dX4_isConsistent_103 hl (k := 3) rfl (by omega) (by decide) rfl (fun ls hl => ?_)
                  refine lv_goto (tgt := 11) hx hb dX4_isConsistent_106 (by decide) ?_
                  exact ih11 (k + 1) (by omega) (by omega) _ _ _ hP hS (lv_sub hl [3, 1, 2, 0] rfl)
            · skip
              refine lv_aload_n hx hb dX4_isConsistent_38 rfl (lv_at hl 0 rfl) ?_
              refine W.eq (g2 := F0 m 39 ls [.ref o]) rfl ?_
              refine lv_iload_n hx hb dX4_isConsistent_39 rfl (lv_at hl 3 rfl) ?_
              refine m_calli (As := [.int (iI (↑k))]) (rest := []) hZ hX hK hD hA hE hP hS (c_lacks hZ (uA σ 8 0 0) _ k _ ⟨rfl, by omega⟩) (cwV 1 hX.hts (lw_V q2085 q2087 qs53 q89 q2088) rfl rfl rfl (by decide +kernel) ⟨Nat.le_of_ble_eq_true rfl, Nat.le_of_ble_eq_true rfl⟩) rfl hl.1 (lv_room (Nat.le_of_ble_eq_true rfl)) dX4_isConsistent_40 ⟨Nat.le_refl _, Nat.le_refl _⟩ rfl (fun  H locs hP hS => ?_)
              refine z_top (y := mLk (σ 0) k) (by rw [uA_sA, sA_i (by decide)]) ?_
              have hlk := mLk_bd hgo hB (p := k) (by omega)
              refine z_if_le (tgt := 64) hX (by omega) dX4_isConsistent_43 (by decide) (fun c_43 => ?_) (fun c_43 => ?_)
              · skip
                refine lv_iload_n hx hb dX4_isConsistent_64 rfl (lv_at hl 2 rfl) ?_
                refine z_if_eq (tgt := 93) hX (by decide) dX4_isConsistent_65 (by decide) (fun h9 => absurd h9 (by decide)) (fun h9 => ?_)
                refine lv_aload_n hx hb dX4_isConsistent_68 rfl (lv_at hl 0 rfl) ?_
                refine lv_iload_n hx hb dX4_isConsistent_69 rfl (lv_at hl 3 rfl) ?_
                refine m_calli (As := [.int (iI (↑k))]) (rest := []) hZ hX hK hD hA hE hP hS (c_lacks hZ (uA σ 8 0 0) _ k _ ⟨rfl, by omega⟩) (cwV 1 hX.hts (lw_V q2085 q2087 qs53 q89 q2088) rfl rfl rfl (by decide +kernel) ⟨Nat.le_of_ble_eq_true rfl, Nat.le_of_ble_eq_true rfl⟩) rfl hl.1 (lv_room (Nat.le_of_ble_eq_true rfl)) dX4_isConsistent_70 ⟨Nat.le_refl _, Nat.le_refl _⟩ rfl (fun  H locs hP hS => ?_)
                refine z_top (y := mLk (σ 0) k) (by rw [uA_sA, sA_i (by decide)]) ?_
                have hlk := mLk_bd hgo hB (p := k) (by omega)
                refine z_if_le (tgt := 89) hX (by omega) dX4_isConsistent_73 (by decide) (fun c_73 => ?_) (fun c_73 => ?_)
                · skip
                  refine z_iconst hX dX4_isConsistent_89 ?_
                  refine lv_goto (tgt := 94) hx hb dX4_isConsistent_90 (by decide) ?_
                  refine lv_istore_n (lv' := [(2, .int (iI (1))), (0, .ref o), (1, .int (iI (sg (fun j => mNet (σ 0) j) k))), (3, .int (iI (↑k))), (4, .int (iI (sg (fun j => mSh (σ 0) k j) i))), (5, .int (iI (↑i)))]) hx hb dX4_isConsistent_94 rfl hl (by decide) rfl (fun ls hl => ?_)
                  refine lv_iload_n hx hb dX4_isConsistent_95 rfl (lv_at hl 2 rfl) ?_
                  refine lv_aload_n hx hb dX4_isConsistent_96 rfl (lv_at hl 1 rfl) ?_
                  refine lv_iload_n hx hb dX4_isConsistent_97 rfl (lv_at hl 3 rfl) ?_
                  refine m_calli (As := [.int (iI (↑k))]) (rest := [.int (iI (sg (fun j => mNet (σ 0) j) k))]) hZ hX hK hD hA hE hP hS (c_net hZ (uA σ 8 0 0) _ k _ ⟨rfl, by omega⟩) (cwV 1 hX.hts (lw_V q2161 q2163 qs61 q89 q2164) rfl rfl rfl (by decide +kernel) ⟨Nat.le_of_ble_eq_true rfl, Nat.le_of_ble_eq_true rfl⟩) rfl hl.1 (lv_room (Nat.le_of_ble_eq_true rfl)) dX4_isConsistent_98 ⟨Nat.le_refl _, Nat.le_refl _⟩ rfl (fun  H locs hP hS => ?_)
                  refine z_top (y := mNet (σ 0) k) (by rw [uA_sA, sA_i (by decide)]) ?_
                  refine z_iadd hX dX4_isConsistent_101 ?_
                  refine z_top (y := sg (fun j => mNet (σ 0) j) (k + 1)) (rfl) ?_
                  refine lv_istore_n (lv' := [(1, .int (iI (sg (fun j => mNet (σ 0) j) (k + 1)))), (2, .int (iI (1))), (0, .ref o), (3, .int (iI (↑k))), (4, .int (iI (sg (fun j => mSh (σ 0) k j) i))), (5, .int (iI (↑i)))]) hx hb dX4_isConsistent_102 rfl hl (by decide) rfl (fun ls hl => ?_)
                  refine z_iinc (y := ↑(k + 1)) (lv' := [(3, .int (iI (↑(k + 1)))), (1, .int (iI (sg (fun j => mNet (σ 0) j) (k + 1)))), (2, .int (iI (1))), (0, .ref o), (4, .int (iI (sg (fun j => mSh (σ 0) k j) i))), (5, .int (iI (↑i)))]) hX dX4_isConsistent_103 hl (k := 3) rfl (by omega) (by decide) rfl (fun ls hl => ?_)
                  refine lv_goto (tgt := 11) hx hb dX4_isConsistent_106 (by decide) ?_
                  exact ih11 (k + 1) (by omega) (by omega) _ _ _ hP hS (lv_sub hl [3, 1, 2, 0] rfl)
                · skip
                  have hsum := mSh_sumn hgo hn (p := k) (by omega) (mLk_ob hgo (by omega) c_73)
                  have hcs := hgo.2.1 k (by omega)
                  obtain rfl : n0 = i := by omega
                  refine W.eq (g2 := F0 m 76 ls []) rfl ?_
                  refine lv_iload hx hb dX4_isConsistent_76 (lv_at hl 4 rfl) ?_
                  refine lv_aload_n hx hb dX4_isConsistent_78 rfl (lv_at hl 0 rfl) ?_
                  refine m_get hX hK hP 0 (by decide) q1908 rfl dX4_isConsistent_79 ?_
                  refine z_iconst hX dX4_isConsistent_82 ?_
                  refine lv_iload_n hx hb dX4_isConsistent_83 rfl (lv_at hl 3 rfl) ?_
                  refine z_iadd hX dX4_isConsistent_84 ?_
                  refine m_ld hX hK hP mW_e0 (5 + k) (by omega) (by decide) dX4_isConsistent_85 ?_
                  refine z_top (y := σ 0 (5 + k)) (by rw [uA_nj (by decide)]) ?_
                  refine z_icmp_ne (tgt := 93) hX (by omega) dX4_isConsistent_86 (by decide) (fun c_86 => ?_) (fun c_86 => ?_)
                  · exact absurd c_86 (by omega)
                  · skip
                    refine z_iconst hX dX4_isConsistent_89 ?_
                    refine lv_goto (tgt := 94) hx hb dX4_isConsistent_90 (by decide) ?_
                    refine W.eq (g2 := F0 m 94 ls [.int (iI (1))]) rfl ?_
                    refine lv_istore_n (lv' := [(2, .int (iI (1))), (0, .ref o), (1, .int (iI (sg (fun j => mNet (σ 0) j) k))), (3, .int (iI (↑k))), (4, .int (iI (sg (fun j => mSh (σ 0) k j) n0))), (5, .int (iI (↑n0)))]) hx hb dX4_isConsistent_94 rfl hl (by decide) rfl (fun ls hl => ?_)
                    refine lv_iload_n hx hb dX4_isConsistent_95 rfl (lv_at hl 2 rfl) ?_
                    refine lv_aload_n hx hb dX4_isConsistent_96 rfl (lv_at hl 1 rfl) ?_
                    refine lv_iload_n hx hb dX4_isConsistent_97 rfl (lv_at hl 3 rfl) ?_
                    refine m_calli (As := [.int (iI (↑k))]) (rest := [.int (iI (sg (fun j => mNet (σ 0) j) k))]) hZ hX hK hD hA hE hP hS (c_net hZ (uA σ 8 0 0) _ k _ ⟨rfl, by omega⟩) (cwV 1 hX.hts (lw_V q2161 q2163 qs61 q89 q2164) rfl rfl rfl (by decide +kernel) ⟨Nat.le_of_ble_eq_true rfl, Nat.le_of_ble_eq_true rfl⟩) rfl hl.1 (lv_room (Nat.le_of_ble_eq_true rfl)) dX4_isConsistent_98 ⟨Nat.le_refl _, Nat.le_refl _⟩ rfl (fun  H locs hP hS => ?_)
                    refine z_top (y := mNet (σ 0) k) (by rw [uA_sA, sA_i (by decide)]) ?_
                    refine z_iadd hX dX4_isConsistent_101 ?_
                    refine z_top (y := sg (fun j => mNet (σ 0) j) (k + 1)) (rfl) ?_
                    refine lv_istore_n (lv' := [(1, .int (iI (sg (fun j => mNet (σ 0) j) (k + 1)))), (2, .int (iI (1))), (0, .ref o), (3, .int (iI (↑k))), (4, .int (iI (sg (fun j => mSh (σ 0) k j) n0))), (5, .int (iI (↑n0)))]) hx hb dX4_isConsistent_102 rfl hl (by decide) rfl (fun ls hl => ?_)
                    refine z_iinc (y := ↑(k + 1)) (lv' := [(3, .int (iI (↑(k + 1)))), (1, .int (iI (sg (fun j => mNet (σ 0) j) (k + 1)))), (2, .int (iI (1))), (0, .ref o), (4, .int (iI (sg (fun j => mSh (σ 0) k j) n0))), (5, .int (iI (↑n0)))]) hX dX4_isConsistent_103 hl (k := 3) rfl (by omega) (by decide) rfl (fun ls hl => ?_)
                    refine lv_goto (tgt := 11) hx hb dX4_isConsistent_106 (by decide) ?_
                    exact ih11 (k + 1) (by omega) (by omega) _ _ _ hP hS (lv_sub hl [3, 1, 2, 0] rfl)
              · skip
                refine lv_iload hx hb dX4_isConsistent_46 (lv_at hl 4 rfl) ?_
                refine W.eq (g2 := F0 m 48 ls [.int (iI (sg (fun j => mSh (σ 0) k j) i))]) rfl ?_
                refine lv_aload_n hx hb dX4_isConsistent_48 rfl (lv_at hl 0 rfl) ?_
                refine lv_iload_n hx hb dX4_isConsistent_49 rfl (lv_at hl 3 rfl) ?_
                refine lv_iload hx hb dX4_isConsistent_50 (lv_at hl 5 rfl) ?_
                refine m_calli (As := [.int (iI (↑k)), .int (iI (↑i))]) (rest := [.int (iI (sg (fun j => mSh (σ 0) k j) i))]) hZ hX hK hD hA hE hP hS (c_share hZ (uA σ 8 0 0) _ k i _ _ ⟨rfl, by omega⟩ ⟨rfl, by omega⟩ (by rw [uA_sA, sA_i (by decide)]; exact mLk_ob hgo (by omega) c_43) B (by rw [uA_sA, sA_i (by decide)]; exact hgo) hB) (cwV 2 hX.hts (lw_V q2101 q2103 qs57 q89 q2104) rfl rfl rfl (by decide +kernel) ⟨Nat.le_of_ble_eq_true rfl, Nat.le_of_ble_eq_true rfl⟩) rfl hl.1 (lv_room (Nat.le_of_ble_eq_true rfl)) dX4_isConsistent_52 ⟨Nat.le_refl _, Nat.le_refl _⟩ rfl (fun  H locs hP hS => ?_)
                refine z_top (y := mSh (σ 0) k i) (by rw [uA_sA, sA_i (by decide)]) ?_
                refine z_iadd hX dX4_isConsistent_55 ?_
                refine z_top (y := sg (fun j => mSh (σ 0) k j) (i + 1)) (rfl) ?_
                refine lv_istore (lv' := [(4, .int (iI (sg (fun j => mSh (σ 0) k j) (i + 1)))), (0, .ref o), (1, .int (iI (sg (fun j => mNet (σ 0) j) k))), (2, .int (iI (1))), (3, .int (iI (↑k))), (5, .int (iI (↑i)))]) hx hb dX4_isConsistent_56 hl (by decide) rfl (fun ls hl => ?_)
                refine z_iinc (y := ↑(i + 1)) (lv' := [(5, .int (iI (↑(i + 1)))), (4, .int (iI (sg (fun j => mSh (σ 0) k j) (i + 1)))), (0, .ref o), (1, .int (iI (sg (fun j => mNet (σ 0) j) k))), (2, .int (iI (1))), (3, .int (iI (↑k)))]) hX dX4_isConsistent_58 hl (k := 5) rfl (by omega) (by decide) rfl (fun ls hl => ?_)
                refine lv_goto (tgt := 27) hx hb dX4_isConsistent_61 (by decide) ?_
                exact ih27 (i + 1) (by omega) (by omega) _ _ _ hP hS (lv_sub hl [2, 3, 4, 5, 1, 0] rfl)
        exact L27 (n0 + 1) (0) (by omega) (by omega) _ _ _ hP hS (lv_sub hl [2, 3, 4, 5, 1, 0] rfl)
  exact L11 (n0 + 1) (0) (by omega) (by omega) _ _ _ hP hS (lv_sub hl [3, 2, 1, 0] rfl)
set_option maxHeartbeats 4000000 in
theorem c_append {l : Launch} {D : va_G} {Z : zZ} {o : Nat} {ad : Nat → Nat} {cA : Nat → ClassId} (hZ : zOk Z) (σ : zT) (sz : Nat) (P : Int) (hP0 : 0 ≤ P ∧ P < 65536) (n10 : Nat) (h10 : σ 10 0 = n10 ∧ n10 ≤ 60) : MI l D Z o ad cA yX4_append (ws_ yX4_append cX4_append 2 (some .int)) { frames := 1, cells := 0, slots := 0, locals := 21 } [.ref o, .int (iI (P))] sz (σ) (fR ((appR σ n10 P))) := by
  refine w_met (cc := cX4_append) (maxL := 2) (ret := some .int) (own := RX4) (by decide) rfl rfl mW_ok (Nat.le_of_ble_eq_true rfl) ?_
  intro p e s m below meth c hX hsz hK hP hD hA hE hS hR ls hl
  have hx := hX.1
  have hb := hX.2.1
  have hl : lv_has ls 2 [(0, .ref o), (1, .int (iI (P)))] := hl
  refine lv_aload_n hx hb dX4_append_0 rfl (lv_at hl 0 rfl) ?_
  refine lv_aload_n hx hb dX4_append_1 rfl (lv_at hl 0 rfl) ?_
  refine m_get hX hK hP 10 (by decide) q1918 rfl dX4_append_2 ?_
  refine z_bipush hX dX4_append_5 (by decide) ?_
  refine z_icmp_ne (tgt := 14) hX (by omega) dX4_append_7 (by decide) (fun c_7 => ?_) (fun c_7 => ?_)
  · skip
    refine z_iconst hX dX4_append_14 ?_
    refine m_calli (As := [.int (iI (0))]) (rest := []) hZ hX hK hD hA hE hP hS (c_fails hZ (σ) _ (0) (by omega)) (cwV 1 hX.hts (lw_V q1987 q1989 qs42 q89 q1990) rfl rfl rfl (by decide +kernel) ⟨Nat.le_of_ble_eq_true rfl, Nat.le_of_ble_eq_true rfl⟩) rfl hl.1 (lv_room (Nat.le_of_ble_eq_true rfl)) dX4_append_15 ⟨Nat.le_refl _, Nat.le_refl _⟩ rfl (fun  H locs hP hS => ?_)
    refine z_if_eqB (tgt := 23) hX dX4_append_18 (by decide) (fun h9 => ?_) (fun h9 => absurd h9 (by decide))
    refine lv_aload_n hx hb dX4_append_23 rfl (lv_at hl 0 rfl) ?_
    refine W.eq (g2 := F0 m 24 ls [.ref o]) rfl ?_
    refine m_get hX hK hP 9 (by decide) q1917 rfl dX4_append_24 ?_
    refine lv_aload_n hx hb dX4_append_27 rfl (lv_at hl 0 rfl) ?_
    refine m_get hX hK hP 10 (by decide) q1918 rfl dX4_append_28 ?_
    refine z_top (y := σ 10 0) (by rw [uA_nj (by decide)]) ?_
    refine lv_iload_n hx hb dX4_append_31 rfl (lv_at hl 1 rfl) ?_
    refine m_st hX hK hD hP hS mW_e9 n10 mW_s9 (by omega) (by decide) dX4_append_32 (fun H locs hP hS => ?_)
    refine lv_aload_n hx hb dX4_append_33 rfl (lv_at hl 0 rfl) ?_
    refine lv_dup hx hb dX4_append_34 rfl ?_
    refine m_get hX hK hP 10 (by decide) q1918 rfl dX4_append_35 ?_
    refine z_top (y := σ 10 0) (by rw [uA_nj (by decide), uA_nj (by decide)]) ?_
    refine z_iconst hX dX4_append_38 ?_
    refine z_iadd hX dX4_append_39 ?_
    refine W.eq (g2 := F0 m 40 ls [.int (iI ((σ 10 0) + 1)), .ref o]) rfl ?_
    refine m_put hX hK hD hP hS 10 (by decide) q1918 rfl rfl rfl mW_f10 dX4_append_40 (fun H locs hP hS => ?_)
    refine lv_aload_n hx hb dX4_append_43 rfl (lv_at hl 0 rfl) ?_
    refine m_get hX hK hP 10 (by decide) q1918 rfl dX4_append_44 ?_
    refine z_top (y := (σ 10 0) + 1) (by rw [uA_eq]) ?_
    exact w_iret hX hP hS (⟨_, rfl, Or.inr ⟨by omega, by rw [h10.1], by rw [h10.1]⟩⟩) dX4_append_47
  · skip
    refine z_iconst hX dX4_append_10 ?_
    refine lv_goto (tgt := 15) hx hb dX4_append_11 (by decide) ?_
    refine m_calli (As := [.int (iI (1))]) (rest := []) hZ hX hK hD hA hE hP hS (c_fails hZ (σ) _ (1) (by omega)) (cwV 1 hX.hts (lw_V q1987 q1989 qs42 q89 q1990) rfl rfl rfl (by decide +kernel) ⟨Nat.le_of_ble_eq_true rfl, Nat.le_of_ble_eq_true rfl⟩) rfl hl.1 (lv_room (Nat.le_of_ble_eq_true rfl)) dX4_append_15 ⟨Nat.le_refl _, Nat.le_refl _⟩ rfl (fun  H locs hP hS => ?_)
    refine z_if_eqB (tgt := 23) hX dX4_append_18 (by decide) (fun h9 => absurd h9 (by decide)) (fun h9 => ?_)
    refine z_iconst hX dX4_append_21 ?_
    exact w_iret hX hP hS (⟨0, rfl, Or.inl ⟨by omega, rfl, rfl⟩⟩) dX4_append_22
set_option maxHeartbeats 4000000 in
theorem c_errorPosition {l : Launch} {D : va_G} {Z : zZ} {o : Nat} {ad : Nat → Nat} {cA : Nat → ClassId} (hZ : zOk Z) (σ : zT) (sz : Nat) (hv : (-2147483648 ≤ σ 11 0 ∧ σ 11 0 ≤ 2147483647)) : MI l D Z o ad cA yX4_errorPosition (ws_ yX4_errorPosition cX4_errorPosition 1 (some .int)) { frames := 1, cells := 0, slots := 0, locals := 21 } [.ref o] sz (σ) (fR ((qcR σ (bI (σ 11 0 < 0)) (σ 11 0)))) := by
  refine w_met (cc := cX4_errorPosition) (maxL := 1) (ret := some .int) (own := RX4) (by decide) rfl rfl mW_ok (Nat.le_of_ble_eq_true rfl) ?_
  intro p e s m below meth c hX hsz hK hP hD hA hE hS hR ls hl
  have hx := hX.1
  have hb := hX.2.1
  have hl : lv_has ls 1 [(0, .ref o)] := hl
  refine lv_aload_n hx hb dX4_errorPosition_0 rfl (lv_at hl 0 rfl) ?_
  refine lv_aload_n hx hb dX4_errorPosition_1 rfl (lv_at hl 0 rfl) ?_
  refine m_get hX hK hP 11 (by decide) q1919 rfl dX4_errorPosition_2 ?_
  refine z_if_ge (tgt := 12) hX (by omega) dX4_errorPosition_5 (by decide) (fun c_5 => ?_) (fun c_5 => ?_)
  · skip
    refine z_iconst hX dX4_errorPosition_12 ?_
    refine m_calli (As := [.int (iI (0))]) (rest := []) hZ hX hK hD hA hE hP hS (c_fails hZ (σ) _ (0) (by omega)) (cwV 1 hX.hts (lw_V q1987 q1989 qs42 q89 q1990) rfl rfl rfl (by decide +kernel) ⟨Nat.le_of_ble_eq_true rfl, Nat.le_of_ble_eq_true rfl⟩) rfl hl.1 (lv_room (Nat.le_of_ble_eq_true rfl)) dX4_errorPosition_13 ⟨Nat.le_refl _, Nat.le_refl _⟩ rfl (fun  H locs hP hS => ?_)
    refine z_if_eqB (tgt := 23) hX dX4_errorPosition_16 (by decide) (fun h9 => ?_) (fun h9 => absurd h9 (by decide))
    refine lv_aload_n hx hb dX4_errorPosition_23 rfl (lv_at hl 0 rfl) ?_
    refine m_get hX hK hP 11 (by decide) q1919 rfl dX4_errorPosition_24 ?_
    refine z_top (y := σ 11 0) (by rw [uA_nj (by decide)]) ?_
    refine W.eq (g2 := F0 m 27 ls [.int (iI (σ 11 0))]) rfl ?_
    exact w_iret hX hP hS (qcR_t (bI_f (by omega))) dX4_errorPosition_27
  · skip
    refine z_iconst hX dX4_errorPosition_8 ?_
    refine lv_goto (tgt := 13) hx hb dX4_errorPosition_9 (by decide) ?_
    refine m_calli (As := [.int (iI (1))]) (rest := []) hZ hX hK hD hA hE hP hS (c_fails hZ (σ) _ (1) (by omega)) (cwV 1 hX.hts (lw_V q1987 q1989 qs42 q89 q1990) rfl rfl rfl (by decide +kernel) ⟨Nat.le_of_ble_eq_true rfl, Nat.le_of_ble_eq_true rfl⟩) rfl hl.1 (lv_room (Nat.le_of_ble_eq_true rfl)) dX4_errorPosition_13 ⟨Nat.le_refl _, Nat.le_refl _⟩ rfl (fun  H locs hP hS => ?_)
    refine z_if_eqB (tgt := 23) hX dX4_errorPosition_16 (by decide) (fun h9 => absurd h9 (by decide)) (fun h9 => ?_)
    refine z_iconst hX dX4_errorPosition_19 ?_
    refine lv_goto (tgt := 27) hx hb dX4_errorPosition_20 (by decide) ?_
    exact w_iret hX hP hS (qcR_f (bI_t c_5) (by decide)) dX4_errorPosition_27
set_option maxHeartbeats 4000000 in
theorem c_failedCommand {l : Launch} {D : va_G} {Z : zZ} {o : Nat} {ad : Nat → Nat} {cA : Nat → ClassId} (hZ : zOk Z) (σ : zT) (sz : Nat) (hv : (-2147483648 ≤ σ 12 0 ∧ σ 12 0 ≤ 2147483647)) : MI l D Z o ad cA yX4_failedCommand (ws_ yX4_failedCommand cX4_failedCommand 1 (some .int)) { frames := 1, cells := 0, slots := 0, locals := 21 } [.ref o] sz (σ) (fR ((qcR σ (bI (σ 12 0 < 0)) (σ 12 0)))) := by
  refine w_met (cc := cX4_failedCommand) (maxL := 1) (ret := some .int) (own := RX4) (by decide) rfl rfl mW_ok (Nat.le_of_ble_eq_true rfl) ?_
  intro p e s m below meth c hX hsz hK hP hD hA hE hS hR ls hl
  have hx := hX.1
  have hb := hX.2.1
  have hl : lv_has ls 1 [(0, .ref o)] := hl
  refine lv_aload_n hx hb dX4_failedCommand_0 rfl (lv_at hl 0 rfl) ?_
  refine lv_aload_n hx hb dX4_failedCommand_1 rfl (lv_at hl 0 rfl) ?_
  refine m_get hX hK hP 12 (by decide) q1920 rfl dX4_failedCommand_2 ?_
  refine z_if_ge (tgt := 12) hX (by omega) dX4_failedCommand_5 (by decide) (fun c_5 => ?_) (fun c_5 => ?_)
  · skip
    refine z_iconst hX dX4_failedCommand_12 ?_
    refine m_calli (As := [.int (iI (0))]) (rest := []) hZ hX hK hD hA hE hP hS (c_fails hZ (σ) _ (0) (by omega)) (cwV 1 hX.hts (lw_V q1987 q1989 qs42 q89 q1990) rfl rfl rfl (by decide +kernel) ⟨Nat.le_of_ble_eq_true rfl, Nat.le_of_ble_eq_true rfl⟩) rfl hl.1 (lv_room (Nat.le_of_ble_eq_true rfl)) dX4_failedCommand_13 ⟨Nat.le_refl _, Nat.le_refl _⟩ rfl (fun  H locs hP hS => ?_)
    refine z_if_eqB (tgt := 23) hX dX4_failedCommand_16 (by decide) (fun h9 => ?_) (fun h9 => absurd h9 (by decide))
    refine lv_aload_n hx hb dX4_failedCommand_23 rfl (lv_at hl 0 rfl) ?_
    refine m_get hX hK hP 12 (by decide) q1920 rfl dX4_failedCommand_24 ?_
    refine z_top (y := σ 12 0) (by rw [uA_nj (by decide)]) ?_
    refine W.eq (g2 := F0 m 27 ls [.int (iI (σ 12 0))]) rfl ?_
    exact w_iret hX hP hS (qcR_t (bI_f (by omega))) dX4_failedCommand_27
  · skip
    refine z_iconst hX dX4_failedCommand_8 ?_
    refine lv_goto (tgt := 13) hx hb dX4_failedCommand_9 (by decide) ?_
    refine m_calli (As := [.int (iI (1))]) (rest := []) hZ hX hK hD hA hE hP hS (c_fails hZ (σ) _ (1) (by omega)) (cwV 1 hX.hts (lw_V q1987 q1989 qs42 q89 q1990) rfl rfl rfl (by decide +kernel) ⟨Nat.le_of_ble_eq_true rfl, Nat.le_of_ble_eq_true rfl⟩) rfl hl.1 (lv_room (Nat.le_of_ble_eq_true rfl)) dX4_failedCommand_13 ⟨Nat.le_refl _, Nat.le_refl _⟩ rfl (fun  H locs hP hS => ?_)
    refine z_if_eqB (tgt := 23) hX dX4_failedCommand_16 (by decide) (fun h9 => absurd h9 (by decide)) (fun h9 => ?_)
    refine z_iconst hX dX4_failedCommand_19 ?_
    refine lv_goto (tgt := 27) hx hb dX4_failedCommand_20 (by decide) ?_
    exact w_iret hX hP hS (qcR_f (bI_t c_5) (by decide)) dX4_failedCommand_27
set_option maxHeartbeats 4000000 in
theorem c_writes {l : Launch} {D : va_G} {Z : zZ} {o : Nat} {ad : Nat → Nat} {cA : Nat → ClassId} (hZ : zOk Z) (σ : zT) (sz : Nat) (ch k : Nat) (hch : ch < 65536) (hk : σ 14 0 = k ∧ k < 80) (E1 : Int) (hE1 : E1 = (ch : Int)) : MV l D Z o ad cA yX4_writes (ws_ yX4_writes cX4_writes 2 (none)) { frames := 0, cells := 0, slots := 0, locals := 0 } [.ref o, .int (iI (E1))] sz (σ) (fV (wr1 σ ch)) := by
  obtain rfl := hE1
  refine w_met (cc := cX4_writes) (maxL := 2) (ret := none) (own := RX4) (by decide) rfl rfl mW_ok (Nat.le_of_ble_eq_true rfl) ?_
  intro p e s m below meth c hX hsz hK hP hD hA hE hS hR ls hl
  have hx := hX.1
  have hb := hX.2.1
  have hl : lv_has ls 2 [(0, .ref o), (1, .int (iI (↑ch)))] := hl
  refine lv_aload_n hx hb dX4_writes_0 rfl (lv_at hl 0 rfl) ?_
  refine m_get hX hK hP 13 (by decide) q1921 rfl dX4_writes_1 ?_
  refine lv_aload_n hx hb dX4_writes_4 rfl (lv_at hl 0 rfl) ?_
  refine m_get hX hK hP 14 (by decide) q1922 rfl dX4_writes_5 ?_
  refine lv_iload_n hx hb dX4_writes_8 rfl (lv_at hl 1 rfl) ?_
  refine z_i2c hX (ch := ch) (hch) dX4_writes_9 ?_
  refine m_cst hX hK hD hP hS ((σ 14 0).toNat) (ch := ch) (hch) (by omega) dX4_writes_10 (fun H locs hP hS => ?_)
  refine lv_aload_n hx hb dX4_writes_11 rfl (lv_at hl 0 rfl) ?_
  refine lv_dup hx hb dX4_writes_12 rfl ?_
  refine W.eq (g2 := F0 m 13 ls [.ref o, .ref o]) rfl ?_
  refine m_get hX hK hP 14 (by decide) q1922 rfl dX4_writes_13 ?_
  refine z_top (y := σ 14 0) (by rw [uA_nj (by decide)]) ?_
  refine z_iconst hX dX4_writes_16 ?_
  refine z_iadd hX dX4_writes_17 ?_
  refine m_put hX hK hD hP hS 14 (by decide) q1922 rfl rfl rfl mW_f14 dX4_writes_18 (fun H locs hP hS => ?_)
  exact w_vret hX hP hS (rfl) dX4_writes_21
set_option maxHeartbeats 4000000 in
theorem c_writesNumber_0 {l : Launch} {D : va_G} {Z : zZ} {o : Nat} {ad : Nat → Nat} {cA : Nat → ClassId} (hZ : zOk Z) (σ : zT) (sz : Nat) (v : Nat) (E1 : Int) (hE1 : E1 = (v : Int)) (hv : v < 10 ^ (0 + 1)) (hv2 : v < 2147483648) (k : Nat) (hk : σ 14 0 = k ∧ k + (decL 0 v).length ≤ 80) : MV l D Z o ad cA yX4_writesNumber (ws_ yX4_writesNumber cX4_writesNumber 2 (none)) { frames := 0 + 1, cells := 0, slots := 0, locals := 21 + 21 * (0) } [.ref o, .int (iI (E1))] sz (σ) (fV (wrL σ (decL 0 v))) := by
  obtain rfl := hE1
  refine w_met (cc := cX4_writesNumber) (maxL := 2) (ret := none) (own := RX4) (by decide) rfl rfl mW_ok (Nat.le_of_ble_eq_true rfl) ?_
  intro p e s m below meth c hX hsz hK hP hD hA hE hS hR ls hl
  have hx := hX.1
  have hb := hX.2.1
  have hl : lv_has ls 2 [(0, .ref o), (1, .int (iI (↑v)))] := hl
  refine lv_iload_n hx hb dX4_writesNumber_0 rfl (lv_at hl 1 rfl) ?_
  refine z_bipush hX dX4_writesNumber_1 (by decide) ?_
  refine z_icmp_le (tgt := 14) hX (by omega) dX4_writesNumber_3 (by decide) (fun c_3 => ?_) (fun c_3 => ?_)
  · skip
    refine lv_aload_n hx hb dX4_writesNumber_14 rfl (lv_at hl 0 rfl) ?_
    refine z_bipush hX dX4_writesNumber_15 (by decide) ?_
    refine lv_iload_n hx hb dX4_writesNumber_17 rfl (lv_at hl 1 rfl) ?_
    refine z_bipush hX dX4_writesNumber_18 (by decide) ?_
    refine z_irem hX dX4_writesNumber_20 (by omega) ?_
    refine z_iadd hX dX4_writesNumber_21 ?_
    refine W.eq (g2 := F0 m 22 ls [.int (iI (48 + ((↑v) % (10)))), .ref o]) rfl ?_
    refine m_callv (As := [.int (iI (48 + ((↑v) % (10))))]) (rest := []) hZ hX hK hD hA hE hP hS (c_writes hZ (σ) _ (48 + v % 10) (k) (by omega) (⟨hk.1, by have := hk.2; have := decL_pos (f := 0) (n := v); omega⟩) _ (by omega)) (cwV 1 hX.hts (lw_V q2327 q2329 qs77 q89 q2330) rfl rfl rfl (by decide +kernel) ⟨Nat.le_of_ble_eq_true rfl, Nat.le_of_ble_eq_true rfl⟩) rfl hl.1 (lv_room (Nat.le_of_ble_eq_true rfl)) dX4_writesNumber_22 ⟨Nat.le_refl _, Nat.le_refl _⟩ rfl (fun  H locs hP hS => ?_)
    rw [show wr1 (σ) (48 + v % 10) = wrL σ (decL 0 v) from rfl] at hP
    exact w_vret hX hP hS (rfl) dX4_writesNumber_25
  · exact absurd c_3 (by omega)
set_option maxHeartbeats 4000000 in
theorem c_writesNumber_s {l : Launch} {D : va_G} {Z : zZ} {o : Nat} {ad : Nat → Nat} {cA : Nat → ClassId} (hZ : zOk Z) (σ : zT) (sz : Nat) (f : Nat) (ihc : ∀ (σ : zT) (sz : Nat) (v : Nat) (E1 : Int) (hE1 : E1 = (v : Int)) (hv : v < 10 ^ (f + 1)) (hv2 : v < 2147483648) (k : Nat) (hk : σ 14 0 = k ∧ k + (decL f v).length ≤ 80), MV l D Z o ad cA yX4_writesNumber (ws_ yX4_writesNumber cX4_writesNumber 2 none) { frames := f + 1, cells := 0, slots := 0, locals := 21 + 21 * (f) } [.ref o, .int (iI E1)] sz σ (fV (wrL σ (decL f v)))) (v : Nat) (E1 : Int) (hE1 : E1 = (v : Int)) (hv : v < 10 ^ ((f + 1) + 1)) (hv2 : v < 2147483648) (k : Nat) (hk : σ 14 0 = k ∧ k + (decL (f + 1) v).length ≤ 80) : MV l D Z o ad cA yX4_writesNumber (ws_ yX4_writesNumber cX4_writesNumber 2 (none)) { frames := (f + 1) + 1, cells := 0, slots := 0, locals := 21 + 21 * ((f + 1)) } [.ref o, .int (iI (E1))] sz (σ) (fV (wrL σ (decL (f + 1) v))) := by
  obtain rfl := hE1
  refine w_met (cc := cX4_writesNumber) (maxL := 2) (ret := none) (own := RX4) (by decide) rfl rfl mW_ok (Nat.le_of_ble_eq_true rfl) ?_
  intro p e s m below meth c hX hsz hK hP hD hA hE hS hR ls hl
  have hx := hX.1
  have hb := hX.2.1
  have hl : lv_has ls 2 [(0, .ref o), (1, .int (iI (↑v)))] := hl
  refine lv_iload_n hx hb dX4_writesNumber_0 rfl (lv_at hl 1 rfl) ?_
  refine z_bipush hX dX4_writesNumber_1 (by decide) ?_
  refine z_icmp_le (tgt := 14) hX (by omega) dX4_writesNumber_3 (by decide) (fun c_3 => ?_) (fun c_3 => ?_)
  · skip
    have hle : decL (f + 1) v = [48 + v % 10] := if_neg (by omega)
    have hlen : (decL (f + 1) v).length = 1 := by rw [hle]; rfl
    refine lv_aload_n hx hb dX4_writesNumber_14 rfl (lv_at hl 0 rfl) ?_
    refine z_bipush hX dX4_writesNumber_15 (by decide) ?_
    refine lv_iload_n hx hb dX4_writesNumber_17 rfl (lv_at hl 1 rfl) ?_
    refine z_bipush hX dX4_writesNumber_18 (by decide) ?_
    refine z_irem hX dX4_writesNumber_20 (by omega) ?_
    refine z_iadd hX dX4_writesNumber_21 ?_
    refine W.eq (g2 := F0 m 22 ls [.int (iI (48 + ((↑v) % (10)))), .ref o]) rfl ?_
    refine m_callv (As := [.int (iI (48 + ((↑v) % (10))))]) (rest := []) hZ hX hK hD hA hE hP hS (c_writes hZ (σ) _ (48 + v % 10) (k) (by omega) (⟨hk.1, by omega⟩) _ (by omega)) (cwV 1 hX.hts (lw_V q2327 q2329 qs77 q89 q2330) rfl rfl rfl (by decide +kernel) ⟨by show 0 + 1 ≤ f + 1 + 1; omega, by show 8 + (2 + 11) + 0 ≤ 21 + 21 * (f + 1); omega⟩) rfl hl.1 (lv_room (Nat.le_of_ble_eq_true rfl)) dX4_writesNumber_22 ⟨Nat.le_refl _, Nat.le_refl _⟩ rfl (fun  H locs hP hS => ?_)
    rw [show wr1 (σ) (48 + v % 10) = wrL σ (decL (f + 1) v) from by rw [hle]; rfl] at hP
    exact w_vret hX hP hS (rfl) dX4_writesNumber_25
  · skip
    have hgt : decL (f + 1) v = decL f (v / 10) ++ [48 + v % 10] := if_pos (by omega)
    have hlen : (decL (f + 1) v).length = (decL f (v / 10)).length + 1 := by rw [hgt, List.length_append]; rfl
    refine lv_aload_n hx hb dX4_writesNumber_6 rfl (lv_at hl 0 rfl) ?_
    refine lv_iload_n hx hb dX4_writesNumber_7 rfl (lv_at hl 1 rfl) ?_
    refine z_bipush hX dX4_writesNumber_8 (by decide) ?_
    refine z_idiv hX dX4_writesNumber_10 (by omega) ?_
    refine m_callv (As := [.int (iI ((↑v) / (10)))]) (rest := []) hZ hX hK hD hA hE hP hS (ihc σ _ (v / 10) _ (by omega) (by rw [Nat.div_lt_iff_lt_mul (by decide), ← Nat.pow_succ]; exact hv) (by omega) k ⟨hk.1, by omega⟩) (cwV 1 hX.hts (lw_V q2323 q2325 qs76 q89 q2326) rfl rfl rfl (by decide +kernel) ⟨by show f + 1 + 1 ≤ f + 1 + 1; omega, by show 8 + (2 + 11) + (21 + 21 * f) ≤ 21 + 21 * (f + 1); omega⟩) rfl hl.1 (lv_room (Nat.le_of_ble_eq_true rfl)) dX4_writesNumber_11 ⟨Nat.le_refl _, Nat.le_refl _⟩ rfl (fun  H locs hP hS => ?_)
    refine lv_aload_n hx hb dX4_writesNumber_14 rfl (lv_at hl 0 rfl) ?_
    refine z_bipush hX dX4_writesNumber_15 (by decide) ?_
    refine lv_iload_n hx hb dX4_writesNumber_17 rfl (lv_at hl 1 rfl) ?_
    refine W.eq (g2 := F0 m 18 ls [.int (iI (↑v)), .int (iI (48)), .ref o]) rfl ?_
    refine z_bipush hX dX4_writesNumber_18 (by decide) ?_
    refine z_irem hX dX4_writesNumber_20 (by omega) ?_
    refine z_iadd hX dX4_writesNumber_21 ?_
    refine m_callv (As := [.int (iI (48 + ((↑v) % (10))))]) (rest := []) hZ hX hK hD hA hE hP hS (c_writes hZ (wrL σ (decL f (v / 10))) _ (48 + v % 10) (k + (decL f (v / 10)).length) (by omega) (⟨by rw [wrL_14, hk.1]; omega, by omega⟩) _ (by omega)) (cwV 1 hX.hts (lw_V q2327 q2329 qs77 q89 q2330) rfl rfl rfl (by decide +kernel) ⟨by show 0 + 1 ≤ f + 1 + 1; omega, by show 8 + (2 + 11) + 0 ≤ 21 + 21 * (f + 1); omega⟩) rfl hl.1 (lv_room (Nat.le_of_ble_eq_true rfl)) dX4_writesNumber_22 ⟨Nat.le_refl _, Nat.le_refl _⟩ rfl (fun  H locs hP hS => ?_)
    rw [show wr1 (wrL σ (decL f (v / 10))) (48 + v % 10) = wrL σ (decL (f + 1) v) from by rw [← wrL_1, wrL_app, ← hgt]] at hP
    exact w_vret hX hP hS (rfl) dX4_writesNumber_25
theorem c_writesNumber {l : Launch} {D : va_G} {Z : zZ} {o : Nat} {ad : Nat → Nat} {cA : Nat → ClassId} (hZ : zOk Z) (f : Nat) : ∀ (σ : zT) (sz : Nat) (v : Nat) (E1 : Int) (hE1 : E1 = (v : Int)) (hv : v < 10 ^ (f + 1)) (hv2 : v < 2147483648) (k : Nat) (hk : σ 14 0 = k ∧ k + (decL f v).length ≤ 80), MV l D Z o ad cA yX4_writesNumber (ws_ yX4_writesNumber cX4_writesNumber 2 none) { frames := f + 1, cells := 0, slots := 0, locals := 21 + 21 * (f) } [.ref o, .int (iI E1)] sz σ (fV (wrL σ (decL f v))) := by
  induction f with
  | zero => exact fun σ sz v E1 h1 h2 h3 k h4 => c_writesNumber_0 hZ σ sz v E1 h1 h2 h3 k h4
  | succ f ih => exact fun σ sz v E1 h1 h2 h3 k h4 => c_writesNumber_s hZ σ sz f ih v E1 h1 h2 h3 k h4
set_option maxHeartbeats 4000000 in
theorem c_writesBehind {l : Launch} {D : va_G} {Z : zZ} {o : Nat} {ad : Nat → Nat} {cA : Nat → ClassId} (hZ : zOk Z) (σ : zT) (sz : Nat) (ch v k : Nat) (hch : ch < 65536) (E1 E2 : Int) (hE1 : E1 = (ch : Int)) (hE2 : E2 = (v : Int)) (hv : v < 2147483648) (hk : σ 14 0 = k ∧ k + 1 + (decL 9 v).length ≤ 80) : MV l D Z o ad cA yX4_writesBehind (ws_ yX4_writesBehind cX4_writesBehind 3 (none)) { frames := 11, cells := 0, slots := 0, locals := 231 } [.ref o, .int (iI (E1)), .int (iI (E2))] sz (σ) (fV (wrL σ (ch :: decL 9 v))) := by
  obtain rfl := hE1
  obtain rfl := hE2
  refine w_met (cc := cX4_writesBehind) (maxL := 3) (ret := none) (own := RX4) (by decide) rfl rfl mW_ok (Nat.le_of_ble_eq_true rfl) ?_
  intro p e s m below meth c hX hsz hK hP hD hA hE hS hR ls hl
  have hx := hX.1
  have hb := hX.2.1
  have hl : lv_has ls 3 [(0, .ref o), (1, .int (iI (↑ch))), (2, .int (iI (↑v)))] := hl
  refine lv_aload_n hx hb dX4_writesBehind_0 rfl (lv_at hl 0 rfl) ?_
  refine lv_iload_n hx hb dX4_writesBehind_1 rfl (lv_at hl 1 rfl) ?_
  refine m_callv (As := [.int (iI (↑ch))]) (rest := []) hZ hX hK hD hA hE hP hS (c_writes hZ σ _ ch k hch ⟨hk.1, by omega⟩ _ rfl) (cwV 1 hX.hts (lw_V q2327 q2329 qs77 q89 q2330) rfl rfl rfl (by decide +kernel) ⟨Nat.le_of_ble_eq_true rfl, Nat.le_of_ble_eq_true rfl⟩) rfl hl.1 (lv_room (Nat.le_of_ble_eq_true rfl)) dX4_writesBehind_2 ⟨Nat.le_refl _, Nat.le_refl _⟩ rfl (fun  H locs hP hS => ?_)
  refine lv_aload_n hx hb dX4_writesBehind_5 rfl (lv_at hl 0 rfl) ?_
  refine lv_iload_n hx hb dX4_writesBehind_6 rfl (lv_at hl 2 rfl) ?_
  refine m_callv (As := [.int (iI (↑v))]) (rest := []) hZ hX hK hD hA hE hP hS (c_writesNumber hZ 9 (wr1 σ ch) _ v _ rfl (by omega) hv (k + 1) ⟨by rw [wr1_14, hk.1]; omega, by omega⟩) (cwV 1 hX.hts (lw_V q2323 q2325 qs76 q89 q2326) rfl rfl rfl (by decide +kernel) ⟨Nat.le_of_ble_eq_true rfl, Nat.le_of_ble_eq_true rfl⟩) rfl hl.1 (lv_room (Nat.le_of_ble_eq_true rfl)) dX4_writesBehind_7 ⟨Nat.le_refl _, Nat.le_refl _⟩ rfl (fun  H locs hP hS => ?_)
  rw [show wrL (wr1 σ ch) (decL 9 v) = wrL σ (ch :: decL 9 v) from rfl] at hP
  exact w_vret hX hP hS (rfl) dX4_writesBehind_10
