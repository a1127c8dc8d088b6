/-! the twin: cycles -/
set_option maxRecDepth 100000
set_option maxHeartbeats 4000000 in
theorem c_goesOn_0 {l : Launch} {D : va_G} {Z : zZ} {o : Nat} {ad : Nat → Nat} {cA : Nat → ClassId} (hZ : zOk Z) (σ : zT) (sz : Nat) (n0 : Nat) (pp : List Nat) (E1 E2 : Int) (hE1 : E1 = ((pp.length : Nat) : Int)) (hE2 : E2 = ((pp.length + 0 : Nat) : Int)) (hl7 : pp.length + 0 ≤ 7) (hp : pOk (σ 0) n0 pp) (hn : σ 0 0 = n0 ∧ n0 ≤ 7) (ha : agr (σ 15) pp) (B : Int) (hgo : gOk (σ 0) B) : MI l D Z o ad cA yX4_goesOn (ws_ yX4_goesOn cX4_goesOn 7 (some .boolean)) { frames := 0 + 1, cells := 0, slots := 0, locals := 22 + 26 * (0) } [.ref o, .int (iI (E1)), .int (iI (E2))] sz (σ) (fR ((gP σ (fnd (σ 0) n0 0 pp) pp))) := by
  obtain rfl := hE1
  obtain rfl := hE2
  have hp1 := hp.1
  have hla := hp.2.1 (pp.length - 1) (by omega)
  have hfi := hp.2.1 0 hp.1
  refine w_met (cc := cX4_goesOn) (maxL := 7) (ret := some .boolean) (own := RX4) (by decide) rfl rfl mW_ok (Nat.le_of_ble_eq_true rfl) ?_
  intro p e s m below meth c hX hsz hK hP hD hA hE hS hR ls hl
  have hx := hX.1
  have hb := hX.2.1
  have hl : lv_has ls 7 [(0, .ref o), (1, .int (iI (↑(pp.length)))), (2, .int (iI (↑(pp.length + 0))))] := hl
  refine lv_aload_n hx hb dX4_goesOn_0 rfl (lv_at hl 0 rfl) ?_
  refine m_get hX hK hP 15 (by decide) q1923 rfl dX4_goesOn_1 ?_
  refine lv_iload_n hx hb dX4_goesOn_4 rfl (lv_at hl 1 rfl) ?_
  refine z_iconst hX dX4_goesOn_5 ?_
  refine z_isub hX dX4_goesOn_6 ?_
  refine m_ld hX hK hP mW_e15 ((pp.length - 1)) (by omega) (by decide) dX4_goesOn_7 ?_
  refine z_top (y := ↑(qk pp (pp.length - 1))) (ha _ (by omega)) ?_
  refine lv_istore_n (lv' := [(3, .int (iI (↑(qk pp (pp.length - 1))))), (0, .ref o), (1, .int (iI (↑(pp.length)))), (2, .int (iI (↑(pp.length + 0))))]) hx hb dX4_goesOn_8 rfl hl (by decide) rfl (fun ls hl => ?_)
  refine lv_iload_n hx hb dX4_goesOn_9 rfl (lv_at hl 2 rfl) ?_
  refine lv_iload_n hx hb dX4_goesOn_10 rfl (lv_at hl 3 rfl) ?_
  refine W.eq (g2 := F0 m 11 ls [.int (iI (↑(pp.length + 0))), .int (iI (↑(pp.length)))]) rfl ?_
  refine z_icmp_ne (tgt := 34) hX (by omega) dX4_goesOn_11 (by decide) (fun c_11 => ?_) (fun c_11 => ?_)
  · exact absurd c_11 (fun h => h (by omega))
  · skip
    refine lv_aload_n hx hb dX4_goesOn_14 rfl (lv_at hl 1 rfl) ?_
    refine lv_iload_n hx hb dX4_goesOn_15 rfl (lv_at hl 0 rfl) ?_
    refine lv_aload_n hx hb dX4_goesOn_16 rfl (lv_at hl 1 rfl) ?_
    refine m_get hX hK hP 15 (by decide) q1923 rfl dX4_goesOn_17 ?_
    refine z_iconst hX dX4_goesOn_20 ?_
    refine m_ld hX hK hP mW_e15 0 (by decide) (by decide) dX4_goesOn_21 ?_
    refine z_top (y := ↑(qk pp 0)) (ha 0 hp1) ?_
    refine m_calli (As := [.int (iI (↑(qk pp (pp.length - 1)))), .int (iI (↑(qk pp 0)))]) (rest := []) hZ hX hK hD hA hE hP hS (c_owes hZ (σ) _ (qk pp (pp.length - 1)) (qk pp 0) _ _ ⟨rfl, by omega⟩ ⟨rfl, by omega⟩) (cwV 2 hX.hts (lw_V q2018 q2020 qs47 q89 q2021) rfl rfl rfl (by decide +kernel) ⟨Nat.le_of_ble_eq_true rfl, Nat.le_of_ble_eq_true rfl⟩) rfl hl.1 (lv_room (Nat.le_of_ble_eq_true rfl)) dX4_goesOn_22 ⟨Nat.le_refl _, Nat.le_refl _⟩ rfl (fun  H locs hP hS => ?_)
    refine z_if_le (tgt := 32) hX (by have := hgo.2.2.1 (qk pp (pp.length - 1)) (qk pp 0) (by omega) (by omega); omega) dX4_goesOn_25 (by decide) (fun c_25 => ?_) (fun c_25 => ?_)
    · skip
      refine z_iconst hX dX4_goesOn_32 ?_
      refine W.eq (g2 := F0 m 33 ls [.int (iI (0))]) rfl ?_
      exact w_zret hX hP hS (by decide) (⟨0, rfl, σ 15, sA_self.symm, Or.inr ⟨if_neg (by omega), rfl, ha⟩⟩) dX4_goesOn_33
    · skip
      refine z_iconst hX dX4_goesOn_28 ?_
      refine lv_goto (tgt := 33) hx hb dX4_goesOn_29 (by decide) ?_
      exact w_zret hX hP hS (by decide) (⟨1, rfl, σ 15, sA_self.symm, Or.inl ⟨pp, if_pos c_25, rfl, ha⟩⟩) dX4_goesOn_33
set_option maxHeartbeats 4000000 in
theorem c_goesOn_s {l : Launch} {D : va_G} {Z : zZ} {o : Nat} {ad : Nat → Nat} {cA : Nat → ClassId} (hZ : zOk Z) (σ : zT) (sz : Nat) (r n0 : Nat) (B : Int) (ihc : ∀ (σ : zT) (sz : Nat) (pp : List Nat) (E1 E2 : Int), E1 = ((pp.length : Nat) : Int) → E2 = ((pp.length + r : Nat) : Int) → pp.length + r ≤ 7 → pOk (σ 0) n0 pp → (σ 0 0 = n0 ∧ n0 ≤ 7) → agr (σ 15) pp → gOk (σ 0) B → MI l D Z o ad cA yX4_goesOn (ws_ yX4_goesOn cX4_goesOn 7 (some .boolean)) { frames := r + 1, cells := 0, slots := 0, locals := 22 + 26 * (r) } [.ref o, .int (iI E1), .int (iI E2)] sz σ (fR (gP σ (fnd (σ 0) n0 r pp) pp))) (pp : List Nat) (E1 E2 : Int) (hE1 : E1 = ((pp.length : Nat) : Int)) (hE2 : E2 = ((pp.length + (r + 1) : Nat) : Int)) (hl7 : pp.length + (r + 1) ≤ 7) (hp : pOk (σ 0) n0 pp) (hn : σ 0 0 = n0 ∧ n0 ≤ 7) (ha : agr (σ 15) pp) (hgo : gOk (σ 0) B) : MI l D Z o ad cA yX4_goesOn (ws_ yX4_goesOn cX4_goesOn 7 (some .boolean)) { frames := (r + 1) + 1, cells := 0, slots := 0, locals := 22 + 26 * ((r + 1)) } [.ref o, .int (iI (E1)), .int (iI (E2))] sz (σ) (fR ((gP σ (fnd (σ 0) n0 (r + 1) pp) pp))) := by
  obtain rfl := hE1
  obtain rfl := hE2
  have hp1 := hp.1
  have hla := hp.2.1 (pp.length - 1) (by omega)
  have hfi := hp.2.1 0 hp.1
  refine w_met (cc := cX4_goesOn) (maxL := 7) (ret := some .boolean) (own := RX4) (by decide) rfl rfl mW_ok (Nat.le_of_ble_eq_true rfl) ?_
  intro p e s m below meth c hX hsz hK hP hD hA hE hS hR ls hl
  have hx := hX.1
  have hb := hX.2.1
  have hl : lv_has ls 7 [(0, .ref o), (1, .int (iI (↑(pp.length)))), (2, .int (iI (↑(pp.length + (r + 1)))))] := hl
  refine lv_aload_n hx hb dX4_goesOn_0 rfl (lv_at hl 0 rfl) ?_
  refine m_get hX hK hP 15 (by decide) q1923 rfl dX4_goesOn_1 ?_
  refine lv_iload_n hx hb dX4_goesOn_4 rfl (lv_at hl 1 rfl) ?_
  refine z_iconst hX dX4_goesOn_5 ?_
  refine z_isub hX dX4_goesOn_6 ?_
  refine m_ld hX hK hP mW_e15 ((pp.length - 1)) (by omega) (by decide) dX4_goesOn_7 ?_
  refine z_top (y := ↑(qk pp (pp.length - 1))) (ha _ (by omega)) ?_
  refine lv_istore_n (lv' := [(3, .int (iI (↑(qk pp (pp.length - 1))))), (0, .ref o), (1, .int (iI (↑(pp.length)))), (2, .int (iI (↑(pp.length + (r + 1)))))]) hx hb dX4_goesOn_8 rfl hl (by decide) rfl (fun ls hl => ?_)
  refine lv_iload_n hx hb dX4_goesOn_9 rfl (lv_at hl 2 rfl) ?_
  refine lv_iload_n hx hb dX4_goesOn_10 rfl (lv_at hl 3 rfl) ?_
  refine W.eq (g2 := F0 m 11 ls [.int (iI (↑(pp.length + (r + 1)))), .int (iI (↑(pp.length)))]) rfl ?_
  refine z_icmp_ne (tgt := 34) hX (by omega) dX4_goesOn_11 (by decide) (fun c_11 => ?_) (fun c_11 => ?_)
  · skip
    refine lv_aload_n hx hb dX4_goesOn_34 rfl (lv_at hl 1 rfl) ?_
    refine m_get hX hK hP 15 (by decide) q1923 rfl dX4_goesOn_35 ?_
    refine z_iconst hX dX4_goesOn_38 ?_
    refine m_ld hX hK hP mW_e15 0 (by decide) (by decide) dX4_goesOn_39 ?_
    refine z_top (y := ↑(qk pp 0)) (ha 0 hp1) ?_
    refine z_iconst hX dX4_goesOn_40 ?_
    refine z_iadd hX dX4_goesOn_41 ?_
    refine z_top (y := ↑(qk pp 0 + 1)) (by omega) ?_
    refine lv_istore (lv' := [(4, .int (iI (↑(qk pp 0 + 1)))), (3, .int (iI (↑(qk pp (pp.length - 1))))), (0, .ref o), (1, .int (iI (↑(pp.length)))), (2, .int (iI (↑(pp.length + (r + 1)))))]) hx hb dX4_goesOn_42 hl (by decide) rfl (fun ls hl => ?_)
    have L44 : ∀ (n : Nat) (nx : Nat) (c1 : Nat → Int), (n0 < nx + n) → (agr c1 pp) → (qk pp 0 < nx ∧ nx ≤ n0) → (fnd (σ 0) n0 (r + 1) pp = tryF (fnB (σ 0) n0 r pp) nx (n0 - nx)) → ∀ (H : Heap) (locs : List Loc) (ls : Array Slot), va_P D vwCl (mW o ad cA (sA σ 15 c1)) H → va_S (wA (mW o ad cA) sz) s.heap H locs → lv_has ls 7 [(0, .ref o), (1, .int (iI (↑(pp.length)))), (2, .int (iI (↑(pp.length + (r + 1))))), (3, .int (iI (↑(qk pp (pp.length - 1))))), (4, .int (iI (↑nx)))] → W p l e (headSpec (ws_ yX4_goesOn cX4_goesOn 7 (some .boolean)) { frames := (r + 1) + 1, cells := 0, slots := 0, locals := 22 + 26 * ((r + 1)) }).room s m ([.ref o, .int (iI (↑(pp.length))), .int (iI (↑(pp.length + (r + 1))))] : List Value).toArray below meth c H locs 0 0 (MQ below (wQi D vwCl (mW o ad cA) (fR ((gP σ (fnd (σ 0) n0 (r + 1) pp) pp))) sz) ([.ref o, .int (iI (↑(pp.length))), .int (iI (↑(pp.length + (r + 1))))] : List Value).toArray s 0 0 (wA (mW o ad cA) sz)) (F0 m 44 ls []) := by
      intro n
      induction n with
      | zero =>
        intro nx c1 hf hc1 hnx hF H locs ls hP hS hl
        exact absurd hf (by omega)
      | succ n ih44 =>
        intro nx c1 hf hc1 hnx hF H locs ls hP hS hl
        refine lv_iload hx hb dX4_goesOn_44 (lv_at hl 4 rfl) ?_
        refine lv_aload_n hx hb dX4_goesOn_46 rfl (lv_at hl 0 rfl) ?_
        refine W.eq (g2 := F0 m 47 ls [.ref o, .int (iI (↑nx))]) rfl ?_
        refine m_get hX hK hP 0 (by decide) q1908 rfl dX4_goesOn_47 ?_
        refine z_iconst hX dX4_goesOn_50 ?_
        refine m_ld hX hK hP mW_e0 0 (by decide) (by decide) dX4_goesOn_51 ?_
        refine z_top (y := σ 0 0) (by rw [sA_i (by decide)]) ?_
        refine z_icmp_ge (tgt := 146) hX (by omega) dX4_goesOn_52 (by decide) (fun c_52 => ?_) (fun c_52 => ?_)
        · skip
          refine z_iconst hX dX4_goesOn_146 ?_
          exact w_zret hX hP hS (by decide) (⟨0, rfl, c1, rfl, Or.inr ⟨by rw [hF, show n0 - nx = 0 from by omega]; rfl, rfl, hc1⟩⟩) dX4_goesOn_147
        · skip
          refine lv_aload_n hx hb dX4_goesOn_55 rfl (lv_at hl 0 rfl) ?_
          refine lv_iload_n hx hb dX4_goesOn_56 rfl (lv_at hl 3 rfl) ?_
          refine lv_iload hx hb dX4_goesOn_57 (lv_at hl 4 rfl) ?_
          refine m_calli (As := [.int (iI (↑(qk pp (pp.length - 1)))), .int (iI (↑nx))]) (rest := []) hZ hX hK hD hA hE hP hS (c_owes hZ (sA σ 15 c1) _ (qk pp (pp.length - 1)) nx _ _ ⟨rfl, by omega⟩ ⟨rfl, by omega⟩) (cwV 2 hX.hts (lw_V q2018 q2020 qs47 q89 q2021) rfl rfl rfl (by decide +kernel) ⟨by show 0 + 1 ≤ r + 1 + 1; omega, by show 8 + (3 + 11) + 0 ≤ 22 + 26 * (r + 1); omega⟩) rfl hl.1 (lv_room (Nat.le_of_ble_eq_true rfl)) dX4_goesOn_59 ⟨Nat.le_refl _, Nat.le_refl _⟩ rfl (fun  H locs hP hS => ?_)
          refine z_top (y := σ 0 (12 + 7 * qk pp (pp.length - 1) + nx)) (by rw [sA_i (by decide)]) ?_
          refine W.eq (g2 := F0 m 62 ls [.int (iI (σ 0 (12 + 7 * qk pp (pp.length - 1) + nx)))]) rfl ?_
          have L75 : ∀ (n : Nat) (k : Nat) (iz : Int), (pp.length < k + n) → (1 ≤ k ∧ k ≤ pp.length) → ((iz = 1 ∧ cdn (σ 0) pp nx k) ∨ (iz = 0 ∧ ¬ cdn (σ 0) pp nx k)) → ∀ (H : Heap) (locs : List Loc) (ls : Array Slot), va_P D vwCl (mW o ad cA (sA σ 15 c1)) H → va_S (wA (mW o ad cA) sz) s.heap H locs → lv_has ls 7 [(0, .ref o), (1, .int (iI (↑(pp.length)))), (2, .int (iI (↑(pp.length + (r + 1))))), (3, .int (iI (↑(qk pp (pp.length - 1))))), (4, .int (iI (↑nx))), (5, .int (iI (iz))), (6, .int (iI (↑k)))] → W p l e (headSpec (ws_ yX4_goesOn cX4_goesOn 7 (some .boolean)) { frames := (r + 1) + 1, cells := 0, slots := 0, locals := 22 + 26 * ((r + 1)) }).room s m ([.ref o, .int (iI (↑(pp.length))), .int (iI (↑(pp.length + (r + 1))))] : List Value).toArray below meth c H locs 0 0 (MQ below (wQi D vwCl (mW o ad cA) (fR ((gP σ (fnd (σ 0) n0 (r + 1) pp) pp))) sz) ([.ref o, .int (iI (↑(pp.length))), .int (iI (↑(pp.length + (r + 1))))] : List Value).toArray s 0 0 (wA (mW o ad cA) sz)) (F0 m 75 ls []) := by
            intro n
            induction n with
            | zero =>
              intro k iz hf hk hiz H locs ls hP hS hl
              exact absurd hf (by omega)
            | succ n ih75 =>
              intro k iz hf hk hiz H locs ls hP hS hl
              have hz01 : iz = 0 ∨ iz = 1 := by
                rcases hiz with h | h
                · exact Or.inr h.1
                · exact Or.inl h.1
              refine lv_iload hx hb dX4_goesOn_75 (lv_at hl 6 rfl) ?_
              refine lv_iload_n hx hb dX4_goesOn_77 rfl (lv_at hl 1 rfl) ?_
              refine z_icmp_ge (tgt := 111) hX (by omega) dX4_goesOn_78 (by decide) (fun c_78 => ?_) (fun c_78 => ?_)
              · skip
                obtain rfl : k = pp.length := by omega
                refine lv_iload hx hb dX4_goesOn_111 (lv_at hl 5 rfl) ?_
                refine z_if_ne (tgt := 119) hX (by omega) dX4_goesOn_113 (by decide) (fun c_113 => ?_) (fun c_113 => ?_)
                · skip
                  have hye : cdn (σ 0) pp nx pp.length := by
                    rcases hiz with h | h
                    · exact h.2
                    · exact absurd h.1 c_113
                  have hyc := (cdn_iff hnx.1).mp hye
                  refine lv_aload_n hx hb dX4_goesOn_119 rfl (lv_at hl 0 rfl) ?_
                  refine m_get hX hK hP 15 (by decide) q1923 rfl dX4_goesOn_120 ?_
                  refine lv_iload_n hx hb dX4_goesOn_123 rfl (lv_at hl 1 rfl) ?_
                  refine lv_iload hx hb dX4_goesOn_124 (lv_at hl 4 rfl) ?_
                  refine W.eq (g2 := F0 m 126 ls [.int (iI (↑nx)), .int (iI (↑(pp.length))), .ref (ad 15)]) rfl ?_
                  refine m_st hX hK hD hP hS mW_e15 (pp.length) mW_s15 (⟨rfl, by omega⟩) (by decide) dX4_goesOn_126 (fun H locs hP hS => ?_)
                  rw [show uA (sA σ 15 c1) 15 (pp.length) (↑nx) = sA σ 15 (gU c1 pp.length ↑nx) from uA_in] at hP
                  refine lv_aload_n hx hb dX4_goesOn_127 rfl (lv_at hl 0 rfl) ?_
                  refine lv_iload_n hx hb dX4_goesOn_128 rfl (lv_at hl 1 rfl) ?_
                  refine z_iconst hX dX4_goesOn_129 ?_
                  refine z_iadd hX dX4_goesOn_130 ?_
                  refine lv_iload_n hx hb dX4_goesOn_131 rfl (lv_at hl 2 rfl) ?_
                  refine m_callR (As := [.int (iI ((↑(pp.length)) + 1)), .int (iI (↑(pp.length + (r + 1))))]) (rest := []) hZ hX hK hD hA hE hP hS (ihc (sA σ 15 (gU c1 pp.length ↑nx)) _ (pp ++ [nx]) _ _ (by simp) (by simp; omega) (by simp; omega) (pOk_app hp (by omega) hyc.1 hyc.2) hn (by rw [sA_j]; exact agr_app hc1) hgo) (cwV 2 hX.hts (lw_V q2045 q2047 qs50 q89 q2048) rfl rfl rfl (by decide +kernel) ⟨by show r + 1 + 1 ≤ r + 1 + 1; omega, by show 8 + (7 + 11) + (22 + 26 * r) ≤ 22 + 26 * (r + 1); omega⟩) rfl hl.1 (lv_room (Nat.le_of_ble_eq_true rfl)) dX4_goesOn_132 ⟨Nat.le_refl _, Nat.le_refl _⟩ rfl (fun z y H locs hq hP hS => ?_)
                  obtain ⟨c2, hy2, hq⟩ := hq
                  rw [hy2, sA_sA] at hP
                  have hz01 : z = 0 ∨ z = 1 := by
                    rcases hq with ⟨q, h1, h2, h3⟩ | h
                    · exact Or.inr h2
                    · exact Or.inl h.2.1
                  refine z_if_eq (tgt := 140) hX (by omega) dX4_goesOn_135 (by decide) (fun c_135 => ?_) (fun c_135 => ?_)
                  · skip
                    have hN : fnd (σ 0) n0 r (pp ++ [nx]) = none ∧ agr c2 (pp ++ [nx]) := by
                      rcases hq with ⟨q, h1, h2, h3⟩ | h
                      · exact absurd c_135 (by omega)
                      · exact ⟨h.1, h.2.2⟩
                    refine z_iinc (y := ↑(nx + 1)) (lv' := [(4, .int (iI (↑(nx + 1)))), (0, .ref o), (1, .int (iI (↑(pp.length)))), (2, .int (iI (↑(pp.length + (r + 1))))), (3, .int (iI (↑(qk pp (pp.length - 1))))), (5, .int (iI (iz))), (6, .int (iI (↑pp.length)))]) hX dX4_goesOn_140 hl (k := 4) rfl (by omega) (by decide) rfl (fun ls hl => ?_)
                    refine lv_goto (tgt := 44) hx hb dX4_goesOn_143 (by decide) ?_
                    exact ih44 (nx + 1) (c2) (by omega) (agr_of hN.2) (⟨by omega, by omega⟩) (by rw [hF, show n0 - nx = (n0 - (nx + 1)) + 1 from by omega, tryF_none ((fnB_yes hnx.1 hye).trans hN.1)]) _ _ _ hP hS (lv_sub hl [1, 2, 3, 4, 0] rfl)
                  · skip
                    obtain ⟨q, hSo⟩ : ∃ q, fnd (σ 0) n0 r (pp ++ [nx]) = some q ∧ agr c2 q := by
                      rcases hq with ⟨q, h1, h2, h3⟩ | h
                      · exact ⟨q, h1, h3⟩
                      · exact absurd h.2.1 c_135
                    refine W.eq (g2 := F0 m 138 ls []) rfl ?_
                    refine z_iconst hX dX4_goesOn_138 ?_
                    exact w_zret hX hP hS (by decide) (⟨1, rfl, c2, rfl, Or.inl ⟨q, by rw [hF, show n0 - nx = (n0 - (nx + 1)) + 1 from by omega, tryF_some ((fnB_yes hnx.1 hye).trans hSo.1)], rfl, hSo.2⟩⟩) dX4_goesOn_139
                · skip
                  have hno : ¬ cdn (σ 0) pp nx pp.length := by
                    rcases hiz with h | h
                    · exact absurd c_113 (by omega)
                    · exact h.2
                  refine lv_goto (tgt := 140) hx hb dX4_goesOn_116 (by decide) ?_
                  refine z_iinc (y := ↑(nx + 1)) (lv' := [(4, .int (iI (↑(nx + 1)))), (0, .ref o), (1, .int (iI (↑(pp.length)))), (2, .int (iI (↑(pp.length + (r + 1))))), (3, .int (iI (↑(qk pp (pp.length - 1))))), (5, .int (iI (iz))), (6, .int (iI (↑pp.length)))]) hX dX4_goesOn_140 hl (k := 4) rfl (by omega) (by decide) rfl (fun ls hl => ?_)
                  refine lv_goto (tgt := 44) hx hb dX4_goesOn_143 (by decide) ?_
                  exact ih44 (nx + 1) (c1) (by omega) (hc1) (⟨by omega, by omega⟩) (by rw [hF, show n0 - nx = (n0 - (nx + 1)) + 1 from by omega, tryF_none (fnB_no hnx.1 hno)]) _ _ _ hP hS (lv_sub hl [1, 2, 3, 4, 0] rfl)
              · skip
                refine lv_iload hx hb dX4_goesOn_81 (lv_at hl 5 rfl) ?_
                refine z_if_eq (tgt := 102) hX (by omega) dX4_goesOn_83 (by decide) (fun c_83 => ?_) (fun c_83 => ?_)
                · skip
                  have hn0 : ¬ cdn (σ 0) pp nx k := by
                    rcases hiz with h | h
                    · exact absurd c_83 (by omega)
                    · exact h.2
                  refine z_iconst hX dX4_goesOn_102 ?_
                  refine lv_istore (lv' := [(5, .int (iI (0))), (0, .ref o), (1, .int (iI (↑(pp.length)))), (2, .int (iI (↑(pp.length + (r + 1))))), (3, .int (iI (↑(qk pp (pp.length - 1))))), (4, .int (iI (↑nx))), (6, .int (iI (↑k)))]) hx hb dX4_goesOn_103 hl (by decide) rfl (fun ls hl => ?_)
                  refine z_iinc (y := ↑(k + 1)) (lv' := [(6, .int (iI (↑(k + 1)))), (5, .int (iI (0))), (0, .ref o), (1, .int (iI (↑(pp.length)))), (2, .int (iI (↑(pp.length + (r + 1))))), (3, .int (iI (↑(qk pp (pp.length - 1))))), (4, .int (iI (↑nx)))]) hX dX4_goesOn_105 hl (k := 6) rfl (by omega) (by decide) rfl (fun ls hl => ?_)
                  refine lv_goto (tgt := 75) hx hb dX4_goesOn_108 (by decide) ?_
                  exact ih75 (k + 1) (0) (by omega) (by omega) (by first | exact Or.inr ⟨rfl, cdn_f hn0⟩ | exact Or.inl ⟨rfl, cdn_s hy (by omega)⟩ | exact Or.inr ⟨rfl, cdn_e hk.1 (by omega)⟩) _ _ _ hP hS (lv_sub hl [2, 3, 4, 5, 6, 1, 0] rfl)
                · skip
                  have hy : cdn (σ 0) pp nx k := by
                    rcases hiz with h | h
                    · exact h.2
                    · exact absurd h.1 c_83
                  refine lv_aload_n hx hb dX4_goesOn_86 rfl (lv_at hl 0 rfl) ?_
                  refine m_get hX hK hP 15 (by decide) q1923 rfl dX4_goesOn_87 ?_
                  refine lv_iload hx hb dX4_goesOn_90 (lv_at hl 6 rfl) ?_
                  refine m_ld hX hK hP mW_e15 k (⟨rfl, by omega⟩) (by decide) dX4_goesOn_92 ?_
                  refine z_top (y := ↑(qk pp k)) (by rw [sA_j]; exact hc1 k (by omega)) ?_
                  refine lv_iload hx hb dX4_goesOn_93 (lv_at hl 4 rfl) ?_
                  refine z_icmp_eq (tgt := 102) hX (by have := hp.2.1 k (by omega); omega) dX4_goesOn_95 (by decide) (fun c_95 => ?_) (fun c_95 => ?_)
                  · skip
                    refine z_iconst hX dX4_goesOn_102 ?_
                    refine lv_istore (lv' := [(5, .int (iI (0))), (0, .ref o), (1, .int (iI (↑(pp.length)))), (2, .int (iI (↑(pp.length + (r + 1))))), (3, .int (iI (↑(qk pp (pp.length - 1))))), (4, .int (iI (↑nx))), (6, .int (iI (↑k)))]) hx hb dX4_goesOn_103 hl (by decide) rfl (fun ls hl => ?_)
                    refine z_iinc (y := ↑(k + 1)) (lv' := [(6, .int (iI (↑(k + 1)))), (5, .int (iI (0))), (0, .ref o), (1, .int (iI (↑(pp.length)))), (2, .int (iI (↑(pp.length + (r + 1))))), (3, .int (iI (↑(qk pp (pp.length - 1))))), (4, .int (iI (↑nx)))]) hX dX4_goesOn_105 hl (k := 6) rfl (by omega) (by decide) rfl (fun ls hl => ?_)
                    refine lv_goto (tgt := 75) hx hb dX4_goesOn_108 (by decide) ?_
                    exact ih75 (k + 1) (0) (by omega) (by omega) (by first | exact Or.inr ⟨rfl, cdn_f hn0⟩ | exact Or.inl ⟨rfl, cdn_s hy (by omega)⟩ | exact Or.inr ⟨rfl, cdn_e hk.1 (by omega)⟩) _ _ _ hP hS (lv_sub hl [2, 3, 4, 5, 6, 1, 0] rfl)
                  · skip
                    refine z_iconst hX dX4_goesOn_98 ?_
                    refine lv_goto (tgt := 103) hx hb dX4_goesOn_99 (by decide) ?_
                    refine lv_istore (lv' := [(5, .int (iI (1))), (0, .ref o), (1, .int (iI (↑(pp.length)))), (2, .int (iI (↑(pp.length + (r + 1))))), (3, .int (iI (↑(qk pp (pp.length - 1))))), (4, .int (iI (↑nx))), (6, .int (iI (↑k)))]) hx hb dX4_goesOn_103 hl (by decide) rfl (fun ls hl => ?_)
                    refine z_iinc (y := ↑(k + 1)) (lv' := [(6, .int (iI (↑(k + 1)))), (5, .int (iI (1))), (0, .ref o), (1, .int (iI (↑(pp.length)))), (2, .int (iI (↑(pp.length + (r + 1))))), (3, .int (iI (↑(qk pp (pp.length - 1))))), (4, .int (iI (↑nx)))]) hX dX4_goesOn_105 hl (k := 6) rfl (by omega) (by decide) rfl (fun ls hl => ?_)
                    refine lv_goto (tgt := 75) hx hb dX4_goesOn_108 (by decide) ?_
                    exact ih75 (k + 1) (1) (by omega) (by omega) (by first | exact Or.inr ⟨rfl, cdn_f hn0⟩ | exact Or.inl ⟨rfl, cdn_s hy (by omega)⟩ | exact Or.inr ⟨rfl, cdn_e hk.1 (by omega)⟩) _ _ _ hP hS (lv_sub hl [2, 3, 4, 5, 6, 1, 0] rfl)
          refine z_if_le (tgt := 69) hX (by have := hgo.2.2.1 (qk pp (pp.length - 1)) nx (by omega) (by omega); omega) dX4_goesOn_62 (by decide) (fun c_62 => ?_) (fun c_62 => ?_)
          · skip
            refine z_iconst hX dX4_goesOn_69 ?_
            refine lv_istore (lv' := [(5, .int (iI (0))), (0, .ref o), (1, .int (iI (↑(pp.length)))), (2, .int (iI (↑(pp.length + (r + 1))))), (3, .int (iI (↑(qk pp (pp.length - 1))))), (4, .int (iI (↑nx)))]) hx hb dX4_goesOn_70 hl (by decide) rfl (fun ls hl => ?_)
            refine z_iconst hX dX4_goesOn_72 ?_
            refine z_top (y := ↑(1 : Nat)) (rfl) ?_
            refine lv_istore (lv' := [(6, .int (iI (↑(1 : Nat)))), (5, .int (iI (0))), (0, .ref o), (1, .int (iI (↑(pp.length)))), (2, .int (iI (↑(pp.length + (r + 1))))), (3, .int (iI (↑(qk pp (pp.length - 1))))), (4, .int (iI (↑nx)))]) hx hb dX4_goesOn_73 hl (by decide) rfl (fun ls hl => ?_)
            exact L75 (pp.length + 1) (1) (0) (by omega) (⟨Nat.le_refl _, hp1⟩) (by first | exact Or.inl ⟨rfl, c_62, fun j h1 h2 => by omega⟩ | exact Or.inr ⟨rfl, fun q => by have := q.1; omega⟩) _ _ _ hP hS (lv_sub hl [2, 3, 4, 5, 6, 1, 0] rfl)
          · skip
            refine W.eq (g2 := F0 m 65 ls []) rfl ?_
            refine z_iconst hX dX4_goesOn_65 ?_
            refine lv_goto (tgt := 70) hx hb dX4_goesOn_66 (by decide) ?_
            refine lv_istore (lv' := [(5, .int (iI (1))), (0, .ref o), (1, .int (iI (↑(pp.length)))), (2, .int (iI (↑(pp.length + (r + 1))))), (3, .int (iI (↑(qk pp (pp.length - 1))))), (4, .int (iI (↑nx)))]) hx hb dX4_goesOn_70 hl (by decide) rfl (fun ls hl => ?_)
            refine z_iconst hX dX4_goesOn_72 ?_
            refine z_top (y := ↑(1 : Nat)) (rfl) ?_
            refine lv_istore (lv' := [(6, .int (iI (↑(1 : Nat)))), (5, .int (iI (1))), (0, .ref o), (1, .int (iI (↑(pp.length)))), (2, .int (iI (↑(pp.length + (r + 1))))), (3, .int (iI (↑(qk pp (pp.length - 1))))), (4, .int (iI (↑nx)))]) hx hb dX4_goesOn_73 hl (by decide) rfl (fun ls hl => ?_)
            exact L75 (pp.length + 1) (1) (1) (by omega) (⟨Nat.le_refl _, hp1⟩) (by first | exact Or.inl ⟨rfl, c_62, fun j h1 h2 => by omega⟩ | exact Or.inr ⟨rfl, fun q => by have := q.1; omega⟩) _ _ _ hP hS (lv_sub hl [2, 3, 4, 5, 6, 1, 0] rfl)
    rw [show σ = sA σ 15 (σ 15) from sA_self.symm] at hP
    exact L44 (n0 + 1) (qk pp 0 + 1) (σ 15) (by omega) (ha) (⟨by omega, by omega⟩) (fnd_s) _ _ _ hP hS (lv_sub hl [2, 3, 4, 1, 0] rfl)
  · exact absurd c_11 (by omega)
theorem c_goesOn {l : Launch} {D : va_G} {Z : zZ} {o : Nat} {ad : Nat → Nat} {cA : Nat → ClassId} (hZ : zOk Z) (r n0 : Nat) (B : Int) : ∀ (σ : zT) (sz : Nat) (pp : List Nat) (E1 E2 : Int), E1 = ((pp.length : Nat) : Int) → E2 = ((pp.length + r : Nat) : Int) → pp.length + r ≤ 7 → pOk (σ 0) n0 pp → (σ 0 0 = n0 ∧ n0 ≤ 7) → agr (σ 15) pp → gOk (σ 0) B → MI l D Z o ad cA yX4_goesOn (ws_ yX4_goesOn cX4_goesOn 7 (some .boolean)) { frames := r + 1, cells := 0, slots := 0, locals := 22 + 26 * (r) } [.ref o, .int (iI E1), .int (iI E2)] sz σ (fR (gP σ (fnd (σ 0) n0 r pp) pp)) := by
  induction r with
  | zero => exact fun σ sz pp E1 E2 h1 h2 h3 h4 h5 h6 h7 => c_goesOn_0 hZ σ sz n0 pp E1 E2 h1 h2 h3 h4 h5 h6 B h7
  | succ r ih => exact fun σ sz pp E1 E2 h1 h2 h3 h4 h5 h6 h7 => c_goesOn_s hZ σ sz r n0 B ih pp E1 E2 h1 h2 h3 h4 h5 h6 h7
