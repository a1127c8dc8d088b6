/-! the twin: looking for cycles, netting them -/
set_option maxRecDepth 100000
set_option maxHeartbeats 4000000 in
theorem c_looks {l : Launch} {D : va_G} {Z : zZ} {o : Nat} {ad : Nat → Nat} {cA : Nat → ClassId} (hZ : zOk Z) (σ : zT) (sz : Nat) (n0 : Nat) (hn : σ 0 0 = n0 ∧ n0 ≤ 7) (B : Int) (hgo : gOk (σ 0) B) : MI l D Z o ad cA yX4_looks (ws_ yX4_looks cX4_looks 3 (some .int)) { frames := 8, cells := 0, slots := 0, locals := 204 } [.ref o] sz (σ) (fR ((lP σ n0))) := by
  refine w_met (cc := cX4_looks) (maxL := 3) (ret := some .int) (own := RX4) (by decide) rfl rfl mW_ok (Nat.le_of_ble_eq_true rfl) ?_
  intro p e s m below meth c hX hsz hK hP hD hA hE hS hR ls hl
  have hx := hX.1
  have hb := hX.2.1
  have hl : lv_has ls 3 [(0, .ref o)] := hl
  refine z_iconst hX dX4_looks_0 ?_
  refine z_top (y := ↑(2 : Nat)) (rfl) ?_
  refine lv_istore_n (lv' := [(1, .int (iI (↑(2 : Nat)))), (0, .ref o)]) hx hb dX4_looks_1 rfl hl (by decide) rfl (fun ls hl => ?_)
  have L2 : ∀ (n : Nat) (s1 : Nat) (c1 : Nat → Int), (n0 + 2 < s1 + n) → (2 ≤ s1 ∧ s1 ≤ n0 + 2) → (lookF (σ 0) n0 = tryF (lkS (σ 0) n0) s1 (n0 + 1 - s1)) → ∀ (H : Heap) (locs : List Loc) (ls : Array Slot), va_P D vwCl (mW o ad cA (sA σ 15 c1)) H → va_S (wA (mW o ad cA) sz) s.heap H locs → lv_has ls 3 [(0, .ref o), (1, .int (iI (↑s1)))] → W p l e (headSpec (ws_ yX4_looks cX4_looks 3 (some .int)) { frames := 8, cells := 0, slots := 0, locals := 204 }).room s m ([.ref o] : List Value).toArray below meth c H locs 0 0 (MQ below (wQi D vwCl (mW o ad cA) (fR ((lP σ n0))) sz) ([.ref o] : List Value).toArray s 0 0 (wA (mW o ad cA) sz)) (F0 m 2 ls []) := by
    intro n
    induction n with
    | zero =>
      intro s1 c1 hf hs1 hF H locs ls hP hS hl
      exact absurd hf (by omega)
    | succ n ih2 =>
      intro s1 c1 hf hs1 hF H locs ls hP hS hl
      refine lv_iload_n hx hb dX4_looks_2 rfl (lv_at hl 1 rfl) ?_
      refine lv_aload_n hx hb dX4_looks_3 rfl (lv_at hl 0 rfl) ?_
      refine m_get hX hK hP 0 (by decide) q1908 rfl dX4_looks_4 ?_
      refine z_iconst hX dX4_looks_7 ?_
      refine m_ld hX hK hP mW_e0 0 (by decide) (by decide) dX4_looks_8 ?_
      refine z_top (y := σ 0 0) (by rw [sA_i (by decide)]) ?_
      refine z_icmp_gt (tgt := 54) hX (by omega) dX4_looks_9 (by decide) (fun c_9 => ?_) (fun c_9 => ?_)
      · skip
        refine z_iconst hX dX4_looks_54 ?_
        refine W.eq (g2 := F0 m 55 ls [.int (iI (0))]) rfl ?_
        exact w_iret hX hP hS (⟨0, rfl, c1, rfl, Or.inr ⟨by rw [hF, show n0 + 1 - s1 = 0 from by omega]; rfl, rfl⟩⟩) dX4_looks_55
      · skip
        refine z_iconst hX dX4_looks_12 ?_
        refine z_top (y := ↑(0 : Nat)) (rfl) ?_
        refine lv_istore_n (lv' := [(2, .int (iI (↑(0 : Nat)))), (0, .ref o), (1, .int (iI (↑s1)))]) hx hb dX4_looks_13 rfl hl (by decide) rfl (fun ls hl => ?_)
        have L14 : ∀ (n : Nat) (f1 : Nat) (c2 : Nat → Int), (n0 < f1 + n) → (f1 ≤ n0) → (lkS (σ 0) n0 s1 = tryF (lkI (σ 0) n0 s1) f1 (n0 - f1)) → ∀ (H : Heap) (locs : List Loc) (ls : Array Slot), va_P D vwCl (mW o ad cA (sA σ 15 c2)) H → va_S (wA (mW o ad cA) sz) s.heap H locs → lv_has ls 3 [(0, .ref o), (1, .int (iI (↑s1))), (2, .int (iI (↑f1)))] → W p l e (headSpec (ws_ yX4_looks cX4_looks 3 (some .int)) { frames := 8, cells := 0, slots := 0, locals := 204 }).room s m ([.ref o] : List Value).toArray below meth c H locs 0 0 (MQ below (wQi D vwCl (mW o ad cA) (fR ((lP σ n0))) sz) ([.ref o] : List Value).toArray s 0 0 (wA (mW o ad cA) sz)) (F0 m 14 ls []) := by
          intro n
          induction n with
          | zero =>
            intro f1 c2 hf hf1 hI H locs ls hP hS hl
            exact absurd hf (by omega)
          | succ n ih14 =>
            intro f1 c2 hf hf1 hI H locs ls hP hS hl
            refine lv_iload_n hx hb dX4_looks_14 rfl (lv_at hl 2 rfl) ?_
            refine lv_aload_n hx hb dX4_looks_15 rfl (lv_at hl 0 rfl) ?_
            refine m_get hX hK hP 0 (by decide) q1908 rfl dX4_looks_16 ?_
            refine z_iconst hX dX4_looks_19 ?_
            refine m_ld hX hK hP mW_e0 0 (by decide) (by decide) dX4_looks_20 ?_
            refine z_top (y := σ 0 0) (by rw [sA_i (by decide)]) ?_
            refine z_icmp_ge (tgt := 48) hX (by omega) dX4_looks_21 (by decide) (fun c_21 => ?_) (fun c_21 => ?_)
            · skip
              refine z_iinc (y := ↑(s1 + 1)) (lv' := [(1, .int (iI (↑(s1 + 1)))), (0, .ref o), (2, .int (iI (↑f1)))]) hX dX4_looks_48 hl (k := 1) rfl (by omega) (by decide) rfl (fun ls hl => ?_)
              refine lv_goto (tgt := 2) hx hb dX4_looks_51 (by decide) ?_
              exact ih2 (s1 + 1) (c2) (by omega) (by omega) (by rw [hF, show n0 + 1 - s1 = (n0 + 1 - (s1 + 1)) + 1 from by omega, tryF_none (hI.trans (by rw [show n0 - f1 = 0 from by omega]; rfl))]) _ _ _ hP hS (lv_sub hl [1, 0] rfl)
            · skip
              refine lv_aload_n hx hb dX4_looks_24 rfl (lv_at hl 0 rfl) ?_
              refine m_get hX hK hP 15 (by decide) q1923 rfl dX4_looks_25 ?_
              refine z_iconst hX dX4_looks_28 ?_
              refine lv_iload_n hx hb dX4_looks_29 rfl (lv_at hl 2 rfl) ?_
              refine m_st hX hK hD hP hS mW_e15 0 mW_s15 (by decide) (by decide) dX4_looks_30 (fun H locs hP hS => ?_)
              rw [show uA (sA σ 15 c2) 15 0 (↑f1) = sA σ 15 (gU c2 0 ↑f1) from uA_in] at hP
              refine lv_aload_n hx hb dX4_looks_31 rfl (lv_at hl 0 rfl) ?_
              refine z_iconst hX dX4_looks_32 ?_
              refine lv_iload_n hx hb dX4_looks_33 rfl (lv_at hl 1 rfl) ?_
              refine m_callR (As := [.int (iI (1)), .int (iI (↑s1))]) (rest := []) hZ hX hK hD hA hE hP hS (c_goesOn hZ (s1 - 1) n0 B (sA σ 15 (gU c2 0 ↑f1)) _ [f1] _ _ (by simp) (by simp; omega) (by simp; omega) (pOk_1 (by omega)) hn (by rw [sA_j]; exact agr_1) hgo) (cwV 2 hX.hts (lw_V q2045 q2047 qs50 q89 q2048) rfl rfl rfl (by decide +kernel) ⟨by show (s1 - 1) + 1 + 1 ≤ 8; omega, by show 8 + (7 + 11) + (22 + 26 * (s1 - 1)) ≤ 204; omega⟩) rfl hl.1 (lv_room (Nat.le_of_ble_eq_true rfl)) dX4_looks_34 ⟨Nat.le_refl _, Nat.le_refl _⟩ rfl (fun z y H locs hq hP hS => ?_)
              obtain ⟨c3, hy2, hq⟩ := hq
              rw [hy2, sA_sA] at hP
              have hz01 : z = 0 ∨ z = 1 := by
                rcases hq with ⟨q, h1, h2, h3⟩ | h
                · exact Or.inr h2
                · exact Or.inl h.2.1
              refine W.eq (g2 := F0 m 37 ls [.int (iI (z))]) rfl ?_
              refine z_if_eq (tgt := 42) hX (by omega) dX4_looks_37 (by decide) (fun c_37 => ?_) (fun c_37 => ?_)
              · skip
                have hN : lkI (σ 0) n0 s1 f1 = none := by
                  rcases hq with ⟨q, h1, h2, h3⟩ | h
                  · exact absurd c_37 (by omega)
                  · exact h.1
                refine z_iinc (y := ↑(f1 + 1)) (lv' := [(2, .int (iI (↑(f1 + 1)))), (0, .ref o), (1, .int (iI (↑s1)))]) hX dX4_looks_42 hl (k := 2) rfl (by omega) (by decide) rfl (fun ls hl => ?_)
                refine lv_goto (tgt := 14) hx hb dX4_looks_45 (by decide) ?_
                exact ih14 (f1 + 1) (c3) (by omega) (by omega) (by rw [hI, show n0 - f1 = (n0 - (f1 + 1)) + 1 from by omega, tryF_none hN]) _ _ _ hP hS (lv_sub hl [1, 2, 0] rfl)
              · skip
                obtain ⟨q, hSo⟩ : ∃ q, fnd (σ 0) n0 (s1 - 1) [f1] = some q ∧ agr c3 q := by
                  rcases hq with ⟨q, h1, h2, h3⟩ | h
                  · exact ⟨q, h1, h3⟩
                  · exact absurd h.2.1 c_37
                have hlen : q.length = 1 + (s1 - 1) := (fnd_ok _ _ _ (pOk_1 (by omega)) hSo.1).2.1
                refine lv_iload_n hx hb dX4_looks_40 rfl (lv_at hl 1 rfl) ?_
                exact w_iret hX hP hS (⟨↑s1, rfl, c3, rfl, Or.inl ⟨q, by rw [hF, show n0 + 1 - s1 = (n0 - s1) + 1 from by omega, tryF_some (hI.trans (by rw [show n0 - f1 = (n0 - f1 - 1) + 1 from by omega]; exact tryF_some hSo.1))], by omega, hSo.2⟩⟩) dX4_looks_41
        exact L14 (n0 + 1) (0) (c1) (by omega) (by omega) (rfl) _ _ _ hP hS (lv_sub hl [1, 2, 0] rfl)
  rw [show σ = sA σ 15 (σ 15) from sA_self.symm] at hP
  exact L2 (n0 + 2) (2) (σ 15) (by omega) (by omega) (lookF_e) _ _ _ hP hS (lv_sub hl [1, 0] rfl)
set_option maxHeartbeats 4000000 in
theorem c_smallest {l : Launch} {D : va_G} {Z : zZ} {o : Nat} {ad : Nat → Nat} {cA : Nat → ClassId} (hZ : zOk Z) (σ : zT) (sz : Nat) (n0 : Nat) (hn : σ 0 0 = n0 ∧ n0 ≤ 7) (B : Int) (hgo : gOk (σ 0) B) (q : List Nat) (hq : cOk (σ 0) n0 q) (ha : agr (σ 15) q) (E1 : Int) (hE1 : E1 = ((q.length : Nat) : Int)) : MI l D Z o ad cA yX4_smallest (ws_ yX4_smallest cX4_smallest 4 (some .int)) { frames := 1, cells := 0, slots := 0, locals := 22 } [.ref o, .int (iI (E1))] sz (σ) (fI (smF (σ 0) q q.length) (σ)) := by
  obtain rfl := hE1
  refine w_met (cc := cX4_smallest) (maxL := 4) (ret := some .int) (own := RX4) (by decide) rfl rfl mW_ok (Nat.le_of_ble_eq_true rfl) ?_
  intro p e s m below meth c hX hsz hK hP hD hA hE hS hR ls hl
  have hx := hX.1
  have hb := hX.2.1
  have hl : lv_has ls 4 [(0, .ref o), (1, .int (iI (↑(q.length))))] := hl
  have hl2 := hq.2.1
  have hl3 := hq.2.2.1
  refine z_sipush hX dX4_smallest_0 (by decide) ?_
  refine z_top (y := smF (σ 0) q 0) (rfl) ?_
  refine lv_istore_n (lv' := [(2, .int (iI (smF (σ 0) q 0))), (0, .ref o), (1, .int (iI (↑(q.length))))]) hx hb dX4_smallest_3 rfl hl (by decide) rfl (fun ls hl => ?_)
  refine z_iconst hX dX4_smallest_4 ?_
  refine z_top (y := ↑(0 : Nat)) (rfl) ?_
  refine lv_istore_n (lv' := [(3, .int (iI (↑(0 : Nat)))), (2, .int (iI (smF (σ 0) q 0))), (0, .ref o), (1, .int (iI (↑(q.length))))]) hx hb dX4_smallest_5 rfl hl (by decide) rfl (fun ls hl => ?_)
  have L6 : ∀ (n : Nat) (k : Nat), (q.length < k + n) → (k ≤ q.length) → ∀ (H : Heap) (locs : List Loc) (ls : Array Slot), va_P D vwCl (mW o ad cA (σ)) H → va_S (wA (mW o ad cA) sz) s.heap H locs → lv_has ls 4 [(0, .ref o), (1, .int (iI (↑(q.length)))), (2, .int (iI (smF (σ 0) q k))), (3, .int (iI (↑k)))] → W p l e (headSpec (ws_ yX4_smallest cX4_smallest 4 (some .int)) { frames := 1, cells := 0, slots := 0, locals := 22 }).room s m ([.ref o, .int (iI (↑(q.length)))] : List Value).toArray below meth c H locs 0 0 (MQ below (wQi D vwCl (mW o ad cA) (fI (smF (σ 0) q q.length) (σ)) sz) ([.ref o, .int (iI (↑(q.length)))] : List Value).toArray s 0 0 (wA (mW o ad cA) sz)) (F0 m 6 ls []) := by
    intro n
    induction n with
    | zero =>
      intro k hf hk H locs ls hP hS hl
      exact absurd hf (by omega)
    | succ n ih6 =>
      intro k hf hk H locs ls hP hS hl
      refine lv_iload_n hx hb dX4_smallest_6 rfl (lv_at hl 3 rfl) ?_
      refine lv_iload_n hx hb dX4_smallest_7 rfl (lv_at hl 1 rfl) ?_
      refine z_icmp_ge (tgt := 42) hX (by omega) dX4_smallest_8 (by decide) (fun c_8 => ?_) (fun c_8 => ?_)
      · skip
        obtain rfl : k = q.length := by omega
        refine lv_iload_n hx hb dX4_smallest_42 rfl (lv_at hl 2 rfl) ?_
        exact w_iret hX hP hS (⟨rfl, rfl⟩) dX4_smallest_43
      · skip
        have hqk := hq.1.2.1 k (by omega)
        have hmd := Nat.mod_lt (k + 1) (show q.length > 0 by omega)
        have hqk2 := hq.1.2.1 ((k + 1) % q.length) hmd
        have hbe := hgo.2.2.1 (qk q k) (qk q ((k + 1) % q.length)) (by omega) (by omega)
        have hbe : 0 ≤ σ 0 (eI q k) ∧ σ 0 (eI q k) ≤ 999 := hbe
        refine W.eq (g2 := F0 m 11 ls []) rfl ?_
        refine lv_iload_n hx hb dX4_smallest_11 rfl (lv_at hl 2 rfl) ?_
        refine lv_aload_n hx hb dX4_smallest_12 rfl (lv_at hl 0 rfl) ?_
        refine lv_aload_n hx hb dX4_smallest_13 rfl (lv_at hl 0 rfl) ?_
        refine m_get hX hK hP 15 (by decide) q1923 rfl dX4_smallest_14 ?_
        refine lv_iload_n hx hb dX4_smallest_17 rfl (lv_at hl 3 rfl) ?_
        refine m_ld hX hK hP mW_e15 k (⟨rfl, by omega⟩) (by decide) dX4_smallest_18 ?_
        refine z_top (y := ↑(qk q k)) (ha k (by omega)) ?_
        refine lv_aload_n hx hb dX4_smallest_19 rfl (lv_at hl 0 rfl) ?_
        refine m_get hX hK hP 15 (by decide) q1923 rfl dX4_smallest_20 ?_
        refine lv_iload_n hx hb dX4_smallest_23 rfl (lv_at hl 3 rfl) ?_
        refine z_iconst hX dX4_smallest_24 ?_
        refine W.eq (g2 := F0 m 25 ls [.int (iI (1)), .int (iI (↑k)), .ref (ad 15), .int (iI (↑(qk q k))), .ref o, .int (iI (smF (σ 0) q k))]) rfl ?_
        refine z_iadd hX dX4_smallest_25 ?_
        refine lv_iload_n hx hb dX4_smallest_26 rfl (lv_at hl 1 rfl) ?_
        refine z_irem hX dX4_smallest_27 (by omega) ?_
        refine m_ld hX hK hP mW_e15 (((k + 1) % q.length)) (⟨zmod _ _, by omega⟩) (by decide) dX4_smallest_28 ?_
        refine z_top (y := ↑(qk q ((k + 1) % q.length))) (ha _ hmd) ?_
        refine m_calli (As := [.int (iI (↑(qk q k))), .int (iI (↑(qk q ((k + 1) % q.length))))]) (rest := [.int (iI (smF (σ 0) q k))]) hZ hX hK hD hA hE hP hS (c_owes hZ (σ) _ (qk q k) (qk q ((k + 1) % q.length)) _ _ ⟨rfl, by omega⟩ ⟨rfl, by omega⟩) (cwV 2 hX.hts (lw_V q2018 q2020 qs47 q89 q2021) rfl rfl rfl (by decide +kernel) ⟨Nat.le_of_ble_eq_true rfl, Nat.le_of_ble_eq_true rfl⟩) rfl hl.1 (lv_room (Nat.le_of_ble_eq_true rfl)) dX4_smallest_29 ⟨Nat.le_refl _, Nat.le_refl _⟩ rfl (fun  H locs hP hS => ?_)
        refine p_callSi (As := [.int (iI (smF (σ 0) q k)), .int (iI (σ 0 (eI q k)))]) (rest := []) hZ hX hK hA hE hP hS (c_least hZ _ (smF (σ 0) q k) (σ 0 (eI q k)) (by have h9 := smF_999 (g := σ 0) (q := q) k; have h8 := smF_pos (g := σ 0) (q := q) k (fun j hj => cOk_edge hq (by omega)); omega)) (va_cwS 2 hX.hts (lw_S q2034 q2035 q89 q2036) rfl rfl rfl (by decide +kernel) ⟨Nat.le_of_ble_eq_true rfl, Nat.le_of_ble_eq_true rfl⟩) rfl hl.1 (lv_room (Nat.le_of_ble_eq_true rfl)) dX4_smallest_32 ⟨Nat.le_refl _, Nat.le_refl _⟩ rfl (fun  H locs hP hS => ?_)
        refine lv_istore_n (lv' := [(2, .int (iI (smF (σ 0) q (k + 1)))), (0, .ref o), (1, .int (iI (↑(q.length)))), (3, .int (iI (↑k)))]) hx hb dX4_smallest_35 rfl hl (by decide) rfl (fun ls hl => ?_)
        refine z_iinc (y := ↑(k + 1)) (lv' := [(3, .int (iI (↑(k + 1)))), (2, .int (iI (smF (σ 0) q (k + 1)))), (0, .ref o), (1, .int (iI (↑(q.length))))]) hX dX4_smallest_36 hl (k := 3) rfl (by omega) (by decide) rfl (fun ls hl => ?_)
        refine lv_goto (tgt := 6) hx hb dX4_smallest_39 (by decide) ?_
        exact ih6 (k + 1) (by omega) (by omega) _ _ _ hP hS (lv_sub hl [2, 3, 1, 0] rfl)
  exact L6 (q.length + 1) (0) (by omega) (by omega) _ _ _ hP hS (lv_sub hl [2, 3, 1, 0] rfl)
set_option maxHeartbeats 4000000 in
theorem c_nets {l : Launch} {D : va_G} {Z : zZ} {o : Nat} {ad : Nat → Nat} {cA : Nat → ClassId} (hZ : zOk Z) (σ : zT) (sz : Nat) (n0 : Nat) (hn : σ 0 0 = n0 ∧ n0 ≤ 7) (B : Int) (hgo : gOk (σ 0) B) (q : List Nat) (hq : cOk (σ 0) n0 q) (ha : agr (σ 15) q) (E1 : Int) (hE1 : E1 = ((q.length : Nat) : Int)) : MI l D Z o ad cA yX4_nets (ws_ yX4_nets cX4_nets 4 (some .int)) { frames := 2, cells := 0, slots := 0, locals := 45 } [.ref o, .int (iI (E1))] sz (σ) (fI (smF (σ 0) q q.length) (sA σ 0 (sNets (σ 0) q))) := by
  obtain rfl := hE1
  refine w_met (cc := cX4_nets) (maxL := 4) (ret := some .int) (own := RX4) (by decide) rfl rfl mW_ok (Nat.le_of_ble_eq_true rfl) ?_
  intro p e s m below meth c hX hsz hK hP hD hA hE hS hR ls hl
  have hx := hX.1
  have hb := hX.2.1
  have hl : lv_has ls 4 [(0, .ref o), (1, .int (iI (↑(q.length))))] := hl
  have hl2 := hq.2.1
  have hl3 := hq.2.2.1
  refine lv_aload_n hx hb dX4_nets_0 rfl (lv_at hl 0 rfl) ?_
  refine lv_iload_n hx hb dX4_nets_1 rfl (lv_at hl 1 rfl) ?_
  refine m_calli (As := [.int (iI (↑(q.length)))]) (rest := []) hZ hX hK hD hA hE hP hS (c_smallest hZ (σ) _ n0 hn B hgo q hq ha _ rfl) (cwV 1 hX.hts (lw_V q2053 q2055 qs52 q89 q2056) rfl rfl rfl (by decide +kernel) ⟨Nat.le_of_ble_eq_true rfl, Nat.le_of_ble_eq_true rfl⟩) rfl hl.1 (lv_room (Nat.le_of_ble_eq_true rfl)) dX4_nets_2 ⟨Nat.le_refl _, Nat.le_refl _⟩ rfl (fun  H locs hP hS => ?_)
  refine lv_istore_n (lv' := [(2, .int (iI (smF (σ 0) q q.length))), (0, .ref o), (1, .int (iI (↑(q.length))))]) hx hb dX4_nets_5 rfl hl (by decide) rfl (fun ls hl => ?_)
  refine z_iconst hX dX4_nets_6 ?_
  refine z_top (y := ↑(0 : Nat)) (rfl) ?_
  refine lv_istore_n (lv' := [(3, .int (iI (↑(0 : Nat)))), (2, .int (iI (smF (σ 0) q q.length))), (0, .ref o), (1, .int (iI (↑(q.length))))]) hx hb dX4_nets_7 rfl hl (by decide) rfl (fun ls hl => ?_)
  have L8 : ∀ (n : Nat) (k : Nat), (q.length < k + n) → (k ≤ q.length) → ∀ (H : Heap) (locs : List Loc) (ls : Array Slot), va_P D vwCl (mW o ad cA (sA σ 0 (nsF (σ 0) q (smF (σ 0) q q.length) k))) H → va_S (wA (mW o ad cA) sz) s.heap H locs → lv_has ls 4 [(0, .ref o), (1, .int (iI (↑(q.length)))), (2, .int (iI (smF (σ 0) q q.length))), (3, .int (iI (↑k)))] → W p l e (headSpec (ws_ yX4_nets cX4_nets 4 (some .int)) { frames := 2, cells := 0, slots := 0, locals := 45 }).room s m ([.ref o, .int (iI (↑(q.length)))] : List Value).toArray below meth c H locs 0 0 (MQ below (wQi D vwCl (mW o ad cA) (fI (smF (σ 0) q q.length) (sA σ 0 (sNets (σ 0) q))) sz) ([.ref o, .int (iI (↑(q.length)))] : List Value).toArray s 0 0 (wA (mW o ad cA) sz)) (F0 m 8 ls []) := by
    intro n
    induction n with
    | zero =>
      intro k hf hk H locs ls hP hS hl
      exact absurd hf (by omega)
    | succ n ih8 =>
      intro k hf hk H locs ls hP hS hl
      refine lv_iload_n hx hb dX4_nets_8 rfl (lv_at hl 3 rfl) ?_
      refine lv_iload_n hx hb dX4_nets_9 rfl (lv_at hl 1 rfl) ?_
      refine z_icmp_ge (tgt := 51) hX (by omega) dX4_nets_10 (by decide) (fun c_10 => ?_) (fun c_10 => ?_)
      · skip
        obtain rfl : k = q.length := by omega
        refine W.eq (g2 := F0 m 51 ls []) rfl ?_
        refine lv_aload_n hx hb dX4_nets_51 rfl (lv_at hl 0 rfl) ?_
        refine m_get hX hK hP 0 (by decide) q1908 rfl dX4_nets_52 ?_
        refine z_iconst hX dX4_nets_55 ?_
        refine lv_dup2_11 hx hb dX4_nets_56 rfl rfl ?_
        refine m_ld hX hK hP mW_e0 2 (by decide) (by decide) dX4_nets_57 ?_
        refine z_top (y := (nsF (σ 0) q (smF (σ 0) q q.length) q.length) 2) (by rw [sA_j]) ?_
        refine lv_iload_n hx hb dX4_nets_58 rfl (lv_at hl 1 rfl) ?_
        refine lv_iload_n hx hb dX4_nets_59 rfl (lv_at hl 2 rfl) ?_
        refine z_imul hX dX4_nets_60 ?_
        refine z_iadd hX dX4_nets_61 ?_
        refine m_st hX hK hD hP hS mW_e0 2 mW_s0 (by decide) (by decide) dX4_nets_62 (fun H locs hP hS => ?_)
        rw [show uA (sA σ 0 (nsF (σ 0) q (smF (σ 0) q q.length) q.length)) 0 2 (((nsF (σ 0) q (smF (σ 0) q q.length) q.length) 2) + ((↑(q.length)) * (smF (σ 0) q q.length))) = sA σ 0 (gU (nsF (σ 0) q (smF (σ 0) q q.length) q.length) 2 (((nsF (σ 0) q (smF (σ 0) q q.length) q.length) 2) + ((↑(q.length)) * (smF (σ 0) q q.length)))) from uA_in] at hP
        refine W.eq (g2 := F0 m 63 ls []) rfl ?_
        refine lv_iload_n hx hb dX4_nets_63 rfl (lv_at hl 2 rfl) ?_
        exact w_iret hX hP hS (⟨rfl, rfl⟩) dX4_nets_64
      · skip
        have hqk := hq.1.2.1 k (by omega)
        have hmd := Nat.mod_lt (k + 1) (show q.length > 0 by omega)
        have hqk2 := hq.1.2.1 ((k + 1) % q.length) hmd
        have hbe := hgo.2.2.1 (qk q k) (qk q ((k + 1) % q.length)) (by omega) (by omega)
        have hbe : 0 ≤ σ 0 (eI q k) ∧ σ 0 (eI q k) ≤ 999 := hbe
        refine lv_aload_n hx hb dX4_nets_13 rfl (lv_at hl 0 rfl) ?_
        refine m_get hX hK hP 0 (by decide) q1908 rfl dX4_nets_14 ?_
        refine z_bipush hX dX4_nets_17 (by decide) ?_
        refine z_bipush hX dX4_nets_19 (by decide) ?_
        refine lv_aload_n hx hb dX4_nets_21 rfl (lv_at hl 0 rfl) ?_
        refine m_get hX hK hP 15 (by decide) q1923 rfl dX4_nets_22 ?_
        refine lv_iload_n hx hb dX4_nets_25 rfl (lv_at hl 3 rfl) ?_
        refine m_ld hX hK hP mW_e15 k (⟨rfl, by omega⟩) (by decide) dX4_nets_26 ?_
        refine z_top (y := ↑(qk q k)) (by rw [sA_i (by decide)]; exact ha k (by omega)) ?_
        refine W.eq (g2 := F0 m 27 ls [.int (iI (↑(qk q k))), .int (iI (7)), .int (iI (12)), .ref (ad 0)]) rfl ?_
        refine z_imul hX dX4_nets_27 ?_
        refine z_iadd hX dX4_nets_28 ?_
        refine lv_aload_n hx hb dX4_nets_29 rfl (lv_at hl 0 rfl) ?_
        refine m_get hX hK hP 15 (by decide) q1923 rfl dX4_nets_30 ?_
        refine lv_iload_n hx hb dX4_nets_33 rfl (lv_at hl 3 rfl) ?_
        refine z_iconst hX dX4_nets_34 ?_
        refine z_iadd hX dX4_nets_35 ?_
        refine lv_iload_n hx hb dX4_nets_36 rfl (lv_at hl 1 rfl) ?_
        refine z_irem hX dX4_nets_37 (by omega) ?_
        refine m_ld hX hK hP mW_e15 (((k + 1) % q.length)) (⟨zmod _ _, by omega⟩) (by decide) dX4_nets_38 ?_
        refine z_top (y := ↑(qk q ((k + 1) % q.length))) (by rw [sA_i (by decide)]; exact ha _ hmd) ?_
        refine W.eq (g2 := F0 m 39 ls [.int (iI (↑(qk q ((k + 1) % q.length)))), .int (iI (12 + (7 * (↑(qk q k))))), .ref (ad 0)]) rfl ?_
        refine z_iadd hX dX4_nets_39 ?_
        refine lv_dup2_11 hx hb dX4_nets_40 rfl rfl ?_
        refine m_ld hX hK hP mW_e0 (eI q k) (by unfold eI; omega) (by decide) dX4_nets_41 ?_
        refine z_top (y := (nsF (σ 0) q (smF (σ 0) q q.length) k) (eI q k)) (by rw [sA_j]) ?_
        refine lv_iload_n hx hb dX4_nets_42 rfl (lv_at hl 2 rfl) ?_
        refine z_isub hX dX4_nets_43 ?_
        refine m_st hX hK hD hP hS mW_e0 (eI q k) mW_s0 (by unfold eI; omega) (by decide) dX4_nets_44 (fun H locs hP hS => ?_)
        rw [show uA (sA σ 0 (nsF (σ 0) q (smF (σ 0) q q.length) k)) 0 (eI q k) (((nsF (σ 0) q (smF (σ 0) q q.length) k) (eI q k)) - (smF (σ 0) q q.length)) = sA σ 0 (nsF (σ 0) q (smF (σ 0) q q.length) (k + 1)) from uA_in] at hP
        refine z_iinc (y := ↑(k + 1)) (lv' := [(3, .int (iI (↑(k + 1)))), (0, .ref o), (1, .int (iI (↑(q.length)))), (2, .int (iI (smF (σ 0) q q.length)))]) hX dX4_nets_45 hl (k := 3) rfl (by omega) (by decide) rfl (fun ls hl => ?_)
        refine lv_goto (tgt := 8) hx hb dX4_nets_48 (by decide) ?_
        exact ih8 (k + 1) (by omega) (by omega) _ _ _ hP hS (lv_sub hl [1, 2, 3, 0] rfl)
  rw [show σ = sA σ 0 (nsF (σ 0) q (smF (σ 0) q q.length) 0) from sA_self.symm] at hP
  exact L8 (q.length + 1) (0) (by omega) (by omega) _ _ _ hP hS (lv_sub hl [2, 3, 1, 0] rfl)
set_option maxHeartbeats 4000000 in
theorem c_netCycle {l : Launch} {D : va_G} {Z : zZ} {o : Nat} {ad : Nat → Nat} {cA : Nat → ClassId} (hZ : zOk Z) (σ : zT) (sz : Nat) (n0 : Nat) (hn : σ 0 0 = n0 ∧ n0 ≤ 7) (B : Int) (hgo : gOk (σ 0) B) (n6 : Nat) (h6 : σ 6 0 = n6 ∧ n6 ≤ 8) (h7 : σ 7 0 = 0 ∨ σ 7 0 = 1) : MI l D Z o ad cA yX4_netCycle (ws_ yX4_netCycle cX4_netCycle 2 (some .int)) { frames := 9, cells := 0, slots := 0, locals := 226 } [.ref o] sz (σ) (fR ((ncR σ n0 n6))) := by
  refine w_met (cc := cX4_netCycle) (maxL := 2) (ret := some .int) (own := RX4) (by decide) rfl rfl mW_ok (Nat.le_of_ble_eq_true rfl) ?_
  intro p e s m below meth c hX hsz hK hP hD hA hE hS hR ls hl
  have hx := hX.1
  have hb := hX.2.1
  have hl : lv_has ls 2 [(0, .ref o)] := hl
  refine lv_aload_n hx hb dX4_netCycle_0 rfl (lv_at hl 0 rfl) ?_
  refine m_callR (As := []) (rest := []) hZ hX hK hD hA hE hP hS (c_looks hZ (σ) _ n0 hn B hgo) (cwV 0 hX.hts (lw_V q2041 q2043 qs49 q89 q2044) rfl rfl rfl (by decide +kernel) ⟨Nat.le_of_ble_eq_true rfl, Nat.le_of_ble_eq_true rfl⟩) rfl hl.1 (lv_room (Nat.le_of_ble_eq_true rfl)) dX4_netCycle_1 ⟨Nat.le_refl _, Nat.le_refl _⟩ rfl (fun z y H locs hq hP hS => ?_)
  obtain ⟨c1, hy2, hlc1⟩ := hq
  rw [hy2] at hP
  have hzc1 := lR_z (by omega) hlc1
  refine lv_istore_n (lv' := [(1, .int (iI (z))), (0, .ref o)]) hx hb dX4_netCycle_4 rfl hl (by decide) rfl (fun ls hl => ?_)
  refine lv_aload_n hx hb dX4_netCycle_5 rfl (lv_at hl 1 rfl) ?_
  refine lv_iload_n hx hb dX4_netCycle_6 rfl (lv_at hl 0 rfl) ?_
  refine z_if_ne (tgt := 14) hX (by omega) dX4_netCycle_7 (by decide) (fun c_7 => ?_) (fun c_7 => ?_)
  · skip
    obtain ⟨q, hlq, hlz, hla⟩ : ∃ q, lookF (σ 0) n0 = some q ∧ z = ((q.length : Nat) : Int) ∧ agr c1 q := by
      rcases hlc1 with h | h
      · exact h
      · exact absurd h.2 (by omega)
    refine z_iconst hX dX4_netCycle_14 ?_
    refine m_calli (As := [.int (iI (0))]) (rest := []) hZ hX hK hD hA hE hP hS (c_fails hZ (sA σ 15 c1) _ (0) (by omega)) (cwV 1 hX.hts (lw_V q1987 q1989 qs42 q89 q1990) rfl rfl rfl (by decide +kernel) ⟨Nat.le_of_ble_eq_true rfl, Nat.le_of_ble_eq_true rfl⟩) rfl hl.1 (lv_room (Nat.le_of_ble_eq_true rfl)) dX4_netCycle_15 ⟨Nat.le_refl _, Nat.le_refl _⟩ rfl (fun  H locs hP hS => ?_)
    refine z_if_eqB (tgt := 23) hX dX4_netCycle_18 (by decide) (fun h9 => ?_) (fun h9 => absurd h9 (by decide))
    refine W.eq (g2 := F0 m 23 ls []) rfl ?_
    refine lv_aload_n hx hb dX4_netCycle_23 rfl (lv_at hl 1 rfl) ?_
    refine lv_aload_n hx hb dX4_netCycle_24 rfl (lv_at hl 1 rfl) ?_
    refine m_get hX hK hP 0 (by decide) q1908 rfl dX4_netCycle_25 ?_
    refine m_callv (As := [.ref (ad 0)]) (rest := []) hZ hX hK hD hA hE hP hS (c_keeps hZ (uA (sA σ 15 c1) 8 0 0) _ _ 0 _ (fun _ => mW_e0) (by decide) (by decide) (by decide) n6 (by simpa [uA, sA] using h6) (by simpa [uA, sA] using h7)) (cwV 1 hX.hts (lw_V q1991 q1993 qs43 q89 q1994) rfl rfl rfl (by decide +kernel) ⟨Nat.le_of_ble_eq_true rfl, Nat.le_of_ble_eq_true rfl⟩) rfl hl.1 (lv_room (Nat.le_of_ble_eq_true rfl)) dX4_netCycle_28 ⟨Nat.le_refl _, Nat.le_refl _⟩ rfl (fun  H locs hP hS => ?_)
    rw [show kF 0 (uA (sA σ 15 c1) 8 0 0) n6 = kF 0 (sA σ 15 c1) n6 from kF_u8 (by decide)] at hP
    refine lv_aload_n hx hb dX4_netCycle_31 rfl (lv_at hl 1 rfl) ?_
    refine lv_iload_n hx hb dX4_netCycle_32 rfl (lv_at hl 0 rfl) ?_
    refine m_calli (As := [.int (iI (z))]) (rest := []) hZ hX hK hD hA hE hP hS (c_nets hZ (kF 0 (sA σ 15 c1) n6) _ n0 (by simpa [kF_i, sA] using hn) B (by rw [kF_i (by decide) (by decide) (by decide), sA_i (by decide)]; exact hgo) q (by rw [kF_i (by decide) (by decide) (by decide), sA_i (by decide)]; exact lookF_ok hlq) (by rw [kF_i (by decide) (by decide) (by decide), sA_j]; exact hla) _ hlz) (cwV 1 hX.hts (lw_V q2049 q2051 qs51 q89 q2052) rfl rfl rfl (by decide +kernel) ⟨Nat.le_of_ble_eq_true rfl, Nat.le_of_ble_eq_true rfl⟩) rfl hl.1 (lv_room (Nat.le_of_ble_eq_true rfl)) dX4_netCycle_33 ⟨Nat.le_refl _, Nat.le_refl _⟩ rfl (fun  H locs hP hS => ?_)
    rw [show sA (kF 0 (sA σ 15 c1) n6) 0 (sNets ((kF 0 (sA σ 15 c1) n6) 0) q) = sA (kF 0 (sA σ 15 c1) n6) 0 (sNets (σ 0) q) from by rw [kF_i (by decide) (by decide) (by decide), sA_i (by decide)]] at hP
    refine z_top (y := smF (σ 0) q q.length) (by rw [kF_i (by decide) (by decide) (by decide), sA_i (by decide)]) ?_
    exact w_iret hX hP hS (⟨_, rfl, c1, Or.inr ⟨q, hlq, rfl, rfl⟩⟩) dX4_netCycle_36
  · skip
    refine z_iconst hX dX4_netCycle_10 ?_
    refine lv_goto (tgt := 15) hx hb dX4_netCycle_11 (by decide) ?_
    refine W.eq (g2 := F0 m 15 ls [.int (iI (1)), .ref o]) rfl ?_
    refine m_calli (As := [.int (iI (1))]) (rest := []) hZ hX hK hD hA hE hP hS (c_fails hZ (sA σ 15 c1) _ (1) (by omega)) (cwV 1 hX.hts (lw_V q1987 q1989 qs42 q89 q1990) rfl rfl rfl (by decide +kernel) ⟨Nat.le_of_ble_eq_true rfl, Nat.le_of_ble_eq_true rfl⟩) rfl hl.1 (lv_room (Nat.le_of_ble_eq_true rfl)) dX4_netCycle_15 ⟨Nat.le_refl _, Nat.le_refl _⟩ rfl (fun  H locs hP hS => ?_)
    refine z_if_eqB (tgt := 23) hX dX4_netCycle_18 (by decide) (fun h9 => absurd h9 (by decide)) (fun h9 => ?_)
    refine z_iconst hX dX4_netCycle_21 ?_
    exact w_iret hX hP hS (⟨0, rfl, c1, Or.inl ⟨by
      rcases hlc1 with ⟨q, h1, h2, h3⟩ | h
      · have h9 := (lookF_ok h1).2.1; omega
      · exact h.1, rfl, rfl⟩⟩) dX4_netCycle_22
