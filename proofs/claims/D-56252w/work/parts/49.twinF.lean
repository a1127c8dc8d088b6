/-! the twin reads: commands -/
set_option maxRecDepth 100000
set_option maxHeartbeats 4000000 in
theorem c_figures {l : Launch} {D : va_G} {Z : zZ} {o : Nat} {ad : Nat → Nat} {cA : Nat → ClassId} (hZ : zOk Z) (σ : zT) (sz : Nat) (len : Nat) (hlen : σ 10 0 = len ∧ len ≤ 60) (hin : ∀ k, k < len → 0 ≤ σ 9 k ∧ σ 9 k < 65536) (a : Nat) (t : Nat → Int) (hal : a ≤ len) (pl mo : Nat) (E1 E2 : Int) (hE1 : E1 = (pl : Int) ∧ pl < 124) (hE2 : E2 = (mo : Int) ∧ mo ≤ 3) : MI l D Z o ad cA yX4_figures (ws_ yX4_figures cX4_figures 3 (some .boolean)) { frames := 2, cells := 0, slots := 0, locals := 45 } [.ref o, .int (iI (E1)), .int (iI (E2))] sz (pS σ a t) (fR ((pP σ (fgS (σ 9) len pl mo (a, t))))) := by
  obtain ⟨rfl, hpl⟩ := hE1
  obtain ⟨rfl, hmo⟩ := hE2
  refine w_met (cc := cX4_figures) (maxL := 3) (ret := some .boolean) (own := RX4) (by decide) rfl rfl mW_ok (Nat.le_of_ble_eq_true rfl) ?_
  intro p e s m below meth c hX hsz hK hP hD hA hE hS hR ls hl
  have hx := hX.1
  have hb := hX.2.1
  have hl : lv_has ls 3 [(0, .ref o), (1, .int (iI (↑pl))), (2, .int (iI (↑mo)))] := hl
  refine lv_aload_n hx hb dX4_figures_0 rfl (lv_at hl 0 rfl) ?_
  refine z_bipush hX dX4_figures_1 (by decide) ?_
  refine m_callR (As := [.int (iI (32))]) (rest := []) hZ hX hK hD hA hE hP hS (c_skips hZ σ _ len hlen hin a t (by omega) 32 (by decide)) (cwV 1 hX.hts (lw_V q2257 q2259 qs68 q89 q2260) rfl rfl rfl (by decide +kernel) ⟨Nat.le_of_ble_eq_true rfl, Nat.le_of_ble_eq_true rfl⟩) rfl hl.1 (lv_room (Nat.le_of_ble_eq_true rfl)) dX4_figures_3 ⟨Nat.le_refl _, Nat.le_refl _⟩ rfl (fun z1 y H locs hq hP hS => ?_)
  obtain ⟨b1, a1, t1, he1, hz1, hy1⟩ := hq
  rw [hy1] at hP
  refine z_top hz1 ?_
  have hal1 : a1 ≤ len := stp_le he1 (skS_stp (by decide) (by omega))
  refine z_if_eqB (tgt := 22) hX dX4_figures_6 (by decide) (fun c_6 => ?_) (fun c_6 => ?_)
  · skip
    first | (obtain rfl : b1 = true := c_6) | (obtain rfl : b1 = false := bN c_6)
    refine z_iconst hX dX4_figures_22 ?_
    exact w_zret hX hP hS (by decide) (pP_of (b := false) (by simp only [fgS, anS, ifS_t, ifS_f, noS, he1]) (by first | rfl | decide)) dX4_figures_23
  · skip
    first | (obtain rfl : b1 = true := c_6) | (obtain rfl : b1 = false := bN c_6)
    refine lv_aload_n hx hb dX4_figures_9 rfl (lv_at hl 0 rfl) ?_
    refine lv_iload_n hx hb dX4_figures_10 rfl (lv_at hl 1 rfl) ?_
    refine lv_iload_n hx hb dX4_figures_11 rfl (lv_at hl 2 rfl) ?_
    refine W.eq (g2 := F0 m 12 ls [.int (iI (↑mo)), .int (iI (↑pl)), .ref o]) rfl ?_
    refine m_callR (As := [.int (iI (↑pl)), .int (iI (↑mo))]) (rest := []) hZ hX hK hD hA hE hP hS (c_digits hZ σ _ len hlen hin a1 t1 (by omega) pl mo (↑pl) (↑mo) (by omega) (by omega)) (cwV 2 hX.hts (lw_V q2276 q2278 qs72 q89 q2279) rfl rfl rfl (by decide +kernel) ⟨Nat.le_of_ble_eq_true rfl, Nat.le_of_ble_eq_true rfl⟩) rfl hl.1 (lv_room (Nat.le_of_ble_eq_true rfl)) dX4_figures_12 ⟨Nat.le_refl _, Nat.le_refl _⟩ rfl (fun z2 y H locs hq hP hS => ?_)
    obtain ⟨b2, a2, t2, he2, hz2, hy2⟩ := hq
    rw [hy2] at hP
    refine z_top hz2 ?_
    have hal2 : a2 ≤ len := stp_le he2 (dgS_stp (by omega))
    refine z_if_eqB (tgt := 22) hX dX4_figures_15 (by decide) (fun c_15 => ?_) (fun c_15 => ?_)
    · skip
      first | (obtain rfl : b2 = true := c_15) | (obtain rfl : b2 = false := bN c_15)
      refine z_iconst hX dX4_figures_22 ?_
      exact w_zret hX hP hS (by decide) (pP_of (b := false) (by simp only [fgS, anS, ifS_t, ifS_f, noS, he1, he2]) (by first | rfl | decide)) dX4_figures_23
    · skip
      first | (obtain rfl : b2 = true := c_15) | (obtain rfl : b2 = false := bN c_15)
      refine z_iconst hX dX4_figures_18 ?_
      refine lv_goto (tgt := 23) hx hb dX4_figures_19 (by decide) ?_
      exact w_zret hX hP hS (by decide) (pP_of (b := true) (by simp only [fgS, anS, ifS_t, ifS_f, noS, he1, he2]) (by first | rfl | decide)) dX4_figures_23
set_option maxHeartbeats 4000000 in
theorem c_pair {l : Launch} {D : va_G} {Z : zZ} {o : Nat} {ad : Nat → Nat} {cA : Nat → ClassId} (hZ : zOk Z) (σ : zT) (sz : Nat) (len : Nat) (hlen : σ 10 0 = len ∧ len ≤ 60) (hin : ∀ k, k < len → 0 ≤ σ 9 k ∧ σ 9 k < 65536) (a : Nat) (t : Nat → Int) (hal : a ≤ len) (pl : Nat) (E1 : Int) (hE1 : E1 = (pl : Int) ∧ pl < 123) : MI l D Z o ad cA yX4_pair (ws_ yX4_pair cX4_pair 2 (some .boolean)) { frames := 3, cells := 0, slots := 0, locals := 67 } [.ref o, .int (iI (E1))] sz (pS σ a t) (fR ((pP σ (prS (σ 9) len pl (a, t))))) := by
  obtain ⟨rfl, hpl⟩ := hE1
  refine w_met (cc := cX4_pair) (maxL := 2) (ret := some .boolean) (own := RX4) (by decide) rfl rfl mW_ok (Nat.le_of_ble_eq_true rfl) ?_
  intro p e s m below meth c hX hsz hK hP hD hA hE hS hR ls hl
  have hx := hX.1
  have hb := hX.2.1
  have hl : lv_has ls 2 [(0, .ref o), (1, .int (iI (↑pl)))] := hl
  refine lv_aload_n hx hb dX4_pair_0 rfl (lv_at hl 0 rfl) ?_
  refine lv_iload_n hx hb dX4_pair_1 rfl (lv_at hl 1 rfl) ?_
  refine z_iconst hX dX4_pair_2 ?_
  refine m_callR (As := [.int (iI (↑pl)), .int (iI (1))]) (rest := []) hZ hX hK hD hA hE hP hS (c_figures hZ σ _ len hlen hin a t (by omega) pl 1 (↑pl) 1 (by omega) (by omega)) (cwV 2 hX.hts (lw_V q2272 q2274 qs71 q89 q2275) rfl rfl rfl (by decide +kernel) ⟨Nat.le_of_ble_eq_true rfl, Nat.le_of_ble_eq_true rfl⟩) rfl hl.1 (lv_room (Nat.le_of_ble_eq_true rfl)) dX4_pair_3 ⟨Nat.le_refl _, Nat.le_refl _⟩ rfl (fun z1 y H locs hq hP hS => ?_)
  obtain ⟨b1, a1, t1, he1, hz1, hy1⟩ := hq
  rw [hy1] at hP
  refine z_top hz1 ?_
  have hal1 : a1 ≤ len := stp_le he1 (fgS_stp (by omega))
  refine z_if_eqB (tgt := 24) hX dX4_pair_6 (by decide) (fun c_6 => ?_) (fun c_6 => ?_)
  · skip
    first | (obtain rfl : b1 = true := c_6) | (obtain rfl : b1 = false := bN c_6)
    refine z_iconst hX dX4_pair_24 ?_
    exact w_zret hX hP hS (by decide) (pP_of (b := false) (by simp only [prS, anS, ifS_t, ifS_f, noS, he1]) (by first | rfl | decide)) dX4_pair_25
  · skip
    first | (obtain rfl : b1 = true := c_6) | (obtain rfl : b1 = false := bN c_6)
    refine lv_aload_n hx hb dX4_pair_9 rfl (lv_at hl 0 rfl) ?_
    refine lv_iload_n hx hb dX4_pair_10 rfl (lv_at hl 1 rfl) ?_
    refine W.eq (g2 := F0 m 11 ls [.int (iI (↑pl)), .ref o]) rfl ?_
    refine z_iconst hX dX4_pair_11 ?_
    refine z_iadd hX dX4_pair_12 ?_
    refine z_iconst hX dX4_pair_13 ?_
    refine m_callR (As := [.int (iI ((↑pl) + 1)), .int (iI (1))]) (rest := []) hZ hX hK hD hA hE hP hS (c_digits hZ σ _ len hlen hin a1 t1 (by omega) (pl + 1) 1 ((↑pl) + 1) 1 (by omega) (by omega)) (cwV 2 hX.hts (lw_V q2276 q2278 qs72 q89 q2279) rfl rfl rfl (by decide +kernel) ⟨Nat.le_of_ble_eq_true rfl, Nat.le_of_ble_eq_true rfl⟩) rfl hl.1 (lv_room (Nat.le_of_ble_eq_true rfl)) dX4_pair_14 ⟨Nat.le_refl _, Nat.le_refl _⟩ rfl (fun z2 y H locs hq hP hS => ?_)
    obtain ⟨b2, a2, t2, he2, hz2, hy2⟩ := hq
    rw [hy2] at hP
    refine z_top hz2 ?_
    have hal2 : a2 ≤ len := stp_le he2 (dgS_stp (by omega))
    refine z_if_eqB (tgt := 24) hX dX4_pair_17 (by decide) (fun c_17 => ?_) (fun c_17 => ?_)
    · skip
      first | (obtain rfl : b2 = true := c_17) | (obtain rfl : b2 = false := bN c_17)
      refine z_iconst hX dX4_pair_24 ?_
      exact w_zret hX hP hS (by decide) (pP_of (b := false) (by simp only [prS, anS, ifS_t, ifS_f, noS, he1, he2]) (by first | rfl | decide)) dX4_pair_25
    · skip
      first | (obtain rfl : b2 = true := c_17) | (obtain rfl : b2 = false := bN c_17)
      refine z_iconst hX dX4_pair_20 ?_
      refine lv_goto (tgt := 25) hx hb dX4_pair_21 (by decide) ?_
      exact w_zret hX hP hS (by decide) (pP_of (b := true) (by simp only [prS, anS, ifS_t, ifS_f, noS, he1, he2]) (by first | rfl | decide)) dX4_pair_25
set_option maxHeartbeats 4000000 in
theorem c_isWord {l : Launch} {D : va_G} {Z : zZ} {o : Nat} {ad : Nat → Nat} {cA : Nat → ClassId} (hZ : zOk Z) (σ : zT) (sz : Nat) (len : Nat) (hlen : σ 10 0 = len ∧ len ≤ 60) (hin : ∀ k, k < len → 0 ≤ σ 9 k ∧ σ 9 k < 65536) (a : Nat) (t : Nat → Int) (hal : a ≤ len) (tm : Nat) (htm : σ 21 0 = tm ∧ tm < 31) (V : Int) {wa v : Nat} (wd : List Nat) (hwd0 : wd.length < 1000 ∧ ∀ k, k < wd.length → qk wd k < 128) (hs : ∀ A U H, Z A U H → zSt wa 0 v wd.length (fun j => sB (qk wd j)) A U H) (hj : ∀ A U H, Z A U H → jJ A U H) : MI l D Z o ad cA yX4_isWord (ws_ yX4_isWord cX4_isWord 4 (some .boolean)) { frames := 4, cells := 0, slots := 0, locals := 221 } [.ref o, .int (iI (V)), .ref (wa)] sz (pS σ a t) (fR ((pP σ (wdS (σ 9) len tm V wd (a, t))))) := by
  obtain ⟨hwn, hwd⟩ := hwd0
  refine w_met (cc := cX4_isWord) (maxL := 4) (ret := some .boolean) (own := RX4) (by decide) rfl rfl mW_ok (Nat.le_of_ble_eq_true rfl) ?_
  intro p e s m below meth c hX hsz hK hP hD hA hE hS hR ls hl
  have hx := hX.1
  have hb := hX.2.1
  have hl : lv_has ls 4 [(0, .ref o), (1, .int (iI (V))), (2, .ref wa)] := hl
  refine lv_aload_n hx hb dX4_isWord_0 rfl (lv_at hl 0 rfl) ?_
  refine m_get hX hK hP 20 (by decide) q1928 rfl dX4_isWord_1 ?_
  refine z_iconst hX dX4_isWord_4 ?_
  refine lv_aload_n hx hb dX4_isWord_5 rfl (lv_at hl 0 rfl) ?_
  refine m_get hX hK hP 21 (by decide) q1929 rfl dX4_isWord_6 ?_
  refine z_top (y := σ 21 0) (by rw [pS_i (by decide) (by decide)]) ?_
  refine z_imul hX dX4_isWord_9 ?_
  refine lv_iload_n hx hb dX4_isWord_10 rfl (lv_at hl 1 rfl) ?_
  refine m_st hX hK hD hP hS mW_e20 ((4 * tm)) mW_s20 (by omega) (by decide) dX4_isWord_11 (fun H locs hP hS => ?_)
  rw [show uA (pS σ a t) 20 ((4 * tm)) V = pS σ a (gU t ((4 * tm)) V) from pS_u20] at hP
  refine z_iconst hX dX4_isWord_12 ?_
  refine W.eq (g2 := F0 m 13 ls [.int (iI (0))]) rfl ?_
  refine lv_istore_n (lv' := [(3, .int (iI (0))), (0, .ref o), (1, .int (iI (V))), (2, .ref wa)]) hx hb dX4_isWord_13 rfl hl (by decide) rfl (fun ls hl => ?_)
  have L14 : ∀ (n : Nat) (k a1 : Nat), (wd.length < k + n) → (k ≤ wd.length) → (a1 ≤ len) → (swF (σ 9) len (wd.drop k) a1 = swF (σ 9) len wd a) → ∀ (H : Heap) (locs : List Loc) (ls : Array Slot), va_P D vwCl (mW o ad cA (pS σ a1 (gU t (4 * tm) V))) H → va_S (wA (mW o ad cA) sz) s.heap H locs → lv_has ls 4 [(0, .ref o), (2, .ref wa), (3, .int (iI (↑k)))] → W p l e (headSpec (ws_ yX4_isWord cX4_isWord 4 (some .boolean)) { frames := 4, cells := 0, slots := 0, locals := 221 }).room s m ([.ref o, .int (iI (V)), .ref wa] : List Value).toArray below meth c H locs 0 0 (MQ below (wQi D vwCl (mW o ad cA) (fR ((pP σ (wdS (σ 9) len tm V wd (a, t))))) sz) ([.ref o, .int (iI (V)), .ref wa] : List Value).toArray s 0 0 (wA (mW o ad cA) sz)) (F0 m 14 ls []) := by
    intro n
    induction n with
    | zero =>
      intro k a1 hf hk ha1 hd H locs ls hP hS hl
      exact absurd hf (by omega)
    | succ n ih14 =>
      intro k a1 hf hk ha1 hd H locs ls hP hS hl
      refine lv_iload_n hx hb dX4_isWord_14 rfl (lv_at hl 2 rfl) ?_
      refine lv_aload_n hx hb dX4_isWord_15 rfl (lv_at hl 1 rfl) ?_
      refine r_calli hA hP hS (va_runV (As := []) (rest := [.int (iI (↑k))]) hX.fix (c_J4_length hZ _ hs hj (Or.inl rfl) wd.length ⟨by simp, by omega⟩) (cwV 0 hX.hts (lw_V q2270 q1454 q1455 q87 q1456) rfl rfl rfl (by decide +kernel) ⟨Nat.le_of_ble_eq_true rfl, Nat.le_of_ble_eq_true rfl⟩) (r_preV hZ hK hA hE (fun k q h => by cases h) hS (zSt_recv (hs _ _ _ hE) hS)) rfl rfl hl.1 rfl (lv_room (Nat.le_of_ble_eq_true rfl)) dX4_isWord_16 ⟨Nat.le_of_ble_eq_true rfl, Nat.le_of_ble_eq_true rfl⟩) (fun r y H locs hq hP hS => ?_)
      rw [show r = iI (↑wd.length) from hq]
      refine z_icmp_ge (tgt := 42) hX (by omega) dX4_isWord_19 (by decide) (fun c_19 => ?_) (fun c_19 => ?_)
      · skip
        refine z_iconst hX dX4_isWord_42 ?_
        exact w_zret hX hP hS (by decide) (pP_of (b := true) (by unfold wdS; rw [← hd, List.drop_eq_nil_of_le (by omega)]; rfl) rfl) dX4_isWord_43
      · skip
        have c_19 : k < wd.length := by omega
        refine lv_aload_n hx hb dX4_isWord_22 rfl (lv_at hl 0 rfl) ?_
        refine lv_aload_n hx hb dX4_isWord_23 rfl (lv_at hl 1 rfl) ?_
        refine lv_iload_n hx hb dX4_isWord_24 rfl (lv_at hl 2 rfl) ?_
        refine r_calli hA hP hS (va_runV (As := [.int (iI (↑k))]) (rest := [.ref o]) hX.fix (c_J4_charAt hZ _ hs hj k (qk wd k) ⟨by omega, by omega⟩ (by have := hwd k (by omega); omega) rfl) (cwV 1 hX.hts (lw_V q2271 q1604 q1605 q87 q1606) rfl rfl rfl (by decide +kernel) ⟨Nat.le_of_ble_eq_true rfl, Nat.le_of_ble_eq_true rfl⟩) (r_preV hZ hK hA hE (fun k q h => by cases h) hS (zSt_recv (hs _ _ _ hE) hS)) rfl rfl hl.1 rfl (lv_room (Nat.le_of_ble_eq_true rfl)) dX4_isWord_25 ⟨Nat.le_of_ble_eq_true rfl, Nat.le_of_ble_eq_true rfl⟩) (fun r y H locs hq hP hS => ?_)
        rw [show r = iI (↑(qk wd k)) from hq]
        refine m_callR (As := [.int (iI (↑(qk wd k)))]) (rest := []) hZ hX hK hD hA hE hP hS (c_skips hZ σ _ len hlen hin a1 (gU t (4 * tm) V) (by omega) (↑(qk wd k)) (by have := hwd k (by omega); omega)) (cwV 1 hX.hts (lw_V q2257 q2259 qs68 q89 q2260) rfl rfl rfl (by decide +kernel) ⟨Nat.le_of_ble_eq_true rfl, Nat.le_of_ble_eq_true rfl⟩) rfl hl.1 (lv_room (Nat.le_of_ble_eq_true rfl)) dX4_isWord_28 ⟨Nat.le_refl _, Nat.le_refl _⟩ rfl (fun z1 y H locs hq hP hS => ?_)
        obtain ⟨b1, a3, t3, he1, hz1, hy1⟩ := hq
        rw [hy1] at hP
        refine z_top hz1 ?_
        have hal3 : a3 ≤ len := stp_le he1 (skS_stp (by omega) (by omega))
        refine W.eq (g2 := F0 m 31 ls [.int (iI (bI (b1 = true)))]) rfl ?_
        refine z_if_neB (tgt := 36) hX dX4_isWord_31 (by decide) (fun c_31 => ?_) (fun c_31 => ?_)
        · skip
          obtain rfl : b1 = true := (by simpa using c_31)
          obtain ⟨hu, rfl, rfl⟩ := skS_t he1
          have hul := hrF_lt (inp := σ 9) (len := len) (a := a1) (by omega)
          refine z_iinc (y := ↑(k + 1)) (lv' := [(3, .int (iI (↑(k + 1)))), (0, .ref o), (2, .ref wa)]) hX dX4_isWord_36 hl (k := 2) rfl (by omega) (by decide) rfl (fun ls hl => ?_)
          refine lv_goto (tgt := 14) hx hb dX4_isWord_39 (by decide) ?_
          exact ih14 (k + 1) (a1 + 1) (by omega) (by omega) (by omega) (by rw [← hd, drop_cons c_19, swF_s hu]) _ _ _ hP hS (lv_sub hl [1, 2, 0] rfl)
        · skip
          obtain rfl : b1 = false := bN (by simpa using c_31)
          obtain ⟨hu, rfl, rfl⟩ := skS_f he1
          refine z_iconst hX dX4_isWord_34 ?_
          exact w_zret hX hP hS (by decide) (pP_of (b := false) (by unfold wdS; rw [← hd, drop_cons c_19, swF_n hu]) rfl) dX4_isWord_35
  exact L14 (wd.length + 1) (0) (a) (by omega) (by omega) (hal) (rfl) _ _ _ hP hS (lv_sub hl [1, 3, 0] rfl)
