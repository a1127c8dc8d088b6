/-! the house answers (3): ranks -/
set_option maxRecDepth 100000
abbrev hRB (g : Nat → Int) (a b : Nat) : Prop := mNet g a < mNet g b ∨ (mNet g a = mNet g b ∧ g (5 + a) < g (5 + b))
theorem hRB_ahd {g : Nat → Int} {a b : Nat} : (hRB g a b ∨ (¬ hRB g b a ∧ a < b)) ↔ (a ≠ b ∧ mAhd g a b) := by
  unfold hRB mAhd
  by_cases e : a = b
  · subst e; omega
  · omega
theorem rkB_of {g : Nat → Int} {a b : Nat} (h : hRB g a b ∨ (¬ hRB g b a ∧ a < b)) : 1 = rkB g b a := by
  unfold rkB; rw [bI_t (hRB_ahd.mp h)]
theorem rkB_no {g : Nat → Int} {a b : Nat} (h : ¬ (hRB g a b ∨ (¬ hRB g b a ∧ a < b))) : 0 = rkB g b a := by
  unfold rkB; rw [bI_f (fun q => h (hRB_ahd.mpr q))]
set_option maxHeartbeats 4000000 in
theorem c_X2_isRankedBefore {l : Launch} {D : va_G} {Z : zZ} {cA : Nat → ClassId} (hZ : zOk Z) (sz : Nat) {a : Nat → Nat} (σ : zT) (n0 : Nat) (hn : σ 0 0 = n0 ∧ n0 ≤ 7) (B : Int) (hgo : gOk (σ 0) B) (hB : B ≤ 2000000) (d1 d2 : Nat) (E1 E2 : Int) (h1 : E1 = d1 ∧ d1 < 7) (h2 : E2 = d2 ∧ d2 < 7) : Met l yX2_isRankedBefore (ws_ yX2_isRankedBefore cX2_isRankedBefore 4 (some .boolean)) { frames := 2, cells := 0, slots := 0, locals := 44 } (wPc D vwCl (tyL cA) Z w0 (hW a cA σ) [.ref (a 0), .int (iI (E1)), .int (iI (E2))] sz zO) (wQi D vwCl w0 (fun r _ => r = iI (bI (hRB (σ 0) d1 d2))) sz) 0 0 (wA w0 sz) := by
  obtain ⟨rfl, h1⟩ := h1
  obtain ⟨rfl, h2⟩ := h2
  refine w_met (cc := cX2_isRankedBefore) (maxL := 4) (ret := some .boolean) (own := RX2) (by decide) rfl rfl w0_ok (Nat.le_of_ble_eq_true rfl) ?_
  intro p e s m below meth c hX hsz hK hP hD hA hE hS hR ls hl
  have hx := hX.1
  have hb := hX.2.1
  have hl : lv_has ls 4 [(0, .ref (a 0)), (1, .int (iI (↑d1))), (2, .int (iI (↑d2)))] := hl
  have hc1 := hgo.2.1 d1 h1
  have hc2 := hgo.2.1 d2 h2
  have hm1 := mNet_bd hgo h1
  have hm2 := mNet_bd hgo h2
  refine lv_aload_n hx hb dX2_isRankedBefore_0 rfl (lv_at hl 0 rfl) ?_
  refine lv_iload_n hx hb dX2_isRankedBefore_1 rfl (lv_at hl 2 rfl) ?_
  refine r_calli hA hP hS (va_runV (As := [.int (iI (↑d2))]) (rest := []) hX.fix (c_X2_netPosition hZ _ σ n0 hn B hgo d2 _ (by omega)) (cwV 1 hX.hts (lw_V q517 q518 q519 q81 q520) rfl rfl rfl (by decide +kernel) ⟨Nat.le_of_ble_eq_true rfl, Nat.le_of_ble_eq_true rfl⟩) (r_preV hZ hK hA hE (hR _ _ hS) hS (va_recv hK (hR _ _ hS) (ci := 1) (q0 := 0) vw_X2 hW_0)) rfl rfl hl.1 rfl (lv_room (Nat.le_of_ble_eq_true rfl)) dX2_isRankedBefore_2 ⟨Nat.le_of_ble_eq_true rfl, Nat.le_of_ble_eq_true rfl⟩) (fun r y H locs hq hP hS => ?_)
  rw [show r = iI (mNet (σ 0) d2) from hq]
  refine lv_aload_n hx hb dX2_isRankedBefore_5 rfl (lv_at hl 0 rfl) ?_
  refine lv_iload_n hx hb dX2_isRankedBefore_6 rfl (lv_at hl 1 rfl) ?_
  refine r_calli hA hP hS (va_runV (As := [.int (iI (↑d1))]) (rest := [.int (iI (mNet (σ 0) d2))]) hX.fix (c_X2_netPosition hZ _ σ n0 hn B hgo d1 _ (by omega)) (cwV 1 hX.hts (lw_V q517 q518 q519 q81 q520) rfl rfl rfl (by decide +kernel) ⟨Nat.le_of_ble_eq_true rfl, Nat.le_of_ble_eq_true rfl⟩) (r_preV hZ hK hA hE (hR _ _ hS) hS (va_recv hK (hR _ _ hS) (ci := 1) (q0 := 0) vw_X2 hW_0)) rfl rfl hl.1 rfl (lv_room (Nat.le_of_ble_eq_true rfl)) dX2_isRankedBefore_7 ⟨Nat.le_of_ble_eq_true rfl, Nat.le_of_ble_eq_true rfl⟩) (fun r y H locs hq hP hS => ?_)
  rw [show r = iI (mNet (σ 0) d1) from hq]
  refine z_isub hX dX2_isRankedBefore_10 ?_
  refine lv_istore_n (lv' := [(3, .int (iI ((mNet (σ 0) d2) - (mNet (σ 0) d1)))), (0, .ref (a 0)), (1, .int (iI (↑d1))), (2, .int (iI (↑d2)))]) hx hb dX2_isRankedBefore_11 rfl hl (by decide) rfl (fun ls hl => ?_)
  refine lv_iload_n hx hb dX2_isRankedBefore_12 rfl (lv_at hl 0 rfl) ?_
  refine W.eq (g2 := F0 m 13 ls [.int (iI ((mNet (σ 0) d2) - (mNet (σ 0) d1)))]) rfl ?_
  refine z_if_eq (tgt := 28) hX (by omega) dX2_isRankedBefore_13 (by decide) (fun c_13 => ?_) (fun c_13 => ?_)
  · skip
    refine lv_aload_n hx hb dX2_isRankedBefore_28 rfl (lv_at hl 1 rfl) ?_
    refine h_get hX hK (hR _ _ hS) 1 (by decide) q168 rfl dX2_isRankedBefore_29 ?_
    refine lv_iload_n hx hb dX2_isRankedBefore_32 rfl (lv_at hl 2 rfl) ?_
    refine h_ldc hX hK (hR _ _ hS) d1 (⟨rfl, by omega⟩) dX2_isRankedBefore_33 ?_
    refine lv_aload_n hx hb dX2_isRankedBefore_34 rfl (lv_at hl 1 rfl) ?_
    refine h_get hX hK (hR _ _ hS) 1 (by decide) q168 rfl dX2_isRankedBefore_35 ?_
    refine lv_iload_n hx hb dX2_isRankedBefore_38 rfl (lv_at hl 3 rfl) ?_
    refine h_ldc hX hK (hR _ _ hS) d2 (⟨rfl, by omega⟩) dX2_isRankedBefore_39 ?_
    refine z_icmp_ge (tgt := 47) hX (by omega) dX2_isRankedBefore_40 (by decide) (fun c_40 => ?_) (fun c_40 => ?_)
    · skip
      refine W.eq (g2 := F0 m 47 ls []) rfl ?_
      refine z_iconst hX dX2_isRankedBefore_47 ?_
      exact w_zret hX hP hS (by decide) (by rw [bI_f (by unfold hRB; omega)]) dX2_isRankedBefore_48
    · skip
      refine z_iconst hX dX2_isRankedBefore_43 ?_
      refine lv_goto (tgt := 48) hx hb dX2_isRankedBefore_44 (by decide) ?_
      exact w_zret hX hP hS (by decide) (by rw [bI_t (by unfold hRB; omega)]) dX2_isRankedBefore_48
  · skip
    refine lv_iload_n hx hb dX2_isRankedBefore_16 rfl (lv_at hl 0 rfl) ?_
    refine z_if_le (tgt := 24) hX (by omega) dX2_isRankedBefore_17 (by decide) (fun c_17 => ?_) (fun c_17 => ?_)
    · skip
      refine z_iconst hX dX2_isRankedBefore_24 ?_
      refine lv_goto (tgt := 48) hx hb dX2_isRankedBefore_25 (by decide) ?_
      exact w_zret hX hP hS (by decide) (by rw [bI_f (by unfold hRB; omega)]) dX2_isRankedBefore_48
    · skip
      refine W.eq (g2 := F0 m 20 ls []) rfl ?_
      refine z_iconst hX dX2_isRankedBefore_20 ?_
      refine lv_goto (tgt := 48) hx hb dX2_isRankedBefore_21 (by decide) ?_
      exact w_zret hX hP hS (by decide) (by rw [bI_t (by unfold hRB; omega)]) dX2_isRankedBefore_48
set_option maxHeartbeats 4000000 in
theorem c_X2_partyAtRank {l : Launch} {D : va_G} {Z : zZ} {cA : Nat → ClassId} (hZ : zOk Z) (sz : Nat) {a : Nat → Nat} (σ : zT) (n0 : Nat) (hn : σ 0 0 = n0 ∧ n0 ≤ 7) (B : Int) (hgo : gOk (σ 0) B) (hB : B ≤ 2000000) (P : Int) (hP0 : (-2147483648 ≤ P ∧ P ≤ 2147483647)) : Met l yX2_partyAtRank (ws_ yX2_partyAtRank cX2_partyAtRank 6 (some .int)) { frames := 3, cells := 0, slots := 0, locals := 67 } (wPc D vwCl (tyL cA) Z w0 (hW a cA σ) [.ref (a 0), .int (iI (P))] sz zO) (wQi D vwCl w0 (fun r _ => r = iI (match parF (σ 0) n0 P with | some k => (k : Int) | none => -1)) sz) 0 0 (wA w0 sz) := by
  refine w_met (cc := cX2_partyAtRank) (maxL := 6) (ret := some .int) (own := RX2) (by decide) rfl rfl w0_ok (Nat.le_of_ble_eq_true rfl) ?_
  intro p e s m below meth c hX hsz hK hP hD hA hE hS hR ls hl
  have hx := hX.1
  have hb := hX.2.1
  have hl : lv_has ls 6 [(0, .ref (a 0)), (1, .int (iI (P)))] := hl
  refine z_iconst hX dX2_partyAtRank_0 ?_
  refine z_top (y := ↑(0 : Nat)) (rfl) ?_
  refine lv_istore_n (lv' := [(2, .int (iI (↑(0 : Nat)))), (0, .ref (a 0)), (1, .int (iI (P)))]) hx hb dX2_partyAtRank_1 rfl hl (by decide) rfl (fun ls hl => ?_)
  have L2 : ∀ (n : Nat) (k : Nat), (n0 < k + n) → (k ≤ n0) → (parF (σ 0) n0 P = tryF (paB (σ 0) n0 P) k (n0 - k)) → ∀ (H : Heap) (locs : List Loc) (ls : Array Slot), va_P D vwCl (w0 zO) H → va_S (wA w0 sz) s.heap H locs → lv_has ls 6 [(0, .ref (a 0)), (1, .int (iI (P))), (2, .int (iI (↑k)))] → W p l e (headSpec (ws_ yX2_partyAtRank cX2_partyAtRank 6 (some .int)) { frames := 3, cells := 0, slots := 0, locals := 67 }).room s m ([.ref (a 0), .int (iI (P))] : List Value).toArray below meth c H locs 0 0 (MQ below (wQi D vwCl w0 (fun r _ => r = iI (match parF (σ 0) n0 P with | some k => (k : Int) | none => -1)) sz) ([.ref (a 0), .int (iI (P))] : List Value).toArray s 0 0 (wA w0 sz)) (F0 m 2 ls []) := by
    intro n
    induction n with
    | zero =>
      intro k hf hk hF H locs ls hP hS hl
      exact absurd hf (by omega)
    | succ n ih2 =>
      intro k hf hk hF H locs ls hP hS hl
      refine lv_iload_n hx hb dX2_partyAtRank_2 rfl (lv_at hl 2 rfl) ?_
      refine lv_aload_n hx hb dX2_partyAtRank_3 rfl (lv_at hl 0 rfl) ?_
      refine h_get hX hK (hR _ _ hS) 3 (by decide) q172 rfl dX2_partyAtRank_4 ?_
      refine z_icmp_ge (tgt := 89) hX (by omega) dX2_partyAtRank_7 (by decide) (fun c_7 => ?_) (fun c_7 => ?_)
      · skip
        refine z_iconst hX dX2_partyAtRank_89 ?_
        exact w_iret hX hP hS (by rw [hF, show n0 - k = 0 from by omega]; rfl) dX2_partyAtRank_90
      · skip
        refine z_iconst hX dX2_partyAtRank_10 ?_
        refine z_top (y := sg (rkB (σ 0) k) 0) (rfl) ?_
        refine W.eq (g2 := F0 m 11 ls [.int (iI (sg (rkB (σ 0) k) 0))]) rfl ?_
        refine lv_istore_n (lv' := [(3, .int (iI (sg (rkB (σ 0) k) 0))), (0, .ref (a 0)), (1, .int (iI (P))), (2, .int (iI (↑k)))]) hx hb dX2_partyAtRank_11 rfl hl (by decide) rfl (fun ls hl => ?_)
        refine z_iconst hX dX2_partyAtRank_12 ?_
        refine z_top (y := ↑(0 : Nat)) (rfl) ?_
        refine lv_istore (lv' := [(4, .int (iI (↑(0 : Nat)))), (3, .int (iI (sg (rkB (σ 0) k) 0))), (0, .ref (a 0)), (1, .int (iI (P))), (2, .int (iI (↑k)))]) hx hb dX2_partyAtRank_13 hl (by decide) rfl (fun ls hl => ?_)
        have L15 : ∀ (n : Nat) (i : Nat), (n0 < i + n) → (i ≤ n0) → ∀ (H : Heap) (locs : List Loc) (ls : Array Slot), va_P D vwCl (w0 zO) H → va_S (wA w0 sz) s.heap H locs → lv_has ls 6 [(0, .ref (a 0)), (1, .int (iI (P))), (2, .int (iI (↑k))), (3, .int (iI (sg (rkB (σ 0) k) i))), (4, .int (iI (↑i)))] → W p l e (headSpec (ws_ yX2_partyAtRank cX2_partyAtRank 6 (some .int)) { frames := 3, cells := 0, slots := 0, locals := 67 }).room s m ([.ref (a 0), .int (iI (P))] : List Value).toArray below meth c H locs 0 0 (MQ below (wQi D vwCl w0 (fun r _ => r = iI (match parF (σ 0) n0 P with | some k => (k : Int) | none => -1)) sz) ([.ref (a 0), .int (iI (P))] : List Value).toArray s 0 0 (wA w0 sz)) (F0 m 15 ls []) := by
          intro n
          induction n with
          | zero =>
            intro i hf hi H locs ls hP hS hl
            exact absurd hf (by omega)
          | succ n ih15 =>
            intro i hf hi H locs ls hP hS hl
            refine lv_iload hx hb dX2_partyAtRank_15 (lv_at hl 4 rfl) ?_
            refine lv_aload_n hx hb dX2_partyAtRank_17 rfl (lv_at hl 0 rfl) ?_
            refine h_get hX hK (hR _ _ hS) 3 (by decide) q172 rfl dX2_partyAtRank_18 ?_
            refine z_icmp_ge (tgt := 76) hX (by omega) dX2_partyAtRank_21 (by decide) (fun c_21 => ?_) (fun c_21 => ?_)
            · skip
              obtain rfl : n0 = i := by omega
              have hrk := rkF_bd (g := σ 0) (n := n0) (k := k) (i := n0) (by omega)
              refine lv_iload_n hx hb dX2_partyAtRank_76 rfl (lv_at hl 3 rfl) ?_
              refine lv_iload_n hx hb dX2_partyAtRank_77 rfl (lv_at hl 1 rfl) ?_
              refine z_icmp_ne (tgt := 83) hX (by omega) dX2_partyAtRank_78 (by decide) (fun c_78 => ?_) (fun c_78 => ?_)
              · skip
                refine W.eq (g2 := F0 m 83 ls []) rfl ?_
                refine z_iinc (y := ↑(k + 1)) (lv' := [(2, .int (iI (↑(k + 1)))), (0, .ref (a 0)), (1, .int (iI (P))), (3, .int (iI (sg (rkB (σ 0) k) n0))), (4, .int (iI (↑n0)))]) hX dX2_partyAtRank_83 hl (k := 2) rfl (by omega) (by decide) rfl (fun ls hl => ?_)
                refine lv_goto (tgt := 2) hx hb dX2_partyAtRank_86 (by decide) ?_
                exact ih2 (k + 1) (by omega) (by omega) (by rw [hF, show n0 - k = (n0 - (k + 1)) + 1 from by omega, tryF_none (if_neg c_78)]) _ _ _ hP hS (lv_sub hl [1, 2, 0] rfl)
              · skip
                refine lv_iload_n hx hb dX2_partyAtRank_81 rfl (lv_at hl 2 rfl) ?_
                exact w_iret hX hP hS (by show iI (k : Int) = _; rw [hF, show n0 - k = (n0 - (k + 1)) + 1 from by omega, tryF_some (if_pos c_78)]) dX2_partyAtRank_82
            · skip
              refine lv_aload_n hx hb dX2_partyAtRank_24 rfl (lv_at hl 0 rfl) ?_
              refine lv_iload_n hx hb dX2_partyAtRank_25 rfl (lv_at hl 2 rfl) ?_
              refine lv_iload hx hb dX2_partyAtRank_26 (lv_at hl 4 rfl) ?_
              refine r_calli hA hP hS (va_runV (As := [.int (iI (↑k)), .int (iI (↑i))]) (rest := []) hX.fix (c_X2_isRankedBefore hZ _ σ n0 hn B hgo hB k i _ _ ⟨rfl, by omega⟩ ⟨rfl, by omega⟩) (cwV 2 hX.hts (lw_V q1161 q1163 qs20 q81 q1164) rfl rfl rfl (by decide +kernel) ⟨Nat.le_of_ble_eq_true rfl, Nat.le_of_ble_eq_true rfl⟩) (r_preV hZ hK hA hE (hR _ _ hS) hS (va_recv hK (hR _ _ hS) (ci := 1) (q0 := 0) vw_X2 hW_0)) rfl rfl hl.1 rfl (lv_room (Nat.le_of_ble_eq_true rfl)) dX2_partyAtRank_28 ⟨Nat.le_of_ble_eq_true rfl, Nat.le_of_ble_eq_true rfl⟩) (fun r y H locs hq hP hS => ?_)
              rw [show r = iI (bI (hRB (σ 0) k i)) from hq]
              have L47 : ∀ (H : Heap) (locs : List Loc) (ls : Array Slot), va_P D vwCl (w0 zO) H → va_S (wA w0 sz) s.heap H locs → lv_has ls 6 [(0, .ref (a 0)), (1, .int (iI (P))), (2, .int (iI (↑k))), (3, .int (iI (sg (rkB (σ 0) k) i))), (4, .int (iI (↑i))), (5, .int (iI (bI (¬ hRB (σ 0) k i ∧ i < k))))] → W p l e (headSpec (ws_ yX2_partyAtRank cX2_partyAtRank 6 (some .int)) { frames := 3, cells := 0, slots := 0, locals := 67 }).room s m ([.ref (a 0), .int (iI (P))] : List Value).toArray below meth c H locs 0 0 (MQ below (wQi D vwCl w0 (fun r _ => r = iI (match parF (σ 0) n0 P with | some k => (k : Int) | none => -1)) sz) ([.ref (a 0), .int (iI (P))] : List Value).toArray s 0 0 (wA w0 sz)) (F0 m 47 ls []) := by
                intro   H locs ls hP hS hl
                refine lv_iload_n hx hb dX2_partyAtRank_47 rfl (lv_at hl 3 rfl) ?_
                refine W.eq (g2 := F0 m 48 ls [.int (iI (sg (rkB (σ 0) k) i))]) rfl ?_
                refine lv_aload_n hx hb dX2_partyAtRank_48 rfl (lv_at hl 0 rfl) ?_
                refine lv_iload hx hb dX2_partyAtRank_49 (lv_at hl 4 rfl) ?_
                refine lv_iload_n hx hb dX2_partyAtRank_51 rfl (lv_at hl 2 rfl) ?_
                refine r_calli hA hP hS (va_runV (As := [.int (iI (↑i)), .int (iI (↑k))]) (rest := [.int (iI (sg (rkB (σ 0) k) i))]) hX.fix (c_X2_isRankedBefore hZ _ σ n0 hn B hgo hB i k _ _ ⟨rfl, by omega⟩ ⟨rfl, by omega⟩) (cwV 2 hX.hts (lw_V q1161 q1163 qs20 q81 q1164) rfl rfl rfl (by decide +kernel) ⟨Nat.le_of_ble_eq_true rfl, Nat.le_of_ble_eq_true rfl⟩) (r_preV hZ hK hA hE (hR _ _ hS) hS (va_recv hK (hR _ _ hS) (ci := 1) (q0 := 0) vw_X2 hW_0)) rfl rfl hl.1 rfl (lv_room (Nat.le_of_ble_eq_true rfl)) dX2_partyAtRank_52 ⟨Nat.le_of_ble_eq_true rfl, Nat.le_of_ble_eq_true rfl⟩) (fun r y H locs hq hP hS => ?_)
                rw [show r = iI (bI (hRB (σ 0) i k)) from hq]
                refine z_if_neB (tgt := 63) hX dX2_partyAtRank_55 (by decide) (fun c_55 => ?_) (fun c_55 => ?_)
                · skip
                  refine z_iconst hX dX2_partyAtRank_63 ?_
                  refine lv_goto (tgt := 68) hx hb dX2_partyAtRank_64 (by decide) ?_
                  refine z_top (y := rkB (σ 0) k i) (rkB_of (by first | exact Or.inl c_55 | exact Or.inr c_60)) ?_
                  refine z_iadd hX dX2_partyAtRank_68 ?_
                  refine z_top (y := sg (rkB (σ 0) k) (i + 1)) (rfl) ?_
                  refine lv_istore_n (lv' := [(3, .int (iI (sg (rkB (σ 0) k) (i + 1)))), (0, .ref (a 0)), (1, .int (iI (P))), (2, .int (iI (↑k))), (4, .int (iI (↑i))), (5, .int (iI (bI (¬ hRB (σ 0) k i ∧ i < k))))]) hx hb dX2_partyAtRank_69 rfl hl (by decide) rfl (fun ls hl => ?_)
                  refine z_iinc (y := ↑(i + 1)) (lv' := [(4, .int (iI (↑(i + 1)))), (3, .int (iI (sg (rkB (σ 0) k) (i + 1)))), (0, .ref (a 0)), (1, .int (iI (P))), (2, .int (iI (↑k))), (5, .int (iI (bI (¬ hRB (σ 0) k i ∧ i < k))))]) hX dX2_partyAtRank_70 hl (k := 4) rfl (by omega) (by decide) rfl (fun ls hl => ?_)
                  refine lv_goto (tgt := 15) hx hb dX2_partyAtRank_73 (by decide) ?_
                  exact ih15 (i + 1) (by omega) (by omega) _ _ _ hP hS (lv_sub hl [2, 3, 4, 1, 0] rfl)
                · skip
                  refine lv_iload hx hb dX2_partyAtRank_58 (lv_at hl 5 rfl) ?_
                  refine z_if_eqB (tgt := 67) hX dX2_partyAtRank_60 (by decide) (fun c_60 => ?_) (fun c_60 => ?_)
                  · skip
                    refine z_iconst hX dX2_partyAtRank_67 ?_
                    refine z_top (y := rkB (σ 0) k i) (rkB_no (by first | exact fun h => h.elim c_55 c_60)) ?_
                    refine z_iadd hX dX2_partyAtRank_68 ?_
                    refine z_top (y := sg (rkB (σ 0) k) (i + 1)) (rfl) ?_
                    refine lv_istore_n (lv' := [(3, .int (iI (sg (rkB (σ 0) k) (i + 1)))), (0, .ref (a 0)), (1, .int (iI (P))), (2, .int (iI (↑k))), (4, .int (iI (↑i))), (5, .int (iI (bI (¬ hRB (σ 0) k i ∧ i < k))))]) hx hb dX2_partyAtRank_69 rfl hl (by decide) rfl (fun ls hl => ?_)
                    refine z_iinc (y := ↑(i + 1)) (lv' := [(4, .int (iI (↑(i + 1)))), (3, .int (iI (sg (rkB (σ 0) k) (i + 1)))), (0, .ref (a 0)), (1, .int (iI (P))), (2, .int (iI (↑k))), (5, .int (iI (bI (¬ hRB (σ 0) k i ∧ i < k))))]) hX dX2_partyAtRank_70 hl (k := 4) rfl (by omega) (by decide) rfl (fun ls hl => ?_)
                    refine lv_goto (tgt := 15) hx hb dX2_partyAtRank_73 (by decide) ?_
                    exact ih15 (i + 1) (by omega) (by omega) _ _ _ hP hS (lv_sub hl [2, 3, 4, 1, 0] rfl)
                  · skip
                    refine z_iconst hX dX2_partyAtRank_63 ?_
                    refine lv_goto (tgt := 68) hx hb dX2_partyAtRank_64 (by decide) ?_
                    refine z_top (y := rkB (σ 0) k i) (rkB_of (by first | exact Or.inl c_55 | exact Or.inr c_60)) ?_
                    refine W.eq (g2 := F0 m 68 ls [.int (iI (rkB (σ 0) k i)), .int (iI (sg (rkB (σ 0) k) i))]) rfl ?_
                    refine z_iadd hX dX2_partyAtRank_68 ?_
                    refine z_top (y := sg (rkB (σ 0) k) (i + 1)) (rfl) ?_
                    refine lv_istore_n (lv' := [(3, .int (iI (sg (rkB (σ 0) k) (i + 1)))), (0, .ref (a 0)), (1, .int (iI (P))), (2, .int (iI (↑k))), (4, .int (iI (↑i))), (5, .int (iI (bI (¬ hRB (σ 0) k i ∧ i < k))))]) hx hb dX2_partyAtRank_69 rfl hl (by decide) rfl (fun ls hl => ?_)
                    refine z_iinc (y := ↑(i + 1)) (lv' := [(4, .int (iI (↑(i + 1)))), (3, .int (iI (sg (rkB (σ 0) k) (i + 1)))), (0, .ref (a 0)), (1, .int (iI (P))), (2, .int (iI (↑k))), (5, .int (iI (bI (¬ hRB (σ 0) k i ∧ i < k))))]) hX dX2_partyAtRank_70 hl (k := 4) rfl (by omega) (by decide) rfl (fun ls hl => ?_)
                    refine lv_goto (tgt := 15) hx hb dX2_partyAtRank_73 (by decide) ?_
                    exact ih15 (i + 1) (by omega) (by omega) _ _ _ hP hS (lv_sub hl [2, 3, 4, 1, 0] rfl)
              refine z_if_neB (tgt := 44) hX dX2_partyAtRank_31 (by decide) (fun c_31 => ?_) (fun c_31 => ?_)
              · skip
                refine z_iconst hX dX2_partyAtRank_44 ?_
                refine z_top (y := bI (¬ hRB (σ 0) k i ∧ i < k)) ((bI_f (by first | exact fun h => h.1 c_31 | exact fun h => absurd h.2 (by omega))).symm) ?_
                refine lv_istore (lv' := [(5, .int (iI (bI (¬ hRB (σ 0) k i ∧ i < k)))), (0, .ref (a 0)), (1, .int (iI (P))), (2, .int (iI (↑k))), (3, .int (iI (sg (rkB (σ 0) k) i))), (4, .int (iI (↑i)))]) hx hb dX2_partyAtRank_45 hl (by decide) rfl (fun ls hl => ?_)
                exact L47 _ _ _ hP hS (lv_sub hl [1, 2, 3, 4, 5, 0] rfl)
              · skip
                refine lv_iload hx hb dX2_partyAtRank_34 (lv_at hl 4 rfl) ?_
                refine lv_iload_n hx hb dX2_partyAtRank_36 rfl (lv_at hl 2 rfl) ?_
                refine z_icmp_ge (tgt := 44) hX (by omega) dX2_partyAtRank_37 (by decide) (fun c_37 => ?_) (fun c_37 => ?_)
                · skip
                  refine z_iconst hX dX2_partyAtRank_44 ?_
                  refine z_top (y := bI (¬ hRB (σ 0) k i ∧ i < k)) ((bI_f (by first | exact fun h => h.1 c_31 | exact fun h => absurd h.2 (by omega))).symm) ?_
                  refine W.eq (g2 := F0 m 45 ls [.int (iI (bI (¬ hRB (σ 0) k i ∧ i < k)))]) rfl ?_
                  refine lv_istore (lv' := [(5, .int (iI (bI (¬ hRB (σ 0) k i ∧ i < k)))), (0, .ref (a 0)), (1, .int (iI (P))), (2, .int (iI (↑k))), (3, .int (iI (sg (rkB (σ 0) k) i))), (4, .int (iI (↑i)))]) hx hb dX2_partyAtRank_45 hl (by decide) rfl (fun ls hl => ?_)
                  exact L47 _ _ _ hP hS (lv_sub hl [1, 2, 3, 4, 5, 0] rfl)
                · skip
                  refine z_iconst hX dX2_partyAtRank_40 ?_
                  refine lv_goto (tgt := 45) hx hb dX2_partyAtRank_41 (by decide) ?_
                  refine z_top (y := bI (¬ hRB (σ 0) k i ∧ i < k)) ((bI_t ⟨c_31, by omega⟩).symm) ?_
                  refine lv_istore (lv' := [(5, .int (iI (bI (¬ hRB (σ 0) k i ∧ i < k)))), (0, .ref (a 0)), (1, .int (iI (P))), (2, .int (iI (↑k))), (3, .int (iI (sg (rkB (σ 0) k) i))), (4, .int (iI (↑i)))]) hx hb dX2_partyAtRank_45 hl (by decide) rfl (fun ls hl => ?_)
                  exact L47 _ _ _ hP hS (lv_sub hl [1, 2, 3, 4, 5, 0] rfl)
        exact L15 (n0 + 1) (0) (by omega) (by omega) _ _ _ hP hS (lv_sub hl [2, 3, 4, 1, 0] rfl)
  exact L2 (n0 + 1) (0) (by omega) (by omega) (rfl) _ _ _ hP hS (lv_sub hl [1, 2, 0] rfl)
