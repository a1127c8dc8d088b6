/-! the house looks for cycles -/
set_option maxRecDepth 100000
set_option maxHeartbeats 4000000 in
theorem c_X2_isOn {l : Launch} {D : va_G} {Z : zZ} {cA : Nat → ClassId} (hZ : zOk Z) (sz : Nat) {q : Nat} (χ : zT) (pp : List Nat) (hp7 : pp.length ≤ 7 ∧ ∀ k, k < pp.length → qk pp k < 7) (nx : Nat) (E1 E2 : Int) (hE1 : E1 = ((pp.length : Nat) : Int)) (hE2 : E2 = (nx : Int) ∧ nx < 7) (hag : agr (χ 0) pp) : Met l yX2_isOn (ws_ yX2_isOn cX2_isOn 4 (some .boolean)) { frames := 0, cells := 0, slots := 0, locals := 0 } (wPc D vwCl (tyL cA) Z w0 (pW q cA χ) [.ref q, .int (iI E1), .int (iI E2)] sz zO) (wQi D vwCl w0 (fun r _ => r = iI (bI (nx ∈ pp))) sz) 0 0 (wA w0 sz) := by
  obtain rfl := hE1
  obtain ⟨rfl, hnx⟩ := hE2
  refine w_met (cc := cX2_isOn) (maxL := 4) (ret := some .boolean) (own := RX2) (by decide) rfl rfl w0_ok (Nat.le_of_ble_eq_true rfl) ?_
  intro p e s m below meth c hX hsz hK hP hD hA hE hS hR ls hl
  have hx := hX.1
  have hb := hX.2.1
  have hl : lv_has ls 4 [(0, .ref q), (1, .int (iI (↑(pp.length)))), (2, .int (iI (↑nx)))] := hl
  refine z_iconst hX dX2_isOn_0 ?_
  refine z_top (y := ↑(0 : Nat)) (rfl) ?_
  refine lv_istore_n (lv' := [(3, .int (iI (↑(0 : Nat)))), (0, .ref q), (1, .int (iI (↑(pp.length)))), (2, .int (iI (↑nx)))]) hx hb dX2_isOn_1 rfl hl (by decide) rfl (fun ls hl => ?_)
  have L2 : ∀ (n : Nat) (k : Nat), (pp.length < k + n) → (k ≤ pp.length) → (∀ j, j < k → qk pp j ≠ nx) → ∀ (H : Heap) (locs : List Loc) (ls : Array Slot), va_P D vwCl (w0 zO) H → va_S (wA w0 sz) s.heap H locs → lv_has ls 4 [(0, .ref q), (1, .int (iI (↑(pp.length)))), (2, .int (iI (↑nx))), (3, .int (iI (↑k)))] → W p l e (headSpec (ws_ yX2_isOn cX2_isOn 4 (some .boolean)) { frames := 0, cells := 0, slots := 0, locals := 0 }).room s m ([.ref q, .int (iI (↑(pp.length))), .int (iI (↑nx))] : List Value).toArray below meth c H locs 0 0 (MQ below (wQi D vwCl w0 (fun r _ => r = iI (bI (nx ∈ pp))) sz) ([.ref q, .int (iI (↑(pp.length))), .int (iI (↑nx))] : List Value).toArray s 0 0 (wA w0 sz)) (F0 m 2 ls []) := by
    intro n
    induction n with
    | zero =>
      intro k hf hk hno H locs ls hP hS hl
      exact absurd hf (by omega)
    | succ n ih2 =>
      intro k hf hk hno H locs ls hP hS hl
      refine lv_iload_n hx hb dX2_isOn_2 rfl (lv_at hl 3 rfl) ?_
      refine lv_iload_n hx hb dX2_isOn_3 rfl (lv_at hl 1 rfl) ?_
      refine z_icmp_ge (tgt := 22) hX (by omega) dX2_isOn_4 (by decide) (fun c_4 => ?_) (fun c_4 => ?_)
      · skip
        refine z_iconst hX dX2_isOn_22 ?_
        exact w_zret hX hP hS (by decide) (by rw [bI_f (fun h => by obtain ⟨j, h3, h4⟩ := qk_mem.mp h; exact hno j (by omega) h4)]) dX2_isOn_23
      · skip
        have hb9 := hp7.2 k (by omega)
        refine lv_aload_n hx hb dX2_isOn_7 rfl (lv_at hl 0 rfl) ?_
        refine lv_iload_n hx hb dX2_isOn_8 rfl (lv_at hl 3 rfl) ?_
        refine W.eq (g2 := F0 m 9 ls [.int (iI (↑k)), .ref q]) rfl ?_
        refine w_iald (w := pW q cA) (x := χ) hX hK (hR _ _ hS) 0 0 rfl ty_0 k (⟨rfl, by omega⟩) (by decide) dX2_isOn_9 ?_
        refine z_top (y := ↑(qk pp k)) (hag k (by omega)) ?_
        refine lv_iload_n hx hb dX2_isOn_10 rfl (lv_at hl 2 rfl) ?_
        refine z_icmp_ne (tgt := 16) hX (by omega) dX2_isOn_11 (by decide) (fun c_11 => ?_) (fun c_11 => ?_)
        · skip
          refine z_iinc (y := ↑(k + 1)) (lv' := [(3, .int (iI (↑(k + 1)))), (0, .ref q), (1, .int (iI (↑(pp.length)))), (2, .int (iI (↑nx)))]) hX dX2_isOn_16 hl (k := 3) rfl (by omega) (by decide) rfl (fun ls hl => ?_)
          refine lv_goto (tgt := 2) hx hb dX2_isOn_19 (by decide) ?_
          exact ih2 (k + 1) (by omega) (by omega) (fun j h => by
              by_cases e : j = k
              · subst e; omega
              · exact hno j (by omega)) _ _ _ hP hS (lv_sub hl [1, 2, 3, 0] rfl)
        · skip
          refine z_iconst hX dX2_isOn_14 ?_
          exact w_zret hX hP hS (by decide) (by rw [bI_t (qk_mem.mpr ⟨k, by omega, by omega⟩)]) dX2_isOn_15
  exact L2 (pp.length + 1) (0) (by omega) (by omega) (fun j h => absurd h (by omega)) _ _ _ hP hS (lv_sub hl [1, 2, 3, 0] rfl)
set_option maxHeartbeats 4000000 in
theorem c_X2_isClosed_0 {l : Launch} {D : va_G} {Z : zZ} {cA : Nat → ClassId} (hZ : zOk Z) (sz : Nat) {a : Nat → Nat} {q : Nat} (σ χ : zT) (n0 : Nat) (pp : List Nat) (E1 E2 : Int) (hE1 : E1 = ((pp.length : Nat) : Int)) (hE2 : E2 = ((pp.length + 0 : Nat) : Int)) (hl7 : pp.length + 0 ≤ 7) (hp : pOk (σ 0) n0 pp) (hn : σ 0 0 = n0 ∧ n0 ≤ 7) (ha : agr (χ 0) pp) (B : Int) (hgo : gOk (σ 0) B) : Met l yX2_isClosed (ws_ yX2_isClosed cX2_isClosed 6 (some .boolean)) { frames := 0 + 1, cells := 0, slots := 0, locals := 26 + 26 * (0) } (wPc D vwCl (tyL cA) Z (pW q cA) (hW a cA σ) [.ref (a 0), .ref q, .int (iI E1), .int (iI E2)] sz χ) (wQi D vwCl (pW q cA) (fR (gPh χ (fnd (σ 0) n0 0 pp) pp)) sz) 0 0 (wA (pW q cA) sz) := by
  obtain rfl := hE1
  obtain rfl := hE2
  have hp1 := hp.1
  have hla := hp.2.1 (pp.length - 1) (by omega)
  have hfi := hp.2.1 0 hp.1
  refine w_metR (cc := cX2_isClosed) (maxL := 6) (ret := some .boolean) (own := RX2) (by decide) rfl rfl pW_ok (Nat.le_of_ble_eq_true rfl) ?_
  intro p e s m below meth c hX hsz hK hP hD hA hE hS hR hN ls hl
  have hx := hX.1
  have hb := hX.2.1
  have hl : lv_has ls 6 [(0, .ref (a 0)), (1, .ref q), (2, .int (iI (↑(pp.length)))), (3, .int (iI (↑(pp.length + 0))))] := hl
  refine lv_aload_n hx hb dX2_isClosed_0 rfl (lv_at hl 1 rfl) ?_
  refine lv_iload_n hx hb dX2_isClosed_1 rfl (lv_at hl 2 rfl) ?_
  refine z_iconst hX dX2_isClosed_2 ?_
  refine z_isub hX dX2_isClosed_3 ?_
  refine w_iald (w := pW q cA) (x := χ) hX hK hP 0 0 rfl ty_0 ((pp.length - 1)) (by omega) (by decide) dX2_isClosed_4 ?_
  refine z_top (y := ↑(qk pp (pp.length - 1))) (ha _ (by omega)) ?_
  refine lv_istore (lv' := [(4, .int (iI (↑(qk pp (pp.length - 1))))), (0, .ref (a 0)), (1, .ref q), (2, .int (iI (↑(pp.length)))), (3, .int (iI (↑(pp.length + 0))))]) hx hb dX2_isClosed_5 hl (by decide) rfl (fun ls hl => ?_)
  refine lv_iload_n hx hb dX2_isClosed_7 rfl (lv_at hl 3 rfl) ?_
  refine lv_iload_n hx hb dX2_isClosed_8 rfl (lv_at hl 4 rfl) ?_
  refine z_icmp_ne (tgt := 32) hX (by omega) dX2_isClosed_9 (by decide) (fun c_9 => ?_) (fun c_9 => ?_)
  · exact absurd c_9 (fun h => h (by omega))
  · skip
    refine W.eq (g2 := F0 m 12 ls []) rfl ?_
    refine lv_aload_n hx hb dX2_isClosed_12 rfl (lv_at hl 1 rfl) ?_
    refine h_get hX hK (hR _ _ hS) 0 (by decide) q166 rfl dX2_isClosed_13 ?_
    refine lv_iload hx hb dX2_isClosed_16 (lv_at hl 0 rfl) ?_
    refine h_row hX hK (hR _ _ hS) ((qk pp (pp.length - 1))) (⟨rfl, by omega⟩) dX2_isClosed_18 ?_
    refine lv_aload_n hx hb dX2_isClosed_19 rfl (lv_at hl 2 rfl) ?_
    refine z_iconst hX dX2_isClosed_20 ?_
    refine w_iald (w := pW q cA) (x := χ) hX hK hP 0 0 rfl ty_0 0 (by decide) (by decide) dX2_isClosed_21 ?_
    refine z_top (y := ↑(qk pp 0)) (ha 0 hp1) ?_
    refine h_ldd hX hK (hR _ _ hS) ((qk pp (pp.length - 1))) ((qk pp 0)) (by omega) (⟨rfl, by omega⟩) dX2_isClosed_22 ?_
    refine z_if_le (tgt := 30) hX (by have := hgo.2.2.1 (qk pp (pp.length - 1)) (qk pp 0) (by omega) (by omega); omega) dX2_isClosed_23 (by decide) (fun c_23 => ?_) (fun c_23 => ?_)
    · skip
      refine z_iconst hX dX2_isClosed_30 ?_
      refine W.eq (g2 := F0 m 31 ls [.int (iI (0))]) rfl ?_
      exact w_zret hX hP hS (by decide) (⟨0, rfl, χ 0, sA_self.symm, Or.inr ⟨if_neg (by omega), rfl, ha⟩⟩) dX2_isClosed_31
    · skip
      refine z_iconst hX dX2_isClosed_26 ?_
      refine lv_goto (tgt := 31) hx hb dX2_isClosed_27 (by decide) ?_
      exact w_zret hX hP hS (by decide) (⟨1, rfl, χ 0, sA_self.symm, Or.inl ⟨pp, if_pos c_23, rfl, ha⟩⟩) dX2_isClosed_31
set_option maxHeartbeats 4000000 in
theorem c_X2_isClosed_s {l : Launch} {D : va_G} {Z : zZ} {cA : Nat → ClassId} (hZ : zOk Z) (sz : Nat) {a : Nat → Nat} {q : Nat} (σ χ : zT) (r n0 : Nat) (B : Int) (ihc : ∀ (χ : zT) (sz : Nat) (pp : List Nat) (E1 E2 : Int), E1 = ((pp.length : Nat) : Int) → E2 = ((pp.length + r : Nat) : Int) → pp.length + r ≤ 7 → pOk (σ 0) n0 pp → agr (χ 0) pp → Met l yX2_isClosed (ws_ yX2_isClosed cX2_isClosed 6 (some .boolean)) { frames := r + 1, cells := 0, slots := 0, locals := 26 + 26 * (r) } (wPc D vwCl (tyL cA) Z (pW q cA) (hW a cA σ) [.ref (a 0), .ref q, .int (iI E1), .int (iI E2)] sz χ) (wQi D vwCl (pW q cA) (fR (gPh χ (fnd (σ 0) n0 r pp) pp)) sz) 0 0 (wA (pW q cA) sz)) (pp : List Nat) (E1 E2 : Int) (hE1 : E1 = ((pp.length : Nat) : Int)) (hE2 : E2 = ((pp.length + (r + 1) : Nat) : Int)) (hl7 : pp.length + (r + 1) ≤ 7) (hp : pOk (σ 0) n0 pp) (hn : σ 0 0 = n0 ∧ n0 ≤ 7) (ha : agr (χ 0) pp) (hgo : gOk (σ 0) B) : Met l yX2_isClosed (ws_ yX2_isClosed cX2_isClosed 6 (some .boolean)) { frames := (r + 1) + 1, cells := 0, slots := 0, locals := 26 + 26 * ((r + 1)) } (wPc D vwCl (tyL cA) Z (pW q cA) (hW a cA σ) [.ref (a 0), .ref q, .int (iI E1), .int (iI E2)] sz χ) (wQi D vwCl (pW q cA) (fR (gPh χ (fnd (σ 0) n0 (r + 1) pp) pp)) sz) 0 0 (wA (pW q cA) sz) := by
  obtain rfl := hE1
  obtain rfl := hE2
  have hp1 := hp.1
  have hla := hp.2.1 (pp.length - 1) (by omega)
  have hfi := hp.2.1 0 hp.1
  refine w_metR (cc := cX2_isClosed) (maxL := 6) (ret := some .boolean) (own := RX2) (by decide) rfl rfl pW_ok (Nat.le_of_ble_eq_true rfl) ?_
  intro p e s m below meth c hX hsz hK hP hD hA hE hS hR hN ls hl
  have hx := hX.1
  have hb := hX.2.1
  have hl : lv_has ls 6 [(0, .ref (a 0)), (1, .ref q), (2, .int (iI (↑(pp.length)))), (3, .int (iI (↑(pp.length + (r + 1)))))] := hl
  refine lv_aload_n hx hb dX2_isClosed_0 rfl (lv_at hl 1 rfl) ?_
  refine lv_iload_n hx hb dX2_isClosed_1 rfl (lv_at hl 2 rfl) ?_
  refine z_iconst hX dX2_isClosed_2 ?_
  refine z_isub hX dX2_isClosed_3 ?_
  refine w_iald (w := pW q cA) (x := χ) hX hK hP 0 0 rfl ty_0 ((pp.length - 1)) (by omega) (by decide) dX2_isClosed_4 ?_
  refine z_top (y := ↑(qk pp (pp.length - 1))) (ha _ (by omega)) ?_
  refine lv_istore (lv' := [(4, .int (iI (↑(qk pp (pp.length - 1))))), (0, .ref (a 0)), (1, .ref q), (2, .int (iI (↑(pp.length)))), (3, .int (iI (↑(pp.length + (r + 1)))))]) hx hb dX2_isClosed_5 hl (by decide) rfl (fun ls hl => ?_)
  refine lv_iload_n hx hb dX2_isClosed_7 rfl (lv_at hl 3 rfl) ?_
  refine lv_iload_n hx hb dX2_isClosed_8 rfl (lv_at hl 4 rfl) ?_
  refine z_icmp_ne (tgt := 32) hX (by omega) dX2_isClosed_9 (by decide) (fun c_9 => ?_) (fun c_9 => ?_)
  · skip
    refine W.eq (g2 := F0 m 32 ls []) rfl ?_
    refine lv_aload_n hx hb dX2_isClosed_32 rfl (lv_at hl 2 rfl) ?_
    refine z_iconst hX dX2_isClosed_33 ?_
    refine w_iald (w := pW q cA) (x := χ) hX hK hP 0 0 rfl ty_0 0 (by decide) (by decide) dX2_isClosed_34 ?_
    refine z_top (y := ↑(qk pp 0)) (ha 0 hp1) ?_
    refine z_iconst hX dX2_isClosed_35 ?_
    refine z_iadd hX dX2_isClosed_36 ?_
    refine z_top (y := ↑(qk pp 0 + 1)) (by omega) ?_
    refine lv_istore (lv' := [(5, .int (iI (↑(qk pp 0 + 1)))), (4, .int (iI (↑(qk pp (pp.length - 1))))), (0, .ref (a 0)), (1, .ref q), (2, .int (iI (↑(pp.length)))), (3, .int (iI (↑(pp.length + (r + 1)))))]) hx hb dX2_isClosed_37 hl (by decide) rfl (fun ls hl => ?_)
    have L39 : ∀ (n : Nat) (nx : Nat) (c1 : Nat → Int), (n0 < nx + n) → (agr c1 pp) → (qk pp 0 < nx ∧ nx ≤ n0) → (fnd (σ 0) n0 (r + 1) pp = tryF (fnB (σ 0) n0 r pp) nx (n0 - nx)) → ∀ (H : Heap) (locs : List Loc) (ls : Array Slot), va_P D vwCl (pW q cA (sA χ 0 c1)) H → va_S (wA (pW q cA) sz) s.heap H locs → lv_has ls 6 [(0, .ref (a 0)), (1, .ref q), (2, .int (iI (↑(pp.length)))), (3, .int (iI (↑(pp.length + (r + 1))))), (4, .int (iI (↑(qk pp (pp.length - 1))))), (5, .int (iI (↑nx)))] → W p l e (headSpec (ws_ yX2_isClosed cX2_isClosed 6 (some .boolean)) { frames := (r + 1) + 1, cells := 0, slots := 0, locals := 26 + 26 * ((r + 1)) }).room s m ([.ref (a 0), .ref q, .int (iI (↑(pp.length))), .int (iI (↑(pp.length + (r + 1))))] : List Value).toArray below meth c H locs 0 0 (MQ below (wQi D vwCl (pW q cA) (fR (gPh χ (fnd (σ 0) n0 (r + 1) pp) pp)) sz) ([.ref (a 0), .ref q, .int (iI (↑(pp.length))), .int (iI (↑(pp.length + (r + 1))))] : List Value).toArray s 0 0 (wA (pW q cA) sz)) (F0 m 39 ls []) := by
      intro n
      induction n with
      | zero =>
        intro nx c1 hf hc1 hnx hF H locs ls hP hS hl
        exact absurd hf (by omega)
      | succ n ih39 =>
        intro nx c1 hf hc1 hnx hF H locs ls hP hS hl
        refine lv_iload hx hb dX2_isClosed_39 (lv_at hl 5 rfl) ?_
        refine lv_aload_n hx hb dX2_isClosed_41 rfl (lv_at hl 0 rfl) ?_
        refine h_get hX hK (hR _ _ hS) 3 (by decide) q172 rfl dX2_isClosed_42 ?_
        refine z_icmp_ge (tgt := 96) hX (by omega) dX2_isClosed_45 (by decide) (fun c_45 => ?_) (fun c_45 => ?_)
        · skip
          refine W.eq (g2 := F0 m 96 ls []) rfl ?_
          refine z_iconst hX dX2_isClosed_96 ?_
          exact w_zret hX hP hS (by decide) (⟨0, rfl, c1, rfl, Or.inr ⟨by rw [hF, show n0 - nx = 0 from by omega]; rfl, rfl, hc1⟩⟩) dX2_isClosed_97
        · skip
          refine lv_aload_n hx hb dX2_isClosed_48 rfl (lv_at hl 0 rfl) ?_
          refine h_get hX hK (hR _ _ hS) 0 (by decide) q166 rfl dX2_isClosed_49 ?_
          refine lv_iload hx hb dX2_isClosed_52 (lv_at hl 4 rfl) ?_
          refine h_row hX hK (hR _ _ hS) ((qk pp (pp.length - 1))) (⟨rfl, by omega⟩) dX2_isClosed_54 ?_
          refine lv_iload hx hb dX2_isClosed_55 (lv_at hl 5 rfl) ?_
          refine h_ldd hX hK (hR _ _ hS) ((qk pp (pp.length - 1))) nx (by omega) (⟨rfl, by omega⟩) dX2_isClosed_57 ?_
          refine z_if_le (tgt := 90) hX (by have := hgo.2.2.1 (qk pp (pp.length - 1)) nx (by omega) (by omega); omega) dX2_isClosed_58 (by decide) (fun c_58 => ?_) (fun c_58 => ?_)
          · skip
            refine z_iinc (y := ↑(nx + 1)) (lv' := [(5, .int (iI (↑(nx + 1)))), (0, .ref (a 0)), (1, .ref q), (2, .int (iI (↑(pp.length)))), (3, .int (iI (↑(pp.length + (r + 1))))), (4, .int (iI (↑(qk pp (pp.length - 1)))))]) hX dX2_isClosed_90 hl (k := 5) rfl (by omega) (by decide) rfl (fun ls hl => ?_)
            refine lv_goto (tgt := 39) hx hb dX2_isClosed_93 (by decide) ?_
            exact ih39 (nx + 1) (c1) (by omega) (hc1) (⟨by omega, by omega⟩) (by rw [hF, show n0 - nx = (n0 - (nx + 1)) + 1 from by omega, tryF_none (if_neg (fun h => by first | exact h.2 c_68 | exact absurd h.1 (by omega)))]) _ _ _ hP hS (lv_sub hl [1, 2, 3, 4, 5, 0] rfl)
          · skip
            refine lv_aload_n hx hb dX2_isClosed_61 rfl (lv_at hl 1 rfl) ?_
            refine lv_iload_n hx hb dX2_isClosed_62 rfl (lv_at hl 2 rfl) ?_
            refine lv_iload hx hb dX2_isClosed_63 (lv_at hl 5 rfl) ?_
            refine r_calli hA hP hS (va_runS (As := [.ref q, .int (iI (↑(pp.length))), .int (iI (↑nx))]) (rest := []) hX.fix (c_X2_isOn hZ _ (sA χ 0 c1) pp ⟨by omega, fun k hk => by have := hp.2.1 k hk; omega⟩ nx _ _ rfl ⟨rfl, by omega⟩ (by rw [sA_j]; exact hc1)) (va_cwS 3 hX.hts (lw_S q601 q602 q81 q603) rfl rfl rfl (by decide +kernel) ⟨by show 0 + 1 ≤ r + 1 + 1; omega, by show 8 + (4 + 11) + 0 ≤ 26 + 26 * (r + 1); omega⟩) (r_preS hZ hK hA hE hP hS) rfl rfl hl.1 rfl (lv_room (Nat.le_of_ble_eq_true rfl)) dX2_isClosed_65 ⟨Nat.le_of_ble_eq_true rfl, Nat.le_of_ble_eq_true rfl⟩) (fun r9 y H locs hq hP hS => ?_)
            rw [show r9 = iI (bI (nx ∈ pp)) from hq]
            refine z_if_neB (tgt := 90) hX dX2_isClosed_68 (by decide) (fun c_68 => ?_) (fun c_68 => ?_)
            · skip
              refine z_iinc (y := ↑(nx + 1)) (lv' := [(5, .int (iI (↑(nx + 1)))), (0, .ref (a 0)), (1, .ref q), (2, .int (iI (↑(pp.length)))), (3, .int (iI (↑(pp.length + (r + 1))))), (4, .int (iI (↑(qk pp (pp.length - 1)))))]) hX dX2_isClosed_90 hl (k := 5) rfl (by omega) (by decide) rfl (fun ls hl => ?_)
              refine lv_goto (tgt := 39) hx hb dX2_isClosed_93 (by decide) ?_
              exact ih39 (nx + 1) (c1) (by omega) (hc1) (⟨by omega, by omega⟩) (by rw [hF, show n0 - nx = (n0 - (nx + 1)) + 1 from by omega, tryF_none (if_neg (fun h => by first | exact h.2 c_68 | exact absurd h.1 (by omega)))]) _ _ _ hP hS (lv_sub hl [1, 2, 3, 4, 5, 0] rfl)
            · skip
              refine lv_aload_n hx hb dX2_isClosed_71 rfl (lv_at hl 1 rfl) ?_
              refine lv_iload_n hx hb dX2_isClosed_72 rfl (lv_at hl 2 rfl) ?_
              refine W.eq (g2 := F0 m 73 ls [.int (iI (↑(pp.length))), .ref q]) rfl ?_
              refine lv_iload hx hb dX2_isClosed_73 (lv_at hl 5 rfl) ?_
              refine w_iast (w := pW q cA) hX hK hD hP hS 0 0 rfl (pp.length) rfl ty_0 (⟨rfl, by omega⟩) (by decide) dX2_isClosed_75 (fun H locs hP hS => ?_)
              rw [show uA (sA χ 0 c1) 0 (pp.length) (↑nx) = sA χ 0 (gU c1 pp.length ↑nx) from uA_in] at hP
              refine lv_aload_n hx hb dX2_isClosed_76 rfl (lv_at hl 0 rfl) ?_
              refine lv_aload_n hx hb dX2_isClosed_77 rfl (lv_at hl 1 rfl) ?_
              refine lv_iload_n hx hb dX2_isClosed_78 rfl (lv_at hl 2 rfl) ?_
              refine z_iconst hX dX2_isClosed_79 ?_
              refine z_iadd hX dX2_isClosed_80 ?_
              refine lv_iload_n hx hb dX2_isClosed_81 rfl (lv_at hl 3 rfl) ?_
              refine w_calli hD hA hS (va_runV (As := [.ref q, .int (iI ((↑(pp.length)) + 1)), .int (iI (↑(pp.length + (r + 1))))]) (rest := []) hX.fix (ihc (sA χ 0 (gU c1 pp.length ↑nx)) _ (pp ++ [nx]) _ _ (by simp) (by simp; omega) (by simp; omega) (pOk_app hp (by omega) c_58 c_68) (by rw [sA_j]; exact agr_app hc1)) (cwV 3 hX.hts (lw_V q597 q599 qs9 q81 q600) rfl rfl rfl (by decide +kernel) ⟨by show r + 1 + 1 ≤ r + 1 + 1; omega, by show 8 + (6 + 11) + (26 + 26 * r) ≤ 26 + 26 * (r + 1); omega⟩) (w_preVW hZ hK hD hA hE hP (hR _ _ hS) (fun k q h z => hN k q h (wA_up (by have := hS.1; omega) z)) hS (va_recv hK (hR _ _ hS) (ci := 1) (q0 := 0) vw_X2 hW_0)) rfl rfl hl.1 rfl (lv_room (Nat.le_of_ble_eq_true rfl)) dX2_isClosed_82 ⟨Nat.le_of_ble_eq_true rfl, Nat.le_of_ble_eq_true rfl⟩) (fun r9 y H locs hq hP hS => ?_)
              obtain ⟨z, rfl, c2, hy2, hq⟩ := hq
              rw [hy2, sA_sA] at hP
              have hz01 : z = 0 ∨ z = 1 := by
                rcases hq with ⟨q, h1, h2, h3⟩ | h
                · exact Or.inr h2
                · exact Or.inl h.2.1
              refine z_if_eq (tgt := 90) hX (by omega) dX2_isClosed_85 (by decide) (fun c_85 => ?_) (fun c_85 => ?_)
              · skip
                have hN2 : fnd (σ 0) n0 r (pp ++ [nx]) = none ∧ agr c2 (pp ++ [nx]) := by
                  rcases hq with ⟨q, h1, h2, h3⟩ | h
                  · exact absurd c_85 (by omega)
                  · exact ⟨h.1, h.2.2⟩
                refine W.eq (g2 := F0 m 90 ls []) rfl ?_
                refine z_iinc (y := ↑(nx + 1)) (lv' := [(5, .int (iI (↑(nx + 1)))), (0, .ref (a 0)), (1, .ref q), (2, .int (iI (↑(pp.length)))), (3, .int (iI (↑(pp.length + (r + 1))))), (4, .int (iI (↑(qk pp (pp.length - 1)))))]) hX dX2_isClosed_90 hl (k := 5) rfl (by omega) (by decide) rfl (fun ls hl => ?_)
                refine lv_goto (tgt := 39) hx hb dX2_isClosed_93 (by decide) ?_
                exact ih39 (nx + 1) (c2) (by omega) (agr_of hN2.2) (⟨by omega, by omega⟩) (by rw [hF, show n0 - nx = (n0 - (nx + 1)) + 1 from by omega, tryF_none ((if_pos ⟨c_58, c_68⟩ : fnB (σ 0) n0 r pp nx = _).trans hN2.1)]) _ _ _ hP hS (lv_sub hl [1, 2, 3, 4, 5, 0] rfl)
              · skip
                obtain ⟨q9, hSo⟩ : ∃ q, fnd (σ 0) n0 r (pp ++ [nx]) = some q ∧ agr c2 q := by
                  rcases hq with ⟨q, h1, h2, h3⟩ | h
                  · exact ⟨q, h1, h3⟩
                  · exact absurd h.2.1 c_85
                refine z_iconst hX dX2_isClosed_88 ?_
                exact w_zret hX hP hS (by decide) (⟨1, rfl, c2, rfl, Or.inl ⟨q9, by rw [hF, show n0 - nx = (n0 - (nx + 1)) + 1 from by omega, tryF_some ((if_pos ⟨c_58, c_68⟩ : fnB (σ 0) n0 r pp nx = _).trans hSo.1)], rfl, hSo.2⟩⟩) dX2_isClosed_89
    rw [show χ = sA χ 0 (χ 0) from sA_self.symm] at hP
    exact L39 (n0 + 1) (qk pp 0 + 1) (χ 0) (by omega) (ha) (⟨by omega, by omega⟩) (fnd_s) _ _ _ hP hS (lv_sub hl [2, 3, 4, 5, 1, 0] rfl)
  · exact absurd c_9 (by omega)
theorem c_X2_isClosed {l : Launch} {D : va_G} {Z : zZ} {cA : Nat → ClassId} (hZ : zOk Z) {a : Nat → Nat} {q : Nat} (σ : zT) (r n0 : Nat) (B : Int) (hn : σ 0 0 = n0 ∧ n0 ≤ 7) (hgo : gOk (σ 0) B) : ∀ (χ : zT) (sz : Nat) (pp : List Nat) (E1 E2 : Int), E1 = ((pp.length : Nat) : Int) → E2 = ((pp.length + r : Nat) : Int) → pp.length + r ≤ 7 → pOk (σ 0) n0 pp → agr (χ 0) pp → Met l yX2_isClosed (ws_ yX2_isClosed cX2_isClosed 6 (some .boolean)) { frames := r + 1, cells := 0, slots := 0, locals := 26 + 26 * (r) } (wPc D vwCl (tyL cA) Z (pW q cA) (hW a cA σ) [.ref (a 0), .ref q, .int (iI E1), .int (iI E2)] sz χ) (wQi D vwCl (pW q cA) (fR (gPh χ (fnd (σ 0) n0 r pp) pp)) sz) 0 0 (wA (pW q cA) sz) := by
  induction r with
  | zero => exact fun χ sz pp E1 E2 h1 h2 h3 h4 h6 => c_X2_isClosed_0 hZ sz σ χ n0 pp E1 E2 h1 h2 h3 h4 hn h6 B hgo
  | succ r ih => exact fun χ sz pp E1 E2 h1 h2 h3 h4 h6 => c_X2_isClosed_s hZ sz σ χ r n0 B ih pp E1 E2 h1 h2 h3 h4 hn h6 hgo
