/-! the house's smaller questions (2) -/
set_option maxRecDepth 100000
/-- a party of the mask owes it something -/
abbrev owP (g : Nat → Int) (L p d : Nat) : Prop := L / 2 ^ d % 2 = 1 ∧ 0 < g (12 + 7 * d + p)
abbrev owX (g : Nat → Int) (n L p : Nat) : Prop := ∃ d, d < n ∧ owP g L p d
set_option maxHeartbeats 4000000 in
theorem c_X2_isOwed {l : Launch} {D : va_G} {Z : zZ} {cA : Nat → ClassId} (hZ : zOk Z) (sz : Nat) {a : Nat → Nat} (σ : zT) (n0 : Nat) (hn : σ 0 0 = n0 ∧ n0 ≤ 7) (B : Int) (hgo : gOk (σ 0) B) (d1 : Nat) (E1 : Int) (h1 : E1 = d1 ∧ d1 < 7) (L : Nat) (E2 : Int) (h2 : E2 = (L : Int) ∧ L < 128) : Met l yX2_isOwed (ws_ yX2_isOwed cX2_isOwed 4 (some .boolean)) { frames := 0, cells := 0, slots := 0, locals := 0 } (wPc D vwCl (tyL cA) Z w0 (hW a cA σ) [.ref (a 0), .int (iI (E1)), .int (iI (E2))] sz zO) (wQi D vwCl w0 (fun r _ => r = iI (bI (owX (σ 0) n0 L d1))) sz) 0 0 (wA w0 sz) := by
  obtain ⟨rfl, h1⟩ := h1
  obtain ⟨rfl, h2⟩ := h2
  refine w_met (cc := cX2_isOwed) (maxL := 4) (ret := some .boolean) (own := RX2) (by decide) rfl rfl w0_ok (Nat.le_of_ble_eq_true rfl) ?_
  intro p e s m below meth c hX hsz hK hP hD hA hE hS hR ls hl
  have hx := hX.1
  have hb := hX.2.1
  have hl : lv_has ls 4 [(0, .ref (a 0)), (1, .int (iI (↑d1))), (2, .int (iI (↑L)))] := hl
  refine z_iconst hX dX2_isOwed_0 ?_
  refine z_top (y := ↑(0 : Nat)) (rfl) ?_
  refine lv_istore_n (lv' := [(3, .int (iI (↑(0 : Nat)))), (0, .ref (a 0)), (1, .int (iI (↑d1))), (2, .int (iI (↑L)))]) hx hb dX2_isOwed_1 rfl hl (by decide) rfl (fun ls hl => ?_)
  have L2 : ∀ (n : Nat) (i : Nat), (n0 < i + n) → (i ≤ n0) → (∀ j, j < i → ¬ owP (σ 0) L d1 j) → ∀ (H : Heap) (locs : List Loc) (ls : Array Slot), va_P D vwCl (w0 zO) H → va_S (wA w0 sz) s.heap H locs → lv_has ls 4 [(0, .ref (a 0)), (1, .int (iI (↑d1))), (2, .int (iI (↑L))), (3, .int (iI (↑i)))] → W p l e (headSpec (ws_ yX2_isOwed cX2_isOwed 4 (some .boolean)) { frames := 0, cells := 0, slots := 0, locals := 0 }).room s m ([.ref (a 0), .int (iI (↑d1)), .int (iI (↑L))] : List Value).toArray below meth c H locs 0 0 (MQ below (wQi D vwCl w0 (fun r _ => r = iI (bI (owX (σ 0) n0 L d1))) sz) ([.ref (a 0), .int (iI (↑d1)), .int (iI (↑L))] : List Value).toArray s 0 0 (wA w0 sz)) (F0 m 2 ls []) := by
    intro n
    induction n with
    | zero =>
      intro i hf hi hno H locs ls hP hS hl
      exact absurd hf (by omega)
    | succ n ih2 =>
      intro i hf hi hno H locs ls hP hS hl
      refine lv_iload_n hx hb dX2_isOwed_2 rfl (lv_at hl 3 rfl) ?_
      refine lv_aload_n hx hb dX2_isOwed_3 rfl (lv_at hl 0 rfl) ?_
      refine h_get hX hK (hR _ _ hS) 3 (by decide) q172 rfl dX2_isOwed_4 ?_
      refine z_icmp_ge (tgt := 38) hX (by omega) dX2_isOwed_7 (by decide) (fun c_7 => ?_) (fun c_7 => ?_)
      · skip
        refine z_iconst hX dX2_isOwed_38 ?_
        exact w_zret hX hP hS (by decide) (by rw [bI_f (fun h => by obtain ⟨j, h3, h4⟩ := h; exact hno j (by omega) h4)]) dX2_isOwed_39
      · skip
        have hdd := hgo.2.2.1 i d1 (by omega) (by omega)
        refine lv_iload_n hx hb dX2_isOwed_10 rfl (lv_at hl 2 rfl) ?_
        refine W.eq (g2 := F0 m 11 ls [.int (iI (↑L))]) rfl ?_
        refine lv_iload_n hx hb dX2_isOwed_11 rfl (lv_at hl 3 rfl) ?_
        refine z_ibit hX (L) i (by omega) (by omega) dX2_isOwed_12 ?_
        refine z_iconst hX dX2_isOwed_13 ?_
        refine z_iand1 hX ((L / 2 ^ i)) ((Nat.lt_of_le_of_lt (Nat.div_le_self _ _) (by omega))) dX2_isOwed_14 ?_
        refine z_iconst hX dX2_isOwed_15 ?_
        refine z_icmp_ne (tgt := 32) hX (by omega) dX2_isOwed_16 (by decide) (fun c_16 => ?_) (fun c_16 => ?_)
        · skip
          refine z_iinc (y := ↑(i + 1)) (lv' := [(3, .int (iI (↑(i + 1)))), (0, .ref (a 0)), (1, .int (iI (↑d1))), (2, .int (iI (↑L)))]) hX dX2_isOwed_32 hl (k := 3) rfl (by omega) (by decide) rfl (fun ls hl => ?_)
          refine lv_goto (tgt := 2) hx hb dX2_isOwed_35 (by decide) ?_
          exact ih2 (i + 1) (by omega) (by omega) (fun j h => by
              by_cases e : j = i
              · subst e; exact fun q => by have h1 := q.1; have h2 := q.2; omega
              · exact hno j (by omega)) _ _ _ hP hS (lv_sub hl [1, 2, 3, 0] rfl)
        · skip
          refine lv_aload_n hx hb dX2_isOwed_19 rfl (lv_at hl 0 rfl) ?_
          refine h_get hX hK (hR _ _ hS) 0 (by decide) q166 rfl dX2_isOwed_20 ?_
          refine W.eq (g2 := F0 m 23 ls [.ref (a 1)]) rfl ?_
          refine lv_iload_n hx hb dX2_isOwed_23 rfl (lv_at hl 3 rfl) ?_
          refine h_row hX hK (hR _ _ hS) i (⟨rfl, by omega⟩) dX2_isOwed_24 ?_
          refine lv_iload_n hx hb dX2_isOwed_25 rfl (lv_at hl 1 rfl) ?_
          refine h_ldd hX hK (hR _ _ hS) i d1 (by omega) (⟨rfl, by omega⟩) dX2_isOwed_26 ?_
          refine z_if_le (tgt := 32) hX (by omega) dX2_isOwed_27 (by decide) (fun c_27 => ?_) (fun c_27 => ?_)
          · skip
            refine z_iinc (y := ↑(i + 1)) (lv' := [(3, .int (iI (↑(i + 1)))), (0, .ref (a 0)), (1, .int (iI (↑d1))), (2, .int (iI (↑L)))]) hX dX2_isOwed_32 hl (k := 3) rfl (by omega) (by decide) rfl (fun ls hl => ?_)
            refine lv_goto (tgt := 2) hx hb dX2_isOwed_35 (by decide) ?_
            exact ih2 (i + 1) (by omega) (by omega) (fun j h => by
                by_cases e : j = i
                · subst e; exact fun q => by have h1 := q.1; have h2 := q.2; omega
                · exact hno j (by omega)) _ _ _ hP hS (lv_sub hl [1, 2, 3, 0] rfl)
          · skip
            refine z_iconst hX dX2_isOwed_30 ?_
            exact w_zret hX hP hS (by decide) (by rw [bI_t ⟨i, by omega, by omega, by omega⟩]) dX2_isOwed_31
  exact L2 (n0 + 1) (0) (by omega) (by omega) (fun j h => absurd h (by omega)) _ _ _ hP hS (lv_sub hl [1, 2, 3, 0] rfl)
theorem dbF_z {g : Nat → Int} {a : Nat} : ∀ b, a ≤ b → (∀ k, a ≤ k → k < b → g (12 + k) ≤ 0) → dbF g b = dbF g a := by
  intro b
  induction b with
  | zero => intro h _; rw [show a = 0 by omega]
  | succ b ih =>
    intro h hz
    by_cases e : a = b + 1
    · rw [e]
    · have h1 := hz b (by omega) (by omega)
      rw [show dbF g (b + 1) = dbF g b from if_neg (by omega)]
      exact ih (by omega) (fun k h2 h3 => hz k h2 (by omega))
set_option maxHeartbeats 4000000 in
theorem c_X2_debtBits {l : Launch} {D : va_G} {Z : zZ} {cA : Nat → ClassId} (hZ : zOk Z) (sz : Nat) {a : Nat → Nat} (σ : zT) (n0 : Nat) (hn : σ 0 0 = n0 ∧ n0 ≤ 7) (B : Int) (hgo : gOk (σ 0) B) : Met l yX2_debtBits (ws_ yX2_debtBits cX2_debtBits 5 (some .long)) { frames := 0, cells := 0, slots := 0, locals := 0 } (wPc D vwCl (tyL cA) Z w0 (hW a cA σ) [.ref (a 0)] sz zO) (wQl D vwCl w0 (fun r _ => r = dbF (σ 0) 49) sz) 0 0 (wA w0 sz) := by
  refine w_met (cc := cX2_debtBits) (maxL := 5) (ret := some .long) (own := RX2) (by decide) rfl rfl w0_ok (Nat.le_of_ble_eq_true rfl) ?_
  intro p e s m below meth c hX hsz hK hP hD hA hE hS hR ls hl
  have hx := hX.1
  have hb := hX.2.1
  have hl : lv_has ls 5 [(0, .ref (a 0))] := hl
  refine lv_lconst (v := 0) hx hb dX2_debtBits_0 rfl ?_
  refine z_ltop (y := dbF (σ 0) (7 * 0)) (rfl) ?_
  refine lv_lstore_n (lv' := [(1, .long (dbF (σ 0) (7 * 0))), (0, .ref (a 0))]) hx hb dX2_debtBits_1 rfl hl (by decide) rfl (fun ls hl => ?_)
  refine z_iconst hX dX2_debtBits_2 ?_
  refine z_top (y := ↑(0 : Nat)) (rfl) ?_
  refine lv_istore_n (lv' := [(3, .int (iI (↑(0 : Nat)))), (1, .long (dbF (σ 0) (7 * 0))), (0, .ref (a 0))]) hx hb dX2_debtBits_3 rfl hl (by decide) rfl (fun ls hl => ?_)
  have L4 : ∀ (n : Nat) (i : Nat), (n0 < i + n) → (i ≤ n0) → ∀ (H : Heap) (locs : List Loc) (ls : Array Slot), va_P D vwCl (w0 zO) H → va_S (wA w0 sz) s.heap H locs → lv_has ls 5 [(0, .ref (a 0)), (1, .long (dbF (σ 0) (7 * i))), (3, .int (iI (↑i)))] → W p l e (headSpec (ws_ yX2_debtBits cX2_debtBits 5 (some .long)) { frames := 0, cells := 0, slots := 0, locals := 0 }).room s m ([.ref (a 0)] : List Value).toArray below meth c H locs 0 0 (MQ below (wQl D vwCl w0 (fun r _ => r = dbF (σ 0) 49) sz) ([.ref (a 0)] : List Value).toArray s 0 0 (wA w0 sz)) (F0 m 4 ls []) := by
    intro n
    induction n with
    | zero =>
      intro i hf hi H locs ls hP hS hl
      exact absurd hf (by omega)
    | succ n ih4 =>
      intro i hf hi H locs ls hP hS hl
      refine lv_iload_n hx hb dX2_debtBits_4 rfl (lv_at hl 2 rfl) ?_
      refine lv_aload_n hx hb dX2_debtBits_5 rfl (lv_at hl 0 rfl) ?_
      refine h_get hX hK (hR _ _ hS) 3 (by decide) q172 rfl dX2_debtBits_6 ?_
      refine z_icmp_ge (tgt := 64) hX (by omega) dX2_debtBits_9 (by decide) (fun c_9 => ?_) (fun c_9 => ?_)
      · skip
        obtain rfl : i = n0 := by omega
        refine lv_lload_n hx hb dX2_debtBits_64 rfl (lv_at hl 1 rfl) ?_
        refine W.eq (g2 := F0 m 65 ls [.long (dbF (σ 0) (7 * i))]) rfl ?_
        exact w_lret hX hP hS (by rw [show 7 * i = 7 * i from rfl]; exact (dbF_z 49 (by omega) (fun k h1 h2 => by have h9 := hgo.2.2.2.1 (k / 7) (k % 7) (by omega) (by omega) (Or.inl (by omega)); rw [show 12 + 7 * (k / 7) + k % 7 = 12 + k by omega] at h9; omega)).symm) dX2_debtBits_65
      · skip
        refine z_iconst hX dX2_debtBits_12 ?_
        refine z_top (y := ↑(0 : Nat)) (rfl) ?_
        refine lv_istore (lv' := [(4, .int (iI (↑(0 : Nat)))), (0, .ref (a 0)), (1, .long (dbF (σ 0) (7 * i))), (3, .int (iI (↑i)))]) hx hb dX2_debtBits_13 hl (by decide) rfl (fun ls hl => ?_)
        have L15 : ∀ (n : Nat) (j : Nat), (n0 < j + n) → (j ≤ n0) → ∀ (H : Heap) (locs : List Loc) (ls : Array Slot), va_P D vwCl (w0 zO) H → va_S (wA w0 sz) s.heap H locs → lv_has ls 5 [(0, .ref (a 0)), (1, .long (dbF (σ 0) (7 * i + j))), (3, .int (iI (↑i))), (4, .int (iI (↑j)))] → W p l e (headSpec (ws_ yX2_debtBits cX2_debtBits 5 (some .long)) { frames := 0, cells := 0, slots := 0, locals := 0 }).room s m ([.ref (a 0)] : List Value).toArray below meth c H locs 0 0 (MQ below (wQl D vwCl w0 (fun r _ => r = dbF (σ 0) 49) sz) ([.ref (a 0)] : List Value).toArray s 0 0 (wA w0 sz)) (F0 m 15 ls []) := by
          intro n
          induction n with
          | zero =>
            intro j hf hj H locs ls hP hS hl
            exact absurd hf (by omega)
          | succ n ih15 =>
            intro j hf hj H locs ls hP hS hl
            refine lv_iload hx hb dX2_debtBits_15 (lv_at hl 3 rfl) ?_
            refine lv_aload_n hx hb dX2_debtBits_17 rfl (lv_at hl 0 rfl) ?_
            refine h_get hX hK (hR _ _ hS) 3 (by decide) q172 rfl dX2_debtBits_18 ?_
            refine z_icmp_ge (tgt := 58) hX (by omega) dX2_debtBits_21 (by decide) (fun c_21 => ?_) (fun c_21 => ?_)
            · skip
              refine z_iinc (y := ↑(i + 1)) (lv' := [(3, .int (iI (↑(i + 1)))), (0, .ref (a 0)), (1, .long (dbF (σ 0) (7 * i + j))), (4, .int (iI (↑j)))]) hX dX2_debtBits_58 hl (k := 2) rfl (by omega) (by decide) rfl (fun ls hl => ?_)
              refine lv_goto (tgt := 4) hx hb dX2_debtBits_61 (by decide) ?_
              rw [show dbF (σ 0) (7 * i + j) = dbF (σ 0) (7 * (i + 1)) from (dbF_z _ (by omega) (fun k h1 h2 => by have h9 := hgo.2.2.2.1 i (k - 7 * i) (by omega) (by omega) (Or.inr (Or.inl (by omega))); rw [show 12 + 7 * i + (k - 7 * i) = 12 + k by omega] at h9; omega)).symm] at hl
              exact ih4 (i + 1) (by omega) (by omega) _ _ _ hP hS (lv_sub hl [1, 2, 0] rfl)
            · skip
              have hdd := hgo.2.2.1 i j (by omega) (by omega)
              refine lv_lload_n hx hb dX2_debtBits_24 rfl (lv_at hl 1 rfl) ?_
              refine W.eq (g2 := F0 m 25 ls [.long (dbF (σ 0) (7 * i + j))]) rfl ?_
              refine lv_aload_n hx hb dX2_debtBits_25 rfl (lv_at hl 0 rfl) ?_
              refine h_get hX hK (hR _ _ hS) 0 (by decide) q166 rfl dX2_debtBits_26 ?_
              refine lv_iload_n hx hb dX2_debtBits_29 rfl (lv_at hl 2 rfl) ?_
              refine h_row hX hK (hR _ _ hS) i (⟨rfl, by omega⟩) dX2_debtBits_30 ?_
              refine lv_iload hx hb dX2_debtBits_31 (lv_at hl 3 rfl) ?_
              refine h_ldd hX hK (hR _ _ hS) i j (by omega) (⟨rfl, by omega⟩) dX2_debtBits_33 ?_
              refine z_if_le (tgt := 49) hX (by omega) dX2_debtBits_34 (by decide) (fun c_34 => ?_) (fun c_34 => ?_)
              · skip
                refine lv_lconst (v := 0) hx hb dX2_debtBits_49 rfl ?_
                refine lv_lor hx hb dX2_debtBits_50 ?_
                refine z_ltop (y := dbF (σ 0) (7 * i + (j + 1))) (by rw [Int64.or_zero]; exact (if_neg (show ¬ 0 < σ 0 (12 + (7 * i + j)) by rw [← Nat.add_assoc]; omega)).symm) ?_
                refine lv_lstore_n (lv' := [(1, .long (dbF (σ 0) (7 * i + (j + 1)))), (0, .ref (a 0)), (3, .int (iI (↑i))), (4, .int (iI (↑j)))]) hx hb dX2_debtBits_51 rfl hl (by decide) rfl (fun ls hl => ?_)
                refine W.eq (g2 := F0 m 52 ls []) rfl ?_
                refine z_iinc (y := ↑(j + 1)) (lv' := [(4, .int (iI (↑(j + 1)))), (1, .long (dbF (σ 0) (7 * i + (j + 1)))), (0, .ref (a 0)), (3, .int (iI (↑i)))]) hX dX2_debtBits_52 hl (k := 3) rfl (by omega) (by decide) rfl (fun ls hl => ?_)
                refine lv_goto (tgt := 15) hx hb dX2_debtBits_55 (by decide) ?_
                exact ih15 (j + 1) (by omega) (by omega) _ _ _ hP hS (lv_sub hl [2, 1, 3, 0] rfl)
              · skip
                refine lv_lconst (v := 1) hx hb dX2_debtBits_37 rfl ?_
                refine z_bipush hX dX2_debtBits_38 (by decide) ?_
                refine lv_iload_n hx hb dX2_debtBits_40 rfl (lv_at hl 2 rfl) ?_
                refine z_imul hX dX2_debtBits_41 ?_
                refine lv_iload hx hb dX2_debtBits_42 (lv_at hl 3 rfl) ?_
                refine z_iadd hX dX2_debtBits_44 ?_
                refine z_top (y := ↑(7 * i + j)) (by omega) ?_
                refine lv_lshl hx hb dX2_debtBits_45 (rfl) ?_
                refine lv_goto (tgt := 50) hx hb dX2_debtBits_46 (by decide) ?_
                refine W.eq (g2 := F0 m 50 ls [.long (dbB (7 * i + j)), .long (dbF (σ 0) (7 * i + j))]) rfl ?_
                refine lv_lor hx hb dX2_debtBits_50 ?_
                refine z_ltop (y := dbF (σ 0) (7 * i + (j + 1))) ((if_pos (show 0 < σ 0 (12 + (7 * i + j)) by rw [← Nat.add_assoc]; exact c_34)).symm) ?_
                refine lv_lstore_n (lv' := [(1, .long (dbF (σ 0) (7 * i + (j + 1)))), (0, .ref (a 0)), (3, .int (iI (↑i))), (4, .int (iI (↑j)))]) hx hb dX2_debtBits_51 rfl hl (by decide) rfl (fun ls hl => ?_)
                refine z_iinc (y := ↑(j + 1)) (lv' := [(4, .int (iI (↑(j + 1)))), (1, .long (dbF (σ 0) (7 * i + (j + 1)))), (0, .ref (a 0)), (3, .int (iI (↑i)))]) hX dX2_debtBits_52 hl (k := 3) rfl (by omega) (by decide) rfl (fun ls hl => ?_)
                refine lv_goto (tgt := 15) hx hb dX2_debtBits_55 (by decide) ?_
                exact ih15 (j + 1) (by omega) (by omega) _ _ _ hP hS (lv_sub hl [2, 1, 3, 0] rfl)
        exact L15 (n0 + 1) (0) (by omega) (by omega) _ _ _ hP hS (lv_sub hl [1, 2, 3, 0] rfl)
  exact L4 (n0 + 1) (0) (by omega) (by omega) _ _ _ hP hS (lv_sub hl [2, 1, 0] rfl)
