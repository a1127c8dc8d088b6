/-! the twin: what is kept, and the changes of one party or pair -/
set_option maxRecDepth 100000
set_option maxHeartbeats 4000000 in
theorem c_copies {l : Launch} {D : va_G} {Z : zZ} {o : Nat} {ad : Nat → Nat} {cA : Nat → ClassId} (hZ : zOk Z) (σ : zT) (sz : Nat) (q1 n1 j1 t1 : Nat) (he1 : ∀ x, (mW o ad cA x)[q1]? = some (t1, .inl (cA 0, n1, .inl (fun k => iI (x j1 k))))) (hn1 : n1 < 2 ^ 31) (q2 n2 j2 t2 : Nat) (he2 : ∀ x, (mW o ad cA x)[q2]? = some (t2, .inl (cA 0, n2, .inl (fun k => iI (x j2 k))))) (hn2 : n2 < 2 ^ 31) (hs2 : ∀ (x : zT) (k : Nat) (v : Int), (mW o ad cA x).set q2 (t2, .inl (cA 0, n2, .inl (fun k' => iI (uA x j2 k v j2 k')))) = mW o ad cA (uA x j2 k v)) (hj : j1 ≠ j2) (b1 b2 : Nat) (E1 E2 : Int) (h1 : E1 = b1 ∧ b1 + 61 ≤ n1) (h2 : E2 = b2 ∧ b2 + 61 ≤ n2) : MV l D Z o ad cA yX4_copies (ws_ yX4_copies cX4_copies 5 (none)) { frames := 0, cells := 0, slots := 0, locals := 0 } [.ref (t1), .int (iI (E1)), .ref (t2), .int (iI (E2))] sz (σ) (fV (cpF σ j1 b1 j2 b2 61)) := by
  obtain ⟨rfl, h1⟩ := h1
  obtain ⟨rfl, h2⟩ := h2
  refine w_met (cc := cX4_copies) (maxL := 5) (ret := none) (own := RX4) (by decide) rfl rfl mW_ok (Nat.le_of_ble_eq_true rfl) ?_
  intro p e s m below meth c hX hsz hK hP hD hA hE hS hR ls hl
  have hx := hX.1
  have hb := hX.2.1
  have hl : lv_has ls 5 [(0, .ref t1), (1, .int (iI (↑b1))), (2, .ref t2), (3, .int (iI (↑b2)))] := hl
  refine z_iconst hX dX4_copies_0 ?_
  refine z_top (y := ↑(0 : Nat)) (rfl) ?_
  refine lv_istore (lv' := [(4, .int (iI (↑(0 : Nat)))), (0, .ref t1), (1, .int (iI (↑b1))), (2, .ref t2), (3, .int (iI (↑b2)))]) hx hb dX4_copies_1 hl (by decide) rfl (fun ls hl => ?_)
  have L3 : ∀ (n : Nat) (i : Nat), (61 < i + n) → (i ≤ 61) → ∀ (H : Heap) (locs : List Loc) (ls : Array Slot), va_P D vwCl (mW o ad cA (cpF σ j1 b1 j2 b2 i)) H → va_S (wA (mW o ad cA) sz) s.heap H locs → lv_has ls 5 [(0, .ref t1), (1, .int (iI (↑b1))), (2, .ref t2), (3, .int (iI (↑b2))), (4, .int (iI (↑i)))] → W p l e (headSpec (ws_ yX4_copies cX4_copies 5 (none)) { frames := 0, cells := 0, slots := 0, locals := 0 }).room s m ([.ref t1, .int (iI (↑b1)), .ref t2, .int (iI (↑b2))] : List Value).toArray below meth c H locs 0 0 (MQ below (wQv D vwCl (mW o ad cA) (fV (cpF σ j1 b1 j2 b2 61)) sz) ([.ref t1, .int (iI (↑b1)), .ref t2, .int (iI (↑b2))] : List Value).toArray s 0 0 (wA (mW o ad cA) sz)) (F0 m 3 ls []) := by
    intro n
    induction n with
    | zero =>
      intro i hf hi H locs ls hP hS hl
      exact absurd hf (by omega)
    | succ n ih3 =>
      intro i hf hi H locs ls hP hS hl
      refine lv_iload hx hb dX4_copies_3 (lv_at hl 4 rfl) ?_
      refine z_bipush hX dX4_copies_5 (by decide) ?_
      refine z_icmp_ge (tgt := 28) hX (by omega) dX4_copies_7 (by decide) (fun c_7 => ?_) (fun c_7 => ?_)
      · skip
        exact w_vret hX hP hS (by rw [show i = 61 from by omega]) dX4_copies_28
      · skip
        refine lv_aload_n hx hb dX4_copies_10 rfl (lv_at hl 2 rfl) ?_
        refine lv_iload_n hx hb dX4_copies_11 rfl (lv_at hl 3 rfl) ?_
        refine lv_iload hx hb dX4_copies_12 (lv_at hl 4 rfl) ?_
        refine W.eq (g2 := F0 m 14 ls [.int (iI (↑i)), .int (iI (↑b2)), .ref t2]) rfl ?_
        refine z_iadd hX dX4_copies_14 ?_
        refine lv_aload_n hx hb dX4_copies_15 rfl (lv_at hl 0 rfl) ?_
        refine lv_iload_n hx hb dX4_copies_16 rfl (lv_at hl 1 rfl) ?_
        refine lv_iload hx hb dX4_copies_17 (lv_at hl 4 rfl) ?_
        refine z_iadd hX dX4_copies_19 ?_
        refine m_ld hX hK hP (he1 _) (b1 + i) (by omega) hn1 dX4_copies_20 ?_
        refine z_top (y := σ j1 (b1 + i)) (by unfold cpF; rw [sA_i hj]) ?_
        refine m_st hX hK hD hP hS (he2 _) (b2 + i) (hs2 _ _ _) (by omega) hn2 dX4_copies_21 (fun H locs hP hS => ?_)
        rw [show uA (cpF σ j1 b1 j2 b2 i) j2 (b2 + i) (σ j1 (b1 + i)) = cpF σ j1 b1 j2 b2 (i + 1) from cpF_s] at hP
        refine z_iinc (y := ↑(i + 1)) (lv' := [(4, .int (iI (↑(i + 1)))), (0, .ref t1), (1, .int (iI (↑b1))), (2, .ref t2), (3, .int (iI (↑b2)))]) hX dX4_copies_22 hl (k := 4) rfl (by omega) (by decide) rfl (fun ls hl => ?_)
        refine lv_goto (tgt := 3) hx hb dX4_copies_25 (by decide) ?_
        exact ih3 (i + 1) (by omega) (by omega) _ _ _ hP hS (lv_sub hl [1, 2, 3, 4, 0] rfl)
  rw [show σ = cpF σ j1 b1 j2 b2 0 from cpF_0.symm] at hP
  exact L3 (62) (0) (by omega) (by omega) _ _ _ hP hS (lv_sub hl [1, 2, 3, 4, 0] rfl)
set_option maxHeartbeats 4000000 in
theorem c_keeps {l : Launch} {D : va_G} {Z : zZ} {o : Nat} {ad : Nat → Nat} {cA : Nat → ClassId} (hZ : zOk Z) (σ : zT) (sz : Nat) (q1 j1 t1 : Nat) (he1 : ∀ x, (mW o ad cA x)[q1]? = some (t1, .inl (cA 0, 61, .inl (fun k => iI (x j1 k))))) (hj1 : j1 ≠ 1) (hj6 : j1 ≠ 6) (hj8 : j1 ≠ 8) (n6 : Nat) (h6 : σ 6 0 = n6 ∧ n6 ≤ 8) (h7 : σ 7 0 = 0 ∨ σ 7 0 = 1) : MV l D Z o ad cA yX4_keeps (ws_ yX4_keeps cX4_keeps 3 (none)) { frames := 1, cells := 0, slots := 0, locals := 24 } [.ref o, .ref (t1)] sz (σ) (fV (kF j1 σ n6)) := by
  refine w_met (cc := cX4_keeps) (maxL := 3) (ret := none) (own := RX4) (by decide) rfl rfl mW_ok (Nat.le_of_ble_eq_true rfl) ?_
  intro p e s m below meth c hX hsz hK hP hD hA hE hS hR ls hl
  have hx := hX.1
  have hb := hX.2.1
  have hl : lv_has ls 3 [(0, .ref o), (1, .ref t1)] := hl
  refine lv_aload_n hx hb dX4_keeps_0 rfl (lv_at hl 0 rfl) ?_
  refine z_iconst hX dX4_keeps_1 ?_
  refine m_put hX hK hD hP hS 8 (by decide) q1916 rfl rfl rfl mW_f8 dX4_keeps_2 (fun H locs hP hS => ?_)
  refine lv_aload_n hx hb dX4_keeps_5 rfl (lv_at hl 0 rfl) ?_
  refine m_get hX hK hP 7 (by decide) q1915 rfl dX4_keeps_6 ?_
  refine z_top (y := σ 7 0) (by rw [uA_nj (by decide)]) ?_
  refine z_if_eq (tgt := 13) hX (by omega) dX4_keeps_9 (by decide) (fun c_9 => ?_) (fun c_9 => ?_)
  · skip
    refine lv_aload_n hx hb dX4_keeps_13 rfl (lv_at hl 0 rfl) ?_
    refine m_get hX hK hP 6 (by decide) q1914 rfl dX4_keeps_14 ?_
    refine z_top (y := σ 6 0) (by rw [uA_nj (by decide)]) ?_
    refine z_bipush hX dX4_keeps_17 (by decide) ?_
    refine W.eq (g2 := F0 m 19 ls [.int (iI (8)), .int (iI (σ 6 0))]) rfl ?_
    refine z_icmp_ne (tgt := 62) hX (by omega) dX4_keeps_19 (by decide) (fun c_19 => ?_) (fun c_19 => ?_)
    · skip
      refine lv_aload_n hx hb dX4_keeps_62 rfl (lv_at hl 1 rfl) ?_
      refine z_iconst hX dX4_keeps_63 ?_
      refine lv_aload_n hx hb dX4_keeps_64 rfl (lv_at hl 0 rfl) ?_
      refine m_get hX hK hP 1 (by decide) q1909 rfl dX4_keeps_65 ?_
      refine z_bipush hX dX4_keeps_68 (by decide) ?_
      refine lv_aload_n hx hb dX4_keeps_70 rfl (lv_at hl 0 rfl) ?_
      refine m_get hX hK hP 6 (by decide) q1914 rfl dX4_keeps_71 ?_
      refine z_top (y := σ 6 0) (by rw [uA_nj (by decide)]) ?_
      refine z_imul hX dX4_keeps_74 ?_
      refine m_callSv (As := [.ref t1, .int (iI (0)), .ref (ad 1), .int (iI (61 * (σ 6 0)))]) (rest := []) hZ hX hK hD hA hE hP hS (c_copies hZ (uA σ 8 0 0) _ q1 61 j1 t1 he1 (by decide) _ 488 1 (ad 1) (fun _ => mW_e1) (by decide) (fun _ _ _ => mW_s1) hj1 0 (61 * n6) _ _ ⟨rfl, by omega⟩ (by omega)) (va_cwS 4 hX.hts (lw_S q1995 q1996 q89 q1997) rfl rfl rfl (by decide +kernel) ⟨Nat.le_of_ble_eq_true rfl, Nat.le_of_ble_eq_true rfl⟩) rfl hl.1 (lv_room (Nat.le_of_ble_eq_true rfl)) dX4_keeps_75 ⟨Nat.le_refl _, Nat.le_refl _⟩ rfl (fun  H locs hP hS => ?_)
      refine W.eq (g2 := F0 m 78 ls []) rfl ?_
      refine lv_aload_n hx hb dX4_keeps_78 rfl (lv_at hl 0 rfl) ?_
      refine lv_dup hx hb dX4_keeps_79 rfl ?_
      refine m_get hX hK hP 6 (by decide) q1914 rfl dX4_keeps_80 ?_
      refine z_top (y := σ 6 0) (by rw [cpF_i (by decide), uA_nj (by decide)]) ?_
      refine z_iconst hX dX4_keeps_83 ?_
      refine z_iadd hX dX4_keeps_84 ?_
      refine m_put hX hK hD hP hS 6 (by decide) q1914 rfl rfl rfl mW_f6 dX4_keeps_85 (fun H locs hP hS => ?_)
      exact w_vret hX hP hS (by first | exact kF_t c_9 h6.1 (by omega) hj8 | (rw [show n6 = 8 from by omega]; exact kF_f c_9 c_19 hj8 hj1 hj6)) dX4_keeps_88
    · skip
      refine z_iconst hX dX4_keeps_22 ?_
      refine z_top (y := ↑(0 : Nat)) (rfl) ?_
      refine lv_istore_n (lv' := [(2, .int (iI (↑(0 : Nat)))), (0, .ref o), (1, .ref t1)]) hx hb dX4_keeps_23 rfl hl (by decide) rfl (fun ls hl => ?_)
      have L24 : ∀ (n : Nat) (i : Nat), (427 < i + n) → (i ≤ 427) → ∀ (H : Heap) (locs : List Loc) (ls : Array Slot), va_P D vwCl (mW o ad cA (sA (uA σ 8 0 0) 1 (shF (σ 1) i))) H → va_S (wA (mW o ad cA) sz) s.heap H locs → lv_has ls 3 [(0, .ref o), (1, .ref t1), (2, .int (iI (↑i)))] → W p l e (headSpec (ws_ yX4_keeps cX4_keeps 3 (none)) { frames := 1, cells := 0, slots := 0, locals := 24 }).room s m ([.ref o, .ref t1] : List Value).toArray below meth c H locs 0 0 (MQ below (wQv D vwCl (mW o ad cA) (fV (kF j1 σ n6)) sz) ([.ref o, .ref t1] : List Value).toArray s 0 0 (wA (mW o ad cA) sz)) (F0 m 24 ls []) := by
        intro n
        induction n with
        | zero =>
          intro i hf hi H locs ls hP hS hl
          exact absurd hf (by omega)
        | succ n ih24 =>
          intro i hf hi H locs ls hP hS hl
          refine lv_iload_n hx hb dX4_keeps_24 rfl (lv_at hl 2 rfl) ?_
          refine W.eq (g2 := F0 m 25 ls [.int (iI (↑i))]) rfl ?_
          refine z_sipush hX dX4_keeps_25 (by decide) ?_
          refine z_icmp_ge (tgt := 52) hX (by omega) dX4_keeps_28 (by decide) (fun c_28 => ?_) (fun c_28 => ?_)
          · skip
            obtain rfl : i = 427 := by omega
            refine lv_aload_n hx hb dX4_keeps_52 rfl (lv_at hl 0 rfl) ?_
            refine lv_dup hx hb dX4_keeps_53 rfl ?_
            refine m_get hX hK hP 6 (by decide) q1914 rfl dX4_keeps_54 ?_
            refine z_top (y := σ 6 0) (by rw [sA_i (by decide), uA_nj (by decide)]) ?_
            refine z_iconst hX dX4_keeps_57 ?_
            refine z_isub hX dX4_keeps_58 ?_
            refine m_put hX hK hD hP hS 6 (by decide) q1914 rfl rfl rfl mW_f6 dX4_keeps_59 (fun H locs hP hS => ?_)
            refine lv_aload_n hx hb dX4_keeps_62 rfl (lv_at hl 1 rfl) ?_
            refine z_iconst hX dX4_keeps_63 ?_
            refine W.eq (g2 := F0 m 64 ls [.int (iI (0)), .ref t1]) rfl ?_
            refine lv_aload_n hx hb dX4_keeps_64 rfl (lv_at hl 0 rfl) ?_
            refine m_get hX hK hP 1 (by decide) q1909 rfl dX4_keeps_65 ?_
            refine z_bipush hX dX4_keeps_68 (by decide) ?_
            refine lv_aload_n hx hb dX4_keeps_70 rfl (lv_at hl 0 rfl) ?_
            refine m_get hX hK hP 6 (by decide) q1914 rfl dX4_keeps_71 ?_
            refine z_top (y := (σ 6 0) - 1) (by rw [uA_eq]) ?_
            refine z_imul hX dX4_keeps_74 ?_
            refine m_callSv (As := [.ref t1, .int (iI (0)), .ref (ad 1), .int (iI (61 * ((σ 6 0) - 1)))]) (rest := []) hZ hX hK hD hA hE hP hS (c_copies hZ (uA (sA (uA σ 8 0 0) 1 (shF (σ 1) 427)) 6 0 ((σ 6 0) - 1)) _ q1 61 j1 t1 he1 (by decide) _ 488 1 (ad 1) (fun _ => mW_e1) (by decide) (fun _ _ _ => mW_s1) hj1 0 (61 * 7) _ _ ⟨rfl, by omega⟩ (by omega)) (va_cwS 4 hX.hts (lw_S q1995 q1996 q89 q1997) rfl rfl rfl (by decide +kernel) ⟨Nat.le_of_ble_eq_true rfl, Nat.le_of_ble_eq_true rfl⟩) rfl hl.1 (lv_room (Nat.le_of_ble_eq_true rfl)) dX4_keeps_75 ⟨Nat.le_refl _, Nat.le_refl _⟩ rfl (fun  H locs hP hS => ?_)
            refine lv_aload_n hx hb dX4_keeps_78 rfl (lv_at hl 0 rfl) ?_
            refine lv_dup hx hb dX4_keeps_79 rfl ?_
            refine m_get hX hK hP 6 (by decide) q1914 rfl dX4_keeps_80 ?_
            refine z_top (y := (σ 6 0) - 1) (by rw [cpF_i (by decide), uA_eq]) ?_
            refine W.eq (g2 := F0 m 83 ls [.int (iI ((σ 6 0) - 1)), .ref o]) rfl ?_
            refine z_iconst hX dX4_keeps_83 ?_
            refine z_iadd hX dX4_keeps_84 ?_
            refine m_put hX hK hD hP hS 6 (by decide) q1914 rfl rfl rfl mW_f6 dX4_keeps_85 (fun H locs hP hS => ?_)
            exact w_vret hX hP hS (by first | exact kF_t c_9 h6.1 (by omega) hj8 | (rw [show n6 = 8 from by omega]; exact kF_f c_9 c_19 hj8 hj1 hj6)) dX4_keeps_88
          · skip
            refine lv_aload_n hx hb dX4_keeps_31 rfl (lv_at hl 0 rfl) ?_
            refine m_get hX hK hP 1 (by decide) q1909 rfl dX4_keeps_32 ?_
            refine lv_iload_n hx hb dX4_keeps_35 rfl (lv_at hl 2 rfl) ?_
            refine lv_aload_n hx hb dX4_keeps_36 rfl (lv_at hl 0 rfl) ?_
            refine m_get hX hK hP 1 (by decide) q1909 rfl dX4_keeps_37 ?_
            refine lv_iload_n hx hb dX4_keeps_40 rfl (lv_at hl 2 rfl) ?_
            refine W.eq (g2 := F0 m 41 ls [.int (iI (↑i)), .ref (ad 1), .int (iI (↑i)), .ref (ad 1)]) rfl ?_
            refine z_bipush hX dX4_keeps_41 (by decide) ?_
            refine z_iadd hX dX4_keeps_43 ?_
            refine m_ld hX hK hP mW_e1 (i + 61) (by omega) (by decide) dX4_keeps_44 ?_
            refine z_top (y := σ 1 (i + 61)) (by rw [sA_j, shF_r (by omega)]) ?_
            refine m_st hX hK hD hP hS mW_e1 i mW_s1 (⟨rfl, by omega⟩) (by decide) dX4_keeps_45 (fun H locs hP hS => ?_)
            rw [show uA (sA (uA σ 8 0 0) 1 (shF (σ 1) i)) 1 i (σ 1 (i + 61)) = sA (uA σ 8 0 0) 1 (shF (σ 1) (i + 1)) from by rw [uA_in, shF_s]] at hP
            refine z_iinc (y := ↑(i + 1)) (lv' := [(2, .int (iI (↑(i + 1)))), (0, .ref o), (1, .ref t1)]) hX dX4_keeps_46 hl (k := 2) rfl (by omega) (by decide) rfl (fun ls hl => ?_)
            refine lv_goto (tgt := 24) hx hb dX4_keeps_49 (by decide) ?_
            exact ih24 (i + 1) (by omega) (by omega) _ _ _ hP hS (lv_sub hl [1, 2, 0] rfl)
      rw [show uA σ 8 0 0 = sA (uA σ 8 0 0) 1 (shF (σ 1) 0) from by rw [shF_0, show σ 1 = (uA σ 8 0 0) 1 from (sA_i (by decide)).symm, sA_self]] at hP
      exact L24 (428) (0) (by omega) (by omega) _ _ _ hP hS (lv_sub hl [1, 2, 0] rfl)
  · skip
    exact w_vret hX hP hS (kF_w c_9) dX4_keeps_12
