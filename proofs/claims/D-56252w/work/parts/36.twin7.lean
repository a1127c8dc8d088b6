/-! the twin: shares and falls -/
set_option maxRecDepth 100000
set_option maxHeartbeats 4000000 in
theorem c_remains {l : Launch} {D : va_G} {Z : zZ} {o : Nat} {ad : Nat → Nat} {cA : Nat → ClassId} (hZ : zOk Z) (σ : zT) (sz : Nat) (d1 d2 : Nat) (E1 E2 : Int) (h1 : E1 = d1 ∧ d1 < 7) (h2 : E2 = d2 ∧ d2 < 7) (hob : 0 < mOb (σ 0) d1) (B : Int) (hgo : gOk (σ 0) B) (hB : B ≤ 2000000) : MI l D Z o ad cA yX4_remains (ws_ yX4_remains cX4_remains 3 (some .int)) { frames := 2, cells := 0, slots := 0, locals := 45 } [.ref o, .int (iI (E1)), .int (iI (E2))] sz (σ) (fI (mRm (σ 0) d1 d2) (σ)) := by
  obtain ⟨rfl, h1⟩ := h1
  obtain ⟨rfl, h2⟩ := h2
  refine w_met (cc := cX4_remains) (maxL := 3) (ret := some .int) (own := RX4) (by decide) rfl rfl mW_ok (Nat.le_of_ble_eq_true rfl) ?_
  intro p e s m below meth c hX hsz hK hP hD hA hE hS hR ls hl
  have hx := hX.1
  have hb := hX.2.1
  have hl : lv_has ls 3 [(0, .ref o), (1, .int (iI (↑d1))), (2, .int (iI (↑d2)))] := hl
  have hc := hgo.2.1 d1 h1
  have hd := hgo.2.2.1 d1 d2 h1 (by omega)
  have hm := cxd (a := σ 0 (5 + d1)) (b := σ 0 (12 + 7 * d1 + d2)) (by omega) hd
  have hob2 := mOb_bd hgo h1
  refine lv_aload_n hx hb dX4_remains_0 rfl (lv_at hl 0 rfl) ?_
  refine m_get hX hK hP 0 (by decide) q1908 rfl dX4_remains_1 ?_
  refine z_iconst hX dX4_remains_4 ?_
  refine lv_iload_n hx hb dX4_remains_5 rfl (lv_at hl 1 rfl) ?_
  refine z_iadd hX dX4_remains_6 ?_
  refine m_ld hX hK hP mW_e0 (5 + d1) (by omega) (by decide) dX4_remains_7 ?_
  refine lv_aload_n hx hb dX4_remains_8 rfl (lv_at hl 0 rfl) ?_
  refine lv_iload_n hx hb dX4_remains_9 rfl (lv_at hl 1 rfl) ?_
  refine lv_iload_n hx hb dX4_remains_10 rfl (lv_at hl 2 rfl) ?_
  refine W.eq (g2 := F0 m 11 ls [.int (iI (↑d2)), .int (iI (↑d1)), .ref o, .int (iI (σ 0 (5 + d1)))]) rfl ?_
  refine m_calli (As := [.int (iI (↑d1)), .int (iI (↑d2))]) (rest := [.int (iI (σ 0 (5 + d1)))]) hZ hX hK hD hA hE hP hS (c_owes hZ (σ) _ d1 d2 _ _ ⟨rfl, by omega⟩ ⟨rfl, by omega⟩) (cwV 2 hX.hts (lw_V q2018 q2020 qs47 q89 q2021) rfl rfl rfl (by decide +kernel) ⟨Nat.le_of_ble_eq_true rfl, Nat.le_of_ble_eq_true rfl⟩) rfl hl.1 (lv_room (Nat.le_of_ble_eq_true rfl)) dX4_remains_11 ⟨Nat.le_refl _, Nat.le_refl _⟩ rfl (fun  H locs hP hS => ?_)
  refine z_imul hX dX4_remains_14 ?_
  refine lv_aload_n hx hb dX4_remains_15 rfl (lv_at hl 0 rfl) ?_
  refine lv_iload_n hx hb dX4_remains_16 rfl (lv_at hl 1 rfl) ?_
  refine m_calli (As := [.int (iI (↑d1))]) (rest := [.int (iI ((σ 0 (5 + d1)) * (σ 0 (12 + 7 * d1 + d2))))]) hZ hX hK hD hA hE hP hS (c_obliged hZ (σ) _ d1 _ ⟨rfl, by omega⟩) (cwV 1 hX.hts (lw_V q2089 q2091 qs54 q89 q2092) rfl rfl rfl (by decide +kernel) ⟨Nat.le_of_ble_eq_true rfl, Nat.le_of_ble_eq_true rfl⟩) rfl hl.1 (lv_room (Nat.le_of_ble_eq_true rfl)) dX4_remains_17 ⟨Nat.le_refl _, Nat.le_refl _⟩ rfl (fun  H locs hP hS => ?_)
  refine z_irem hX dX4_remains_20 (by omega) ?_
  exact w_iret hX hP hS (⟨rfl, rfl⟩) dX4_remains_21
set_option maxHeartbeats 4000000 in
theorem c_share {l : Launch} {D : va_G} {Z : zZ} {o : Nat} {ad : Nat → Nat} {cA : Nat → ClassId} (hZ : zOk Z) (σ : zT) (sz : Nat) (d1 d2 : Nat) (E1 E2 : Int) (h1 : E1 = d1 ∧ d1 < 7) (h2 : E2 = d2 ∧ d2 < 7) (hob : 0 < mOb (σ 0) d1) (B : Int) (hgo : gOk (σ 0) B) (hB : B ≤ 2000000) : MI l D Z o ad cA yX4_share (ws_ yX4_share cX4_share 7 (some .int)) { frames := 3, cells := 0, slots := 0, locals := 67 } [.ref o, .int (iI (E1)), .int (iI (E2))] sz (σ) (fI (mSh (σ 0) d1 d2) (σ)) := by
  obtain ⟨rfl, h1⟩ := h1
  obtain ⟨rfl, h2⟩ := h2
  refine w_met (cc := cX4_share) (maxL := 7) (ret := some .int) (own := RX4) (by decide) rfl rfl mW_ok (Nat.le_of_ble_eq_true rfl) ?_
  intro p e s m below meth c hX hsz hK hP hD hA hE hS hR ls hl
  have hx := hX.1
  have hb := hX.2.1
  have hl : lv_has ls 7 [(0, .ref o), (1, .int (iI (↑d1))), (2, .int (iI (↑d2)))] := hl
  have hd2 := hgo.2.2.1 d1 d2 h1 h2
  refine lv_aload_n hx hb dX4_share_0 rfl (lv_at hl 0 rfl) ?_
  refine lv_iload_n hx hb dX4_share_1 rfl (lv_at hl 1 rfl) ?_
  refine lv_iload_n hx hb dX4_share_2 rfl (lv_at hl 2 rfl) ?_
  refine m_calli (As := [.int (iI (↑d1)), .int (iI (↑d2))]) (rest := []) hZ hX hK hD hA hE hP hS (c_owes hZ (σ) _ d1 d2 _ _ ⟨rfl, by omega⟩ ⟨rfl, by omega⟩) (cwV 2 hX.hts (lw_V q2018 q2020 qs47 q89 q2021) rfl rfl rfl (by decide +kernel) ⟨Nat.le_of_ble_eq_true rfl, Nat.le_of_ble_eq_true rfl⟩) rfl hl.1 (lv_room (Nat.le_of_ble_eq_true rfl)) dX4_share_3 ⟨Nat.le_refl _, Nat.le_refl _⟩ rfl (fun  H locs hP hS => ?_)
  refine z_if_ne (tgt := 11) hX (by omega) dX4_share_6 (by decide) (fun c_6 => ?_) (fun c_6 => ?_)
  · skip
    refine lv_aload_n hx hb dX4_share_11 rfl (lv_at hl 0 rfl) ?_
    refine m_get hX hK hP 0 (by decide) q1908 rfl dX4_share_12 ?_
    refine z_iconst hX dX4_share_15 ?_
    refine lv_iload_n hx hb dX4_share_16 rfl (lv_at hl 1 rfl) ?_
    refine W.eq (g2 := F0 m 17 ls [.int (iI (↑d1)), .int (iI (5)), .ref (ad 0)]) rfl ?_
    refine z_iadd hX dX4_share_17 ?_
    refine m_ld hX hK hP mW_e0 (5 + d1) (by omega) (by decide) dX4_share_18 ?_
    refine z_top (y := σ 0 (5 + d1) - sg (fun k => mPt (σ 0) d1 k) 0) ((Int.sub_zero _).symm) ?_
    refine lv_istore_n (lv' := [(3, .int (iI (σ 0 (5 + d1) - sg (fun k => mPt (σ 0) d1 k) 0))), (0, .ref o), (1, .int (iI (↑d1))), (2, .int (iI (↑d2)))]) hx hb dX4_share_19 rfl hl (by decide) rfl (fun ls hl => ?_)
    refine z_iconst hX dX4_share_20 ?_
    refine z_top (y := sg (fun k => mAhB (σ 0) d1 d2 k) 0) (rfl) ?_
    refine lv_istore (lv' := [(4, .int (iI (sg (fun k => mAhB (σ 0) d1 d2 k) 0))), (3, .int (iI (σ 0 (5 + d1) - sg (fun k => mPt (σ 0) d1 k) 0))), (0, .ref o), (1, .int (iI (↑d1))), (2, .int (iI (↑d2)))]) hx hb dX4_share_21 hl (by decide) rfl (fun ls hl => ?_)
    refine z_iconst hX dX4_share_23 ?_
    refine z_top (y := ↑(0 : Nat)) (rfl) ?_
    refine lv_istore (lv' := [(5, .int (iI (↑(0 : Nat)))), (4, .int (iI (sg (fun k => mAhB (σ 0) d1 d2 k) 0))), (3, .int (iI (σ 0 (5 + d1) - sg (fun k => mPt (σ 0) d1 k) 0))), (0, .ref o), (1, .int (iI (↑d1))), (2, .int (iI (↑d2)))]) hx hb dX4_share_24 hl (by decide) rfl (fun ls hl => ?_)
    have L26 : ∀ (n : Nat) (i : Nat), (7 < i + n) → (i ≤ 7) → ∀ (H : Heap) (locs : List Loc) (ls : Array Slot), va_P D vwCl (mW o ad cA (σ)) H → va_S (wA (mW o ad cA) sz) s.heap H locs → lv_has ls 7 [(0, .ref o), (1, .int (iI (↑d1))), (2, .int (iI (↑d2))), (3, .int (iI (σ 0 (5 + d1) - sg (fun k => mPt (σ 0) d1 k) i))), (4, .int (iI (sg (fun k => mAhB (σ 0) d1 d2 k) i))), (5, .int (iI (↑i)))] → W p l e (headSpec (ws_ yX4_share cX4_share 7 (some .int)) { frames := 3, cells := 0, slots := 0, locals := 67 }).room s m ([.ref o, .int (iI (↑d1)), .int (iI (↑d2))] : List Value).toArray below meth c H locs 0 0 (MQ below (wQi D vwCl (mW o ad cA) (fI (mSh (σ 0) d1 d2) (σ)) sz) ([.ref o, .int (iI (↑d1)), .int (iI (↑d2))] : List Value).toArray s 0 0 (wA (mW o ad cA) sz)) (F0 m 26 ls []) := by
      intro n
      induction n with
      | zero =>
        intro i hf hi H locs ls hP hS hl
        exact absurd hf (by omega)
      | succ n ih26 =>
        intro i hf hi H locs ls hP hS hl
        refine lv_iload hx hb dX4_share_26 (lv_at hl 5 rfl) ?_
        refine z_bipush hX dX4_share_28 (by decide) ?_
        refine z_icmp_ge (tgt := 116) hX (by omega) dX4_share_30 (by decide) (fun c_30 => ?_) (fun c_30 => ?_)
        · skip
          obtain rfl : i = 7 := by omega
          have hc := hgo.2.1 d1 h1
          have hd := hgo.2.2.1 d1 d2 h1 (by omega)
          have hm := cxd (a := σ 0 (5 + d1)) (b := σ 0 (12 + 7 * d1 + d2)) (by omega) hd
          have hob2 := mOb_bd hgo h1
          have hl7 := mLeft_bd hgo hB h1 hob (i := 7) (by omega)
          have hr7 := mRank_bd (g := σ 0) (p := d1) (c := d2) (i := 7) (by omega)
          refine W.eq (g2 := F0 m 116 ls []) rfl ?_
          refine lv_aload_n hx hb dX4_share_116 rfl (lv_at hl 0 rfl) ?_
          refine m_get hX hK hP 0 (by decide) q1908 rfl dX4_share_117 ?_
          refine z_iconst hX dX4_share_120 ?_
          refine lv_iload_n hx hb dX4_share_121 rfl (lv_at hl 1 rfl) ?_
          refine z_iadd hX dX4_share_122 ?_
          refine m_ld hX hK hP mW_e0 (5 + d1) (by omega) (by decide) dX4_share_123 ?_
          refine lv_aload_n hx hb dX4_share_124 rfl (lv_at hl 0 rfl) ?_
          refine lv_iload_n hx hb dX4_share_125 rfl (lv_at hl 1 rfl) ?_
          refine lv_iload_n hx hb dX4_share_126 rfl (lv_at hl 2 rfl) ?_
          refine m_calli (As := [.int (iI (↑d1)), .int (iI (↑d2))]) (rest := [.int (iI (σ 0 (5 + d1)))]) hZ hX hK hD hA hE hP hS (c_owes hZ (σ) _ d1 d2 _ _ ⟨rfl, by omega⟩ ⟨rfl, by omega⟩) (cwV 2 hX.hts (lw_V q2018 q2020 qs47 q89 q2021) rfl rfl rfl (by decide +kernel) ⟨Nat.le_of_ble_eq_true rfl, Nat.le_of_ble_eq_true rfl⟩) rfl hl.1 (lv_room (Nat.le_of_ble_eq_true rfl)) dX4_share_127 ⟨Nat.le_refl _, Nat.le_refl _⟩ rfl (fun  H locs hP hS => ?_)
          refine W.eq (g2 := F0 m 130 ls [.int (iI (σ 0 (12 + 7 * d1 + d2))), .int (iI (σ 0 (5 + d1)))]) rfl ?_
          refine z_imul hX dX4_share_130 ?_
          refine lv_aload_n hx hb dX4_share_131 rfl (lv_at hl 0 rfl) ?_
          refine lv_iload_n hx hb dX4_share_132 rfl (lv_at hl 1 rfl) ?_
          refine m_calli (As := [.int (iI (↑d1))]) (rest := [.int (iI ((σ 0 (5 + d1)) * (σ 0 (12 + 7 * d1 + d2))))]) hZ hX hK hD hA hE hP hS (c_obliged hZ (σ) _ d1 _ ⟨rfl, by omega⟩) (cwV 1 hX.hts (lw_V q2089 q2091 qs54 q89 q2092) rfl rfl rfl (by decide +kernel) ⟨Nat.le_of_ble_eq_true rfl, Nat.le_of_ble_eq_true rfl⟩) rfl hl.1 (lv_room (Nat.le_of_ble_eq_true rfl)) dX4_share_133 ⟨Nat.le_refl _, Nat.le_refl _⟩ rfl (fun  H locs hP hS => ?_)
          refine z_idiv hX dX4_share_136 (by omega) ?_
          refine lv_iload hx hb dX4_share_137 (lv_at hl 4 rfl) ?_
          refine lv_iload_n hx hb dX4_share_139 rfl (lv_at hl 3 rfl) ?_
          refine z_icmp_ge (tgt := 147) hX (by omega) dX4_share_140 (by decide) (fun c_140 => ?_) (fun c_140 => ?_)
          · skip
            refine z_iconst hX dX4_share_147 ?_
            refine z_iadd hX dX4_share_148 ?_
            refine W.eq (g2 := F0 m 149 ls [.int (iI ((((σ 0 (5 + d1)) * (σ 0 (12 + 7 * d1 + d2))) / (mOb (σ 0) d1)) + 0))]) rfl ?_
            exact w_iret hX hP hS (⟨by unfold mSh; rw [if_neg (by omega)]; first | (rw [bI_t (by unfold mRank mLeft; omega)]; rfl) | (rw [bI_f (by unfold mRank mLeft; omega)]; rfl), rfl⟩) dX4_share_149
          · skip
            refine z_iconst hX dX4_share_143 ?_
            refine lv_goto (tgt := 148) hx hb dX4_share_144 (by decide) ?_
            refine z_iadd hX dX4_share_148 ?_
            exact w_iret hX hP hS (⟨by unfold mSh; rw [if_neg (by omega)]; first | (rw [bI_t (by unfold mRank mLeft; omega)]; rfl) | (rw [bI_f (by unfold mRank mLeft; omega)]; rfl), rfl⟩) dX4_share_149
        · skip
          have hc := hgo.2.1 d1 h1
          have hd := hgo.2.2.1 d1 i h1 (by omega)
          have hm := cxd (a := σ 0 (5 + d1)) (b := σ 0 (12 + 7 * d1 + i)) (by omega) hd
          have hob2 := mOb_bd hgo h1
          have hr1 := mRm_bd (k := i) hob
          have hr2 := mRm_bd (k := d2) hob
          have hd2 := hgo.2.2.1 d1 d2 h1 h2
          refine lv_iload_n hx hb dX4_share_33 rfl (lv_at hl 3 rfl) ?_
          refine lv_aload_n hx hb dX4_share_34 rfl (lv_at hl 0 rfl) ?_
          refine m_get hX hK hP 0 (by decide) q1908 rfl dX4_share_35 ?_
          refine z_iconst hX dX4_share_38 ?_
          refine lv_iload_n hx hb dX4_share_39 rfl (lv_at hl 1 rfl) ?_
          refine W.eq (g2 := F0 m 40 ls [.int (iI (↑d1)), .int (iI (5)), .ref (ad 0), .int (iI (σ 0 (5 + d1) - sg (fun k => mPt (σ 0) d1 k) i))]) rfl ?_
          refine z_iadd hX dX4_share_40 ?_
          refine m_ld hX hK hP mW_e0 (5 + d1) (by omega) (by decide) dX4_share_41 ?_
          refine lv_aload_n hx hb dX4_share_42 rfl (lv_at hl 0 rfl) ?_
          refine lv_iload_n hx hb dX4_share_43 rfl (lv_at hl 1 rfl) ?_
          refine lv_iload hx hb dX4_share_44 (lv_at hl 5 rfl) ?_
          refine m_calli (As := [.int (iI (↑d1)), .int (iI (↑i))]) (rest := [.int (iI (σ 0 (5 + d1))), .int (iI (σ 0 (5 + d1) - sg (fun k => mPt (σ 0) d1 k) i))]) hZ hX hK hD hA hE hP hS (c_owes hZ (σ) _ d1 i _ _ ⟨rfl, by omega⟩ ⟨rfl, by omega⟩) (cwV 2 hX.hts (lw_V q2018 q2020 qs47 q89 q2021) rfl rfl rfl (by decide +kernel) ⟨Nat.le_of_ble_eq_true rfl, Nat.le_of_ble_eq_true rfl⟩) rfl hl.1 (lv_room (Nat.le_of_ble_eq_true rfl)) dX4_share_46 ⟨Nat.le_refl _, Nat.le_refl _⟩ rfl (fun  H locs hP hS => ?_)
          refine z_imul hX dX4_share_49 ?_
          refine lv_aload_n hx hb dX4_share_50 rfl (lv_at hl 0 rfl) ?_
          refine lv_iload_n hx hb dX4_share_51 rfl (lv_at hl 1 rfl) ?_
          refine m_calli (As := [.int (iI (↑d1))]) (rest := [.int (iI ((σ 0 (5 + d1)) * (σ 0 (12 + 7 * d1 + i)))), .int (iI (σ 0 (5 + d1) - sg (fun k => mPt (σ 0) d1 k) i))]) hZ hX hK hD hA hE hP hS (c_obliged hZ (σ) _ d1 _ ⟨rfl, by omega⟩) (cwV 1 hX.hts (lw_V q2089 q2091 qs54 q89 q2092) rfl rfl rfl (by decide +kernel) ⟨Nat.le_of_ble_eq_true rfl, Nat.le_of_ble_eq_true rfl⟩) rfl hl.1 (lv_room (Nat.le_of_ble_eq_true rfl)) dX4_share_52 ⟨Nat.le_refl _, Nat.le_refl _⟩ rfl (fun  H locs hP hS => ?_)
          refine W.eq (g2 := F0 m 55 ls [.int (iI (mOb (σ 0) d1)), .int (iI ((σ 0 (5 + d1)) * (σ 0 (12 + 7 * d1 + i)))), .int (iI (σ 0 (5 + d1) - sg (fun k => mPt (σ 0) d1 k) i))]) rfl ?_
          refine z_idiv hX dX4_share_55 (by omega) ?_
          refine z_isub hX dX4_share_56 ?_
          refine z_top (y := σ 0 (5 + d1) - sg (fun k => mPt (σ 0) d1 k) (i + 1)) (Int.sub_sub _ _ _) ?_
          refine lv_istore_n (lv' := [(3, .int (iI (σ 0 (5 + d1) - sg (fun k => mPt (σ 0) d1 k) (i + 1)))), (0, .ref o), (1, .int (iI (↑d1))), (2, .int (iI (↑d2))), (4, .int (iI (sg (fun k => mAhB (σ 0) d1 d2 k) i))), (5, .int (iI (↑i)))]) hx hb dX4_share_57 rfl hl (by decide) rfl (fun ls hl => ?_)
          refine lv_aload_n hx hb dX4_share_58 rfl (lv_at hl 1 rfl) ?_
          refine lv_iload_n hx hb dX4_share_59 rfl (lv_at hl 2 rfl) ?_
          refine lv_iload hx hb dX4_share_60 (lv_at hl 5 rfl) ?_
          refine m_calli (As := [.int (iI (↑d1)), .int (iI (↑i))]) (rest := []) hZ hX hK hD hA hE hP hS (c_remains hZ (σ) _ d1 i _ _ ⟨rfl, by omega⟩ ⟨rfl, by omega⟩ hob B hgo hB) (cwV 2 hX.hts (lw_V q2105 q2107 qs58 q89 q2108) rfl rfl rfl (by decide +kernel) ⟨Nat.le_of_ble_eq_true rfl, Nat.le_of_ble_eq_true rfl⟩) rfl hl.1 (lv_room (Nat.le_of_ble_eq_true rfl)) dX4_share_62 ⟨Nat.le_refl _, Nat.le_refl _⟩ rfl (fun  H locs hP hS => ?_)
          refine lv_aload_n hx hb dX4_share_65 rfl (lv_at hl 1 rfl) ?_
          refine lv_iload_n hx hb dX4_share_66 rfl (lv_at hl 2 rfl) ?_
          refine lv_iload_n hx hb dX4_share_67 rfl (lv_at hl 3 rfl) ?_
          refine W.eq (g2 := F0 m 68 ls [.int (iI (↑d2)), .int (iI (↑d1)), .ref o, .int (iI (mRm (σ 0) d1 i))]) rfl ?_
          refine m_calli (As := [.int (iI (↑d1)), .int (iI (↑d2))]) (rest := [.int (iI (mRm (σ 0) d1 i))]) hZ hX hK hD hA hE hP hS (c_remains hZ (σ) _ d1 d2 _ _ ⟨rfl, by omega⟩ ⟨rfl, by omega⟩ hob B hgo hB) (cwV 2 hX.hts (lw_V q2105 q2107 qs58 q89 q2108) rfl rfl rfl (by decide +kernel) ⟨Nat.le_of_ble_eq_true rfl, Nat.le_of_ble_eq_true rfl⟩) rfl hl.1 (lv_room (Nat.le_of_ble_eq_true rfl)) dX4_share_68 ⟨Nat.le_refl _, Nat.le_refl _⟩ rfl (fun  H locs hP hS => ?_)
          refine z_isub hX dX4_share_71 ?_
          refine lv_istore (lv' := [(6, .int (iI ((mRm (σ 0) d1 i) - (mRm (σ 0) d1 d2)))), (3, .int (iI (σ 0 (5 + d1) - sg (fun k => mPt (σ 0) d1 k) (i + 1)))), (0, .ref o), (1, .int (iI (↑d1))), (2, .int (iI (↑d2))), (4, .int (iI (sg (fun k => mAhB (σ 0) d1 d2 k) i))), (5, .int (iI (↑i)))]) hx hb dX4_share_72 hl (by decide) rfl (fun ls hl => ?_)
          refine lv_iload hx hb dX4_share_74 (lv_at hl 5 rfl) ?_
          refine lv_aload_n hx hb dX4_share_76 rfl (lv_at hl 2 rfl) ?_
          refine lv_iload_n hx hb dX4_share_77 rfl (lv_at hl 3 rfl) ?_
          refine lv_iload hx hb dX4_share_78 (lv_at hl 6 rfl) ?_
          refine m_calli (As := [.int (iI (↑d1)), .int (iI (↑i))]) (rest := [.int (iI (sg (fun k => mAhB (σ 0) d1 d2 k) i))]) hZ hX hK hD hA hE hP hS (c_owes hZ (σ) _ d1 i _ _ ⟨rfl, by omega⟩ ⟨rfl, by omega⟩) (cwV 2 hX.hts (lw_V q2018 q2020 qs47 q89 q2021) rfl rfl rfl (by decide +kernel) ⟨Nat.le_of_ble_eq_true rfl, Nat.le_of_ble_eq_true rfl⟩) rfl hl.1 (lv_room (Nat.le_of_ble_eq_true rfl)) dX4_share_80 ⟨Nat.le_refl _, Nat.le_refl _⟩ rfl (fun  H locs hP hS => ?_)
          refine z_if_le (tgt := 106) hX (by omega) dX4_share_83 (by decide) (fun c_83 => ?_) (fun c_83 => ?_)
          · skip
            refine z_iconst hX dX4_share_106 ?_
            refine W.eq (g2 := F0 m 107 ls [.int (iI (0)), .int (iI (sg (fun k => mAhB (σ 0) d1 d2 k) i))]) rfl ?_
            refine z_iadd hX dX4_share_107 ?_
            refine z_top (y := sg (fun k => mAhB (σ 0) d1 d2 k) (i + 1)) (by first | (show _ = _ + mAhB (σ 0) d1 d2 i; rw [mAhB_t (by unfold mAh; omega)]) | (show _ = _ + mAhB (σ 0) d1 d2 i; rw [mAhB_f (by unfold mAh; omega)])) ?_
            refine lv_istore (lv' := [(4, .int (iI (sg (fun k => mAhB (σ 0) d1 d2 k) (i + 1)))), (6, .int (iI ((mRm (σ 0) d1 i) - (mRm (σ 0) d1 d2)))), (3, .int (iI (σ 0 (5 + d1) - sg (fun k => mPt (σ 0) d1 k) (i + 1)))), (0, .ref o), (1, .int (iI (↑d1))), (2, .int (iI (↑d2))), (5, .int (iI (↑i)))]) hx hb dX4_share_108 hl (by decide) rfl (fun ls hl => ?_)
            refine z_iinc (y := ↑(i + 1)) (lv' := [(5, .int (iI (↑(i + 1)))), (4, .int (iI (sg (fun k => mAhB (σ 0) d1 d2 k) (i + 1)))), (6, .int (iI ((mRm (σ 0) d1 i) - (mRm (σ 0) d1 d2)))), (3, .int (iI (σ 0 (5 + d1) - sg (fun k => mPt (σ 0) d1 k) (i + 1)))), (0, .ref o), (1, .int (iI (↑d1))), (2, .int (iI (↑d2)))]) hX dX4_share_110 hl (k := 6) rfl (by omega) (by decide) rfl (fun ls hl => ?_)
            refine lv_goto (tgt := 26) hx hb dX4_share_113 (by decide) ?_
            exact ih26 (i + 1) (by omega) (by omega) _ _ _ hP hS (lv_sub hl [4, 5, 6, 3, 1, 0] rfl)
          · skip
            refine lv_iload hx hb dX4_share_86 (lv_at hl 0 rfl) ?_
            refine z_if_gt (tgt := 102) hX (by omega) dX4_share_88 (by decide) (fun c_88 => ?_) (fun c_88 => ?_)
            · skip
              refine z_iconst hX dX4_share_102 ?_
              refine lv_goto (tgt := 107) hx hb dX4_share_103 (by decide) ?_
              refine z_iadd hX dX4_share_107 ?_
              refine z_top (y := sg (fun k => mAhB (σ 0) d1 d2 k) (i + 1)) (by first | (show _ = _ + mAhB (σ 0) d1 d2 i; rw [mAhB_t (by unfold mAh; omega)]) | (show _ = _ + mAhB (σ 0) d1 d2 i; rw [mAhB_f (by unfold mAh; omega)])) ?_
              refine lv_istore (lv' := [(4, .int (iI (sg (fun k => mAhB (σ 0) d1 d2 k) (i + 1)))), (6, .int (iI ((mRm (σ 0) d1 i) - (mRm (σ 0) d1 d2)))), (3, .int (iI (σ 0 (5 + d1) - sg (fun k => mPt (σ 0) d1 k) (i + 1)))), (0, .ref o), (1, .int (iI (↑d1))), (2, .int (iI (↑d2))), (5, .int (iI (↑i)))]) hx hb dX4_share_108 hl (by decide) rfl (fun ls hl => ?_)
              refine W.eq (g2 := F0 m 110 ls []) rfl ?_
              refine z_iinc (y := ↑(i + 1)) (lv' := [(5, .int (iI (↑(i + 1)))), (4, .int (iI (sg (fun k => mAhB (σ 0) d1 d2 k) (i + 1)))), (6, .int (iI ((mRm (σ 0) d1 i) - (mRm (σ 0) d1 d2)))), (3, .int (iI (σ 0 (5 + d1) - sg (fun k => mPt (σ 0) d1 k) (i + 1)))), (0, .ref o), (1, .int (iI (↑d1))), (2, .int (iI (↑d2)))]) hX dX4_share_110 hl (k := 6) rfl (by omega) (by decide) rfl (fun ls hl => ?_)
              refine lv_goto (tgt := 26) hx hb dX4_share_113 (by decide) ?_
              exact ih26 (i + 1) (by omega) (by omega) _ _ _ hP hS (lv_sub hl [4, 5, 6, 3, 1, 0] rfl)
            · skip
              refine lv_iload hx hb dX4_share_91 (lv_at hl 0 rfl) ?_
              refine z_if_ne (tgt := 106) hX (by omega) dX4_share_93 (by decide) (fun c_93 => ?_) (fun c_93 => ?_)
              · skip
                refine z_iconst hX dX4_share_106 ?_
                refine z_iadd hX dX4_share_107 ?_
                refine z_top (y := sg (fun k => mAhB (σ 0) d1 d2 k) (i + 1)) (by first | (show _ = _ + mAhB (σ 0) d1 d2 i; rw [mAhB_t (by unfold mAh; omega)]) | (show _ = _ + mAhB (σ 0) d1 d2 i; rw [mAhB_f (by unfold mAh; omega)])) ?_
                refine lv_istore (lv' := [(4, .int (iI (sg (fun k => mAhB (σ 0) d1 d2 k) (i + 1)))), (6, .int (iI ((mRm (σ 0) d1 i) - (mRm (σ 0) d1 d2)))), (3, .int (iI (σ 0 (5 + d1) - sg (fun k => mPt (σ 0) d1 k) (i + 1)))), (0, .ref o), (1, .int (iI (↑d1))), (2, .int (iI (↑d2))), (5, .int (iI (↑i)))]) hx hb dX4_share_108 hl (by decide) rfl (fun ls hl => ?_)
                refine z_iinc (y := ↑(i + 1)) (lv' := [(5, .int (iI (↑(i + 1)))), (4, .int (iI (sg (fun k => mAhB (σ 0) d1 d2 k) (i + 1)))), (6, .int (iI ((mRm (σ 0) d1 i) - (mRm (σ 0) d1 d2)))), (3, .int (iI (σ 0 (5 + d1) - sg (fun k => mPt (σ 0) d1 k) (i + 1)))), (0, .ref o), (1, .int (iI (↑d1))), (2, .int (iI (↑d2)))]) hX dX4_share_110 hl (k := 6) rfl (by omega) (by decide) rfl (fun ls hl => ?_)
                refine lv_goto (tgt := 26) hx hb dX4_share_113 (by decide) ?_
                exact ih26 (i + 1) (by omega) (by omega) _ _ _ hP hS (lv_sub hl [4, 5, 6, 3, 1, 0] rfl)
              · skip
                refine lv_iload hx hb dX4_share_96 (lv_at hl 6 rfl) ?_
                refine W.eq (g2 := F0 m 98 ls [.int (iI (↑i)), .int (iI (sg (fun k => mAhB (σ 0) d1 d2 k) i))]) rfl ?_
                refine lv_iload_n hx hb dX4_share_98 rfl (lv_at hl 4 rfl) ?_
                refine z_icmp_ge (tgt := 106) hX (by omega) dX4_share_99 (by decide) (fun c_99 => ?_) (fun c_99 => ?_)
                · skip
                  refine z_iconst hX dX4_share_106 ?_
                  refine z_iadd hX dX4_share_107 ?_
                  refine z_top (y := sg (fun k => mAhB (σ 0) d1 d2 k) (i + 1)) (by first | (show _ = _ + mAhB (σ 0) d1 d2 i; rw [mAhB_t (by unfold mAh; omega)]) | (show _ = _ + mAhB (σ 0) d1 d2 i; rw [mAhB_f (by unfold mAh; omega)])) ?_
                  refine lv_istore (lv' := [(4, .int (iI (sg (fun k => mAhB (σ 0) d1 d2 k) (i + 1)))), (6, .int (iI ((mRm (σ 0) d1 i) - (mRm (σ 0) d1 d2)))), (3, .int (iI (σ 0 (5 + d1) - sg (fun k => mPt (σ 0) d1 k) (i + 1)))), (0, .ref o), (1, .int (iI (↑d1))), (2, .int (iI (↑d2))), (5, .int (iI (↑i)))]) hx hb dX4_share_108 hl (by decide) rfl (fun ls hl => ?_)
                  refine z_iinc (y := ↑(i + 1)) (lv' := [(5, .int (iI (↑(i + 1)))), (4, .int (iI (sg (fun k => mAhB (σ 0) d1 d2 k) (i + 1)))), (6, .int (iI ((mRm (σ 0) d1 i) - (mRm (σ 0) d1 d2)))), (3, .int (iI (σ 0 (5 + d1) - sg (fun k => mPt (σ 0) d1 k) (i + 1)))), (0, .ref o), (1, .int (iI (↑d1))), (2, .int (iI (↑d2)))]) hX dX4_share_110 hl (k := 6) rfl (by omega) (by decide) rfl (fun ls hl => ?_)
                  refine lv_goto (tgt := 26) hx hb dX4_share_113 (by decide) ?_
                  exact ih26 (i + 1) (by omega) (by omega) _ _ _ hP hS (lv_sub hl [4, 5, 6, 3, 1, 0] rfl)
                · skip
                  refine z_iconst hX dX4_share_102 ?_
                  refine lv_goto (tgt := 107) hx hb dX4_share_103 (by decide) ?_
                  refine z_iadd hX dX4_share_107 ?_
                  refine z_top (y := sg (fun k => mAhB (σ 0) d1 d2 k) (i + 1)) (by first | (show _ = _ + mAhB (σ 0) d1 d2 i; rw [mAhB_t (by unfold mAh; omega)]) | (show _ = _ + mAhB (σ 0) d1 d2 i; rw [mAhB_f (by unfold mAh; omega)])) ?_
                  refine W.eq (g2 := F0 m 108 ls [.int (iI (sg (fun k => mAhB (σ 0) d1 d2 k) (i + 1)))]) rfl ?_
                  refine lv_istore (lv' := [(4, .int (iI (sg (fun k => mAhB (σ 0) d1 d2 k) (i + 1)))), (6, .int (iI ((mRm (σ 0) d1 i) - (mRm (σ 0) d1 d2)))), (3, .int (iI (σ 0 (5 + d1) - sg (fun k => mPt (σ 0) d1 k) (i + 1)))), (0, .ref o), (1, .int (iI (↑d1))), (2, .int (iI (↑d2))), (5, .int (iI (↑i)))]) hx hb dX4_share_108 hl (by decide) rfl (fun ls hl => ?_)
                  refine z_iinc (y := ↑(i + 1)) (lv' := [(5, .int (iI (↑(i + 1)))), (4, .int (iI (sg (fun k => mAhB (σ 0) d1 d2 k) (i + 1)))), (6, .int (iI ((mRm (σ 0) d1 i) - (mRm (σ 0) d1 d2)))), (3, .int (iI (σ 0 (5 + d1) - sg (fun k => mPt (σ 0) d1 k) (i + 1)))), (0, .ref o), (1, .int (iI (↑d1))), (2, .int (iI (↑d2)))]) hX dX4_share_110 hl (k := 6) rfl (by omega) (by decide) rfl (fun ls hl => ?_)
                  refine lv_goto (tgt := 26) hx hb dX4_share_113 (by decide) ?_
                  exact ih26 (i + 1) (by omega) (by omega) _ _ _ hP hS (lv_sub hl [4, 5, 6, 3, 1, 0] rfl)
    exact L26 (8) (0) (by omega) (by omega) _ _ _ hP hS (lv_sub hl [3, 4, 5, 2, 1, 0] rfl)
  · skip
    refine z_iconst hX dX4_share_9 ?_
    exact w_iret hX hP hS (⟨by unfold mSh; rw [if_pos (by omega)], rfl⟩) dX4_share_10
set_option maxHeartbeats 4000000 in
theorem c_falls {l : Launch} {D : va_G} {Z : zZ} {o : Nat} {ad : Nat → Nat} {cA : Nat → ClassId} (hZ : zOk Z) (σ : zT) (sz : Nat) (d1 : Nat) (E1 : Int) (h1 : E1 = d1 ∧ d1 < 7) (hob : 0 < mOb (σ 0) d1) (B : Int) (hgo : gOk (σ 0) B) (hB : B ≤ 2000000) : MI l D Z o ad cA yX4_falls (ws_ yX4_falls cX4_falls 4 (some .int)) { frames := 4, cells := 0, slots := 0, locals := 93 } [.ref o, .int (iI (E1))] sz (σ) (fI (mOb (σ 0) d1 - σ 0 (5 + d1)) (sA (sA σ 16 (fil (mSh (σ 0) d1) (σ 16) 7)) 0 (sFall (σ 0) d1))) := by
  obtain ⟨rfl, h1⟩ := h1
  refine w_met (cc := cX4_falls) (maxL := 4) (ret := some .int) (own := RX4) (by decide) rfl rfl mW_ok (Nat.le_of_ble_eq_true rfl) ?_
  intro p e s m below meth c hX hsz hK hP hD hA hE hS hR ls hl
  have hx := hX.1
  have hb := hX.2.1
  have hl : lv_has ls 4 [(0, .ref o), (1, .int (iI (↑d1)))] := hl
  refine lv_aload_n hx hb dX4_falls_0 rfl (lv_at hl 0 rfl) ?_
  refine lv_iload_n hx hb dX4_falls_1 rfl (lv_at hl 1 rfl) ?_
  refine m_calli (As := [.int (iI (↑d1))]) (rest := []) hZ hX hK hD hA hE hP hS (c_obliged hZ (σ) _ d1 _ ⟨rfl, by omega⟩) (cwV 1 hX.hts (lw_V q2089 q2091 qs54 q89 q2092) rfl rfl rfl (by decide +kernel) ⟨Nat.le_of_ble_eq_true rfl, Nat.le_of_ble_eq_true rfl⟩) rfl hl.1 (lv_room (Nat.le_of_ble_eq_true rfl)) dX4_falls_2 ⟨Nat.le_refl _, Nat.le_refl _⟩ rfl (fun  H locs hP hS => ?_)
  refine lv_aload_n hx hb dX4_falls_5 rfl (lv_at hl 0 rfl) ?_
  refine m_get hX hK hP 0 (by decide) q1908 rfl dX4_falls_6 ?_
  refine z_iconst hX dX4_falls_9 ?_
  refine lv_iload_n hx hb dX4_falls_10 rfl (lv_at hl 1 rfl) ?_
  refine z_iadd hX dX4_falls_11 ?_
  refine m_ld hX hK hP mW_e0 (5 + d1) (by omega) (by decide) dX4_falls_12 ?_
  refine W.eq (g2 := F0 m 13 ls [.int (iI (σ 0 (5 + d1))), .int (iI (mOb (σ 0) d1))]) rfl ?_
  refine z_isub hX dX4_falls_13 ?_
  refine lv_istore_n (lv' := [(2, .int (iI ((mOb (σ 0) d1) - (σ 0 (5 + d1))))), (0, .ref o), (1, .int (iI (↑d1)))]) hx hb dX4_falls_14 rfl hl (by decide) rfl (fun ls hl => ?_)
  refine z_iconst hX dX4_falls_15 ?_
  refine z_top (y := ↑(0 : Nat)) (rfl) ?_
  refine lv_istore_n (lv' := [(3, .int (iI (↑(0 : Nat)))), (2, .int (iI ((mOb (σ 0) d1) - (σ 0 (5 + d1))))), (0, .ref o), (1, .int (iI (↑d1)))]) hx hb dX4_falls_16 rfl hl (by decide) rfl (fun ls hl => ?_)
  have L17 : ∀ (n : Nat) (i : Nat), (7 < i + n) → (i ≤ 7) → ∀ (H : Heap) (locs : List Loc) (ls : Array Slot), va_P D vwCl (mW o ad cA (sA σ 16 (fil (mSh (σ 0) d1) (σ 16) i))) H → va_S (wA (mW o ad cA) sz) s.heap H locs → lv_has ls 4 [(0, .ref o), (1, .int (iI (↑d1))), (2, .int (iI (mOb (σ 0) d1 - σ 0 (5 + d1)))), (3, .int (iI (↑i)))] → W p l e (headSpec (ws_ yX4_falls cX4_falls 4 (some .int)) { frames := 4, cells := 0, slots := 0, locals := 93 }).room s m ([.ref o, .int (iI (↑d1))] : List Value).toArray below meth c H locs 0 0 (MQ below (wQi D vwCl (mW o ad cA) (fI (mOb (σ 0) d1 - σ 0 (5 + d1)) (sA (sA σ 16 (fil (mSh (σ 0) d1) (σ 16) 7)) 0 (sFall (σ 0) d1))) sz) ([.ref o, .int (iI (↑d1))] : List Value).toArray s 0 0 (wA (mW o ad cA) sz)) (F0 m 17 ls []) := by
    intro n
    induction n with
    | zero =>
      intro i hf hi H locs ls hP hS hl
      exact absurd hf (by omega)
    | succ n ih17 =>
      intro i hf hi H locs ls hP hS hl
      refine lv_iload_n hx hb dX4_falls_17 rfl (lv_at hl 3 rfl) ?_
      refine z_bipush hX dX4_falls_18 (by decide) ?_
      refine z_icmp_ge (tgt := 41) hX (by omega) dX4_falls_20 (by decide) (fun c_20 => ?_) (fun c_20 => ?_)
      · skip
        obtain rfl : i = 7 := by omega
        refine z_iconst hX dX4_falls_41 ?_
        refine z_top (y := ↑(0 : Nat)) (rfl) ?_
        refine lv_istore_n (lv' := [(3, .int (iI (↑(0 : Nat)))), (0, .ref o), (1, .int (iI (↑d1))), (2, .int (iI (mOb (σ 0) d1 - σ 0 (5 + d1))))]) hx hb dX4_falls_42 rfl hl (by decide) rfl (fun ls hl => ?_)
        have L43 : ∀ (n : Nat) (i : Nat), (7 < i + n) → (i ≤ 7) → ∀ (H : Heap) (locs : List Loc) (ls : Array Slot), va_P D vwCl (mW o ad cA (sA (sA σ 16 (fil (mSh (σ 0) d1) (σ 16) 7)) 0 (flF (σ 0) d1 i))) H → va_S (wA (mW o ad cA) sz) s.heap H locs → lv_has ls 4 [(0, .ref o), (1, .int (iI (↑d1))), (2, .int (iI (mOb (σ 0) d1 - σ 0 (5 + d1)))), (3, .int (iI (↑i)))] → W p l e (headSpec (ws_ yX4_falls cX4_falls 4 (some .int)) { frames := 4, cells := 0, slots := 0, locals := 93 }).room s m ([.ref o, .int (iI (↑d1))] : List Value).toArray below meth c H locs 0 0 (MQ below (wQi D vwCl (mW o ad cA) (fI (mOb (σ 0) d1 - σ 0 (5 + d1)) (sA (sA σ 16 (fil (mSh (σ 0) d1) (σ 16) 7)) 0 (sFall (σ 0) d1))) sz) ([.ref o, .int (iI (↑d1))] : List Value).toArray s 0 0 (wA (mW o ad cA) sz)) (F0 m 43 ls []) := by
          intro n
          induction n with
          | zero =>
            intro i hf hi H locs ls hP hS hl
            exact absurd hf (by omega)
          | succ n ih43 =>
            intro i hf hi H locs ls hP hS hl
            refine lv_iload_n hx hb dX4_falls_43 rfl (lv_at hl 3 rfl) ?_
            refine W.eq (g2 := F0 m 44 ls [.int (iI (↑i))]) rfl ?_
            refine z_bipush hX dX4_falls_44 (by decide) ?_
            refine z_icmp_ge (tgt := 87) hX (by omega) dX4_falls_46 (by decide) (fun c_46 => ?_) (fun c_46 => ?_)
            · skip
              obtain rfl : i = 7 := by omega
              refine lv_aload_n hx hb dX4_falls_87 rfl (lv_at hl 0 rfl) ?_
              refine m_get hX hK hP 0 (by decide) q1908 rfl dX4_falls_88 ?_
              refine z_iconst hX dX4_falls_91 ?_
              refine lv_iload_n hx hb dX4_falls_92 rfl (lv_at hl 1 rfl) ?_
              refine z_iadd hX dX4_falls_93 ?_
              refine z_iconst hX dX4_falls_94 ?_
              refine m_st hX hK hD hP hS mW_e0 (5 + d1) mW_s0 (by omega) (by decide) dX4_falls_95 (fun H locs hP hS => ?_)
              rw [show uA (sA (sA σ 16 (fil (mSh (σ 0) d1) (σ 16) 7)) 0 (flF (σ 0) d1 7)) 0 (5 + d1) 0 = sA (sA σ 16 (fil (mSh (σ 0) d1) (σ 16) 7)) 0 (gU (flF (σ 0) d1 7) (5 + d1) 0) from uA_in] at hP
              refine lv_aload_n hx hb dX4_falls_96 rfl (lv_at hl 0 rfl) ?_
              refine W.eq (g2 := F0 m 97 ls [.ref o]) rfl ?_
              refine m_get hX hK hP 0 (by decide) q1908 rfl dX4_falls_97 ?_
              refine z_iconst hX dX4_falls_100 ?_
              refine lv_dup2_11 hx hb dX4_falls_101 rfl rfl ?_
              refine m_ld hX hK hP mW_e0 3 (by decide) (by decide) dX4_falls_102 ?_
              refine z_top (y := (gU (flF (σ 0) d1 7) (5 + d1) 0) 3) (by rw [sA_j]) ?_
              refine lv_iload_n hx hb dX4_falls_103 rfl (lv_at hl 2 rfl) ?_
              refine z_iadd hX dX4_falls_104 ?_
              refine m_st hX hK hD hP hS mW_e0 3 mW_s0 (by decide) (by decide) dX4_falls_105 (fun H locs hP hS => ?_)
              rw [show uA (sA (sA σ 16 (fil (mSh (σ 0) d1) (σ 16) 7)) 0 (gU (flF (σ 0) d1 7) (5 + d1) 0)) 0 3 (((gU (flF (σ 0) d1 7) (5 + d1) 0) 3) + (mOb (σ 0) d1 - σ 0 (5 + d1))) = sA (sA σ 16 (fil (mSh (σ 0) d1) (σ 16) 7)) 0 (gU (gU (flF (σ 0) d1 7) (5 + d1) 0) 3 (((gU (flF (σ 0) d1 7) (5 + d1) 0) 3) + (mOb (σ 0) d1 - σ 0 (5 + d1)))) from uA_in] at hP
              refine lv_aload_n hx hb dX4_falls_106 rfl (lv_at hl 0 rfl) ?_
              refine m_get hX hK hP 0 (by decide) q1908 rfl dX4_falls_107 ?_
              refine z_iconst hX dX4_falls_110 ?_
              refine W.eq (g2 := F0 m 111 ls [.int (iI (4)), .ref (ad 0)]) rfl ?_
              refine lv_dup2_11 hx hb dX4_falls_111 rfl rfl ?_
              refine m_ld hX hK hP mW_e0 4 (by decide) (by decide) dX4_falls_112 ?_
              refine z_top (y := (gU (gU (flF (σ 0) d1 7) (5 + d1) 0) 3 (((gU (flF (σ 0) d1 7) (5 + d1) 0) 3) + (mOb (σ 0) d1 - σ 0 (5 + d1)))) 4) (by rw [sA_j]) ?_
              refine z_iconst hX dX4_falls_113 ?_
              refine z_iadd hX dX4_falls_114 ?_
              refine m_st hX hK hD hP hS mW_e0 4 mW_s0 (by decide) (by decide) dX4_falls_115 (fun H locs hP hS => ?_)
              rw [show uA (sA (sA σ 16 (fil (mSh (σ 0) d1) (σ 16) 7)) 0 (gU (gU (flF (σ 0) d1 7) (5 + d1) 0) 3 (((gU (flF (σ 0) d1 7) (5 + d1) 0) 3) + (mOb (σ 0) d1 - σ 0 (5 + d1))))) 0 4 (((gU (gU (flF (σ 0) d1 7) (5 + d1) 0) 3 (((gU (flF (σ 0) d1 7) (5 + d1) 0) 3) + (mOb (σ 0) d1 - σ 0 (5 + d1)))) 4) + 1) = sA (sA σ 16 (fil (mSh (σ 0) d1) (σ 16) 7)) 0 (gU (gU (gU (flF (σ 0) d1 7) (5 + d1) 0) 3 (((gU (flF (σ 0) d1 7) (5 + d1) 0) 3) + (mOb (σ 0) d1 - σ 0 (5 + d1)))) 4 (((gU (gU (flF (σ 0) d1 7) (5 + d1) 0) 3 (((gU (flF (σ 0) d1 7) (5 + d1) 0) 3) + (mOb (σ 0) d1 - σ 0 (5 + d1)))) 4) + 1)) from uA_in] at hP
              refine lv_iload_n hx hb dX4_falls_116 rfl (lv_at hl 2 rfl) ?_
              exact w_iret hX hP hS (⟨rfl, rfl⟩) dX4_falls_117
            · skip
              refine lv_aload_n hx hb dX4_falls_49 rfl (lv_at hl 0 rfl) ?_
              refine m_get hX hK hP 0 (by decide) q1908 rfl dX4_falls_50 ?_
              refine z_iconst hX dX4_falls_53 ?_
              refine W.eq (g2 := F0 m 54 ls [.int (iI (5)), .ref (ad 0)]) rfl ?_
              refine lv_iload_n hx hb dX4_falls_54 rfl (lv_at hl 3 rfl) ?_
              refine z_iadd hX dX4_falls_55 ?_
              refine lv_dup2_11 hx hb dX4_falls_56 rfl rfl ?_
              refine m_ld hX hK hP mW_e0 (5 + i) (by omega) (by decide) dX4_falls_57 ?_
              refine z_top (y := (flF (σ 0) d1 i) (5 + i)) (by rw [sA_j]) ?_
              refine lv_aload_n hx hb dX4_falls_58 rfl (lv_at hl 0 rfl) ?_
              refine m_get hX hK hP 16 (by decide) q1924 rfl dX4_falls_59 ?_
              refine lv_iload_n hx hb dX4_falls_62 rfl (lv_at hl 3 rfl) ?_
              refine m_ld hX hK hP mW_e16 i (⟨rfl, by omega⟩) (by decide) dX4_falls_63 ?_
              refine z_top (y := mSh (σ 0) d1 i) (by rw [sA_i (by decide), sA_j, fil_r (by omega)]) ?_
              refine z_iadd hX dX4_falls_64 ?_
              refine m_st hX hK hD hP hS mW_e0 (5 + i) mW_s0 (by omega) (by decide) dX4_falls_65 (fun H locs hP hS => ?_)
              rw [show uA (sA (sA σ 16 (fil (mSh (σ 0) d1) (σ 16) 7)) 0 (flF (σ 0) d1 i)) 0 (5 + i) (((flF (σ 0) d1 i) (5 + i)) + (mSh (σ 0) d1 i)) = sA (sA σ 16 (fil (mSh (σ 0) d1) (σ 16) 7)) 0 (gU (flF (σ 0) d1 i) (5 + i) (((flF (σ 0) d1 i) (5 + i)) + (mSh (σ 0) d1 i))) from uA_in] at hP
              refine W.eq (g2 := F0 m 66 ls []) rfl ?_
              refine lv_aload_n hx hb dX4_falls_66 rfl (lv_at hl 0 rfl) ?_
              refine m_get hX hK hP 0 (by decide) q1908 rfl dX4_falls_67 ?_
              refine z_bipush hX dX4_falls_70 (by decide) ?_
              refine z_bipush hX dX4_falls_72 (by decide) ?_
              refine lv_iload_n hx hb dX4_falls_74 rfl (lv_at hl 1 rfl) ?_
              refine z_imul hX dX4_falls_75 ?_
              refine z_iadd hX dX4_falls_76 ?_
              refine lv_iload_n hx hb dX4_falls_77 rfl (lv_at hl 3 rfl) ?_
              refine z_iadd hX dX4_falls_78 ?_
              refine z_iconst hX dX4_falls_79 ?_
              refine W.eq (g2 := F0 m 80 ls [.int (iI (0)), .int (iI ((12 + (7 * (↑d1))) + (↑i))), .ref (ad 0)]) rfl ?_
              refine m_st hX hK hD hP hS mW_e0 (12 + 7 * d1 + i) mW_s0 (by omega) (by decide) dX4_falls_80 (fun H locs hP hS => ?_)
              rw [show uA (sA (sA σ 16 (fil (mSh (σ 0) d1) (σ 16) 7)) 0 (gU (flF (σ 0) d1 i) (5 + i) (((flF (σ 0) d1 i) (5 + i)) + (mSh (σ 0) d1 i)))) 0 (12 + 7 * d1 + i) 0 = sA (sA σ 16 (fil (mSh (σ 0) d1) (σ 16) 7)) 0 (gU (gU (flF (σ 0) d1 i) (5 + i) (((flF (σ 0) d1 i) (5 + i)) + (mSh (σ 0) d1 i))) (12 + 7 * d1 + i) 0) from uA_in] at hP
              refine z_iinc (y := ↑(i + 1)) (lv' := [(3, .int (iI (↑(i + 1)))), (0, .ref o), (1, .int (iI (↑d1))), (2, .int (iI (mOb (σ 0) d1 - σ 0 (5 + d1))))]) hX dX4_falls_81 hl (k := 3) rfl (by omega) (by decide) rfl (fun ls hl => ?_)
              refine lv_goto (tgt := 43) hx hb dX4_falls_84 (by decide) ?_
              exact ih43 (i + 1) (by omega) (by omega) _ _ _ hP hS (lv_sub hl [1, 2, 3, 0] rfl)
        rw [show sA σ 16 (fil (mSh (σ 0) d1) (σ 16) 7) = sA (sA σ 16 (fil (mSh (σ 0) d1) (σ 16) 7)) 0 (flF (σ 0) d1 0) from by rw [show flF (σ 0) d1 0 = (sA σ 16 (fil (mSh (σ 0) d1) (σ 16) 7)) 0 from by rw [sA_i (by decide)]; rfl, sA_self]] at hP
        exact L43 (8) (0) (by omega) (by omega) _ _ _ hP hS (lv_sub hl [1, 2, 3, 0] rfl)
      · skip
        refine lv_aload_n hx hb dX4_falls_23 rfl (lv_at hl 0 rfl) ?_
        refine m_get hX hK hP 16 (by decide) q1924 rfl dX4_falls_24 ?_
        refine lv_iload_n hx hb dX4_falls_27 rfl (lv_at hl 3 rfl) ?_
        refine lv_aload_n hx hb dX4_falls_28 rfl (lv_at hl 0 rfl) ?_
        refine lv_iload_n hx hb dX4_falls_29 rfl (lv_at hl 1 rfl) ?_
        refine lv_iload_n hx hb dX4_falls_30 rfl (lv_at hl 3 rfl) ?_
        refine m_calli (As := [.int (iI (↑d1)), .int (iI (↑i))]) (rest := [.int (iI (↑i)), .ref (ad 16)]) hZ hX hK hD hA hE hP hS (c_share hZ (sA σ 16 (fil (mSh (σ 0) d1) (σ 16) i)) _ d1 i _ _ ⟨rfl, by omega⟩ ⟨rfl, by omega⟩ hob B hgo hB) (cwV 2 hX.hts (lw_V q2101 q2103 qs57 q89 q2104) rfl rfl rfl (by decide +kernel) ⟨Nat.le_of_ble_eq_true rfl, Nat.le_of_ble_eq_true rfl⟩) rfl hl.1 (lv_room (Nat.le_of_ble_eq_true rfl)) dX4_falls_31 ⟨Nat.le_refl _, Nat.le_refl _⟩ rfl (fun  H locs hP hS => ?_)
        refine W.eq (g2 := F0 m 34 ls [.int (iI (mSh (σ 0) d1 i)), .int (iI (↑i)), .ref (ad 16)]) rfl ?_
        refine m_st hX hK hD hP hS mW_e16 i mW_s16 (⟨rfl, by omega⟩) (by decide) dX4_falls_34 (fun H locs hP hS => ?_)
        rw [show uA (sA σ 16 (fil (mSh (σ 0) d1) (σ 16) i)) 16 i (mSh (σ 0) d1 i) = sA σ 16 (fil (mSh (σ 0) d1) (σ 16) (i + 1)) from by rw [uA_in, fil_s]] at hP
        refine z_iinc (y := ↑(i + 1)) (lv' := [(3, .int (iI (↑(i + 1)))), (0, .ref o), (1, .int (iI (↑d1))), (2, .int (iI (mOb (σ 0) d1 - σ 0 (5 + d1))))]) hX dX4_falls_35 hl (k := 3) rfl (by omega) (by decide) rfl (fun ls hl => ?_)
        refine lv_goto (tgt := 17) hx hb dX4_falls_38 (by decide) ?_
        exact ih17 (i + 1) (by omega) (by omega) _ _ _ hP hS (lv_sub hl [1, 2, 3, 0] rfl)
  rw [show σ = sA σ 16 (fil (mSh (σ 0) d1) (σ 16) 0) from by rw [fil_0, sA_self]] at hP
  exact L17 (8) (0) (by omega) (by omega) _ _ _ hP hS (lv_sub hl [2, 3, 1, 0] rfl)
