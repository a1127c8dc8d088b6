/-! shares by counting; a house's shares -/
set_option maxRecDepth 100000
set_option maxHeartbeats 4000000 in
theorem c_X6_byCounting {l : Launch} {D : va_G} {Z : zZ} {cA : Nat → ClassId} (hZ : zOk Z) (hfl : l.stackTraces = false) (hz : ∀ A U H, Z A U H → zT9 A U H) (sz : Nat) {sh pa ra ia : Nat} {B : Int} (g : Nat → Int) (hg : gOk g B) (hB : B ≤ 2000000) (n0 : Nat) (hn : g 0 = n0 ∧ n0 ≤ 7) (p1 : Nat) (hp1 : p1 < 7) (hO : 0 < mOb g p1) (c1 : Nat) (E1 : Int) (h1 : E1 = (c1 : Int) ∧ c1 < n0) : Met l yX6_byCounting (ws_ yX6_byCounting cX6_byCounting 5 (some .int)) { frames := 0, cells := 0, slots := 0, locals := 0 } (wPc D vwCl (tyL cA) Z w0 (shW sh pa ra ia cA g p1 n0) [.ref (sh), .int (iI (E1))] sz zO) (wQi D vwCl w0 (fun r _ => r = iI (mSh g p1 c1)) sz) 0 0 (wA w0 sz) := by
  obtain ⟨rfl, h1⟩ := h1
  refine w_metR (cc := cX6_byCounting) (maxL := 5) (ret := some .int) (own := RX6) (by decide) rfl rfl w0_ok (Nat.le_of_ble_eq_true rfl) ?_
  intro p e s m below meth c hX hsz hK hP hD hA hE hS hR hN ls hl
  have hx := hX.1
  have hb := hX.2.1
  have hz0 := hz _ _ _ hE
  have hl : lv_has ls 5 [(0, .ref sh), (1, .int (iI (↑c1)))] := hl
  have hrm := fun k => mRm_bd (k := k) hO
  have hob := mOb_bd hg hp1
  have hrc := hrm c1
  have hdc := hg.2.2.1 p1 c1 hp1 (by omega)
  have hlc := mLeft_cn hg hp1 hO
  have hc7 := mCn_7 (g := g) (p := p1)
  refine lv_aload_n hx hb dX6_byCounting_0 rfl (lv_at hl 0 rfl) ?_
  refine n_get hX hK (hR _ _ hS) in_X6 0 rfl vw_X6 2 (by decide) q549 rfl dX6_byCounting_1 ?_
  refine lv_iload_n hx hb dX6_byCounting_4 rfl (lv_at hl 1 rfl) ?_
  refine n_zld hX hK (hR _ _ hS) 3 rfl c1 (⟨rfl, by omega⟩) (by omega) dX6_byCounting_5 ?_
  refine z_top (y := bI (0 < g (12 + 7 * p1 + c1))) (tk_r (by omega)) ?_
  refine z_if_neB (tgt := 11) hX dX6_byCounting_6 (by decide) (fun c_6 => ?_) (fun c_6 => ?_)
  · skip
    refine z_iconst hX dX6_byCounting_11 ?_
    refine z_top (y := sg (fun k => mAhB g p1 c1 k) 0) (rfl) ?_
    refine lv_istore_n (lv' := [(2, .int (iI (sg (fun k => mAhB g p1 c1 k) 0))), (0, .ref sh), (1, .int (iI (↑c1)))]) hx hb dX6_byCounting_12 rfl hl (by decide) rfl (fun ls hl => ?_)
    refine z_iconst hX dX6_byCounting_13 ?_
    refine z_top (y := ↑(0 : Nat)) (rfl) ?_
    refine lv_istore_n (lv' := [(3, .int (iI (↑(0 : Nat)))), (2, .int (iI (sg (fun k => mAhB g p1 c1 k) 0))), (0, .ref sh), (1, .int (iI (↑c1)))]) hx hb dX6_byCounting_14 rfl hl (by decide) rfl (fun ls hl => ?_)
    have L15 : ∀ (n : Nat) (i : Nat), (n0 < i + n) → (i ≤ n0) → ∀ (H : Heap) (locs : List Loc) (ls : Array Slot), va_P D vwCl (w0 zO) H → va_S (wA w0 sz) s.heap H locs → lv_has ls 5 [(0, .ref sh), (1, .int (iI (↑c1))), (2, .int (iI (sg (fun k => mAhB g p1 c1 k) i))), (3, .int (iI (↑i)))] → W p l e (headSpec (ws_ yX6_byCounting cX6_byCounting 5 (some .int)) { frames := 0, cells := 0, slots := 0, locals := 0 }).room s m ([.ref sh, .int (iI (↑c1))] : List Value).toArray below meth c H locs 0 0 (MQ below (wQi D vwCl w0 (fun r _ => r = iI (mSh g p1 c1)) sz) ([.ref sh, .int (iI (↑c1))] : List Value).toArray s 0 0 (wA w0 sz)) (F0 m 15 ls []) := by
      intro n
      induction n with
      | zero =>
        intro i hf hi H locs ls hP hS hl
        exact absurd hf (by omega)
      | succ n ih15 =>
        intro i hf hi H locs ls hP hS hl
        refine W.eq (g2 := F0 m 15 ls []) rfl ?_
        refine lv_iload_n hx hb dX6_byCounting_15 rfl (lv_at hl 3 rfl) ?_
        refine lv_aload_n hx hb dX6_byCounting_16 rfl (lv_at hl 0 rfl) ?_
        refine n_get hX hK (hR _ _ hS) in_X6 0 rfl vw_X6 0 (by decide) q547 rfl dX6_byCounting_17 ?_
        refine va_alen hX.1 hX.2.1 hK (hR _ _ hS) 1 0 rfl ty_0 (v := iI ((n0 : Nat) : Int)) rfl dX6_byCounting_20 ?_
        refine z_icmp_ge (tgt := 94) hX (by omega) dX6_byCounting_21 (by decide) (fun c_21 => ?_) (fun c_21 => ?_)
        · skip
          obtain rfl : n0 = i := by omega
          have hrk : sg (fun k => mAhB g p1 c1 k) n0 = mRank g p1 c1 := (sg_cut (f := fun k => mAhB g p1 c1 k) (n := n0) 7 hn.2 (fun k h1 h2 => mAhB_f (fun q9 => by have := q9.1; have := hg.2.2.2.1 p1 k hp1 h2 (Or.inr (Or.inl (by omega))); omega))).symm
          have hrb := mRank_bd (g := g) (p := p1) (c := c1) (i := n0) hn.2
          refine lv_aload_n hx hb dX6_byCounting_94 rfl (lv_at hl 0 rfl) ?_
          refine n_get hX hK (hR _ _ hS) in_X6 0 rfl vw_X6 0 (by decide) q547 rfl dX6_byCounting_95 ?_
          refine lv_iload_n hx hb dX6_byCounting_98 rfl (lv_at hl 1 rfl) ?_
          refine n_ald hX hK (hR _ _ hS) 1 rfl c1 (⟨rfl, by omega⟩) (by omega) dX6_byCounting_99 ?_
          refine z_top (y := mPt g p1 c1) (tk_r (by omega)) ?_
          refine lv_iload_n hx hb dX6_byCounting_100 rfl (lv_at hl 2 rfl) ?_
          refine W.eq (g2 := F0 m 101 ls [.int (iI (sg (fun k => mAhB g p1 c1 k) n0)), .int (iI (mPt g p1 c1))]) rfl ?_
          refine lv_aload_n hx hb dX6_byCounting_101 rfl (lv_at hl 0 rfl) ?_
          refine n_get hX hK (hR _ _ hS) in_X6 0 rfl vw_X6 3 (by decide) q550 rfl dX6_byCounting_102 ?_
          refine z_icmp_ge (tgt := 112) hX (by omega) dX6_byCounting_105 (by decide) (fun c_105 => ?_) (fun c_105 => ?_)
          · skip
            refine z_iconst hX dX6_byCounting_112 ?_
            refine z_iadd hX dX6_byCounting_113 ?_
            exact w_iret hX hP hS (by rw [mSh_h hg hp1 (by omega), bI_f (fun q9 => by have := q9.2; omega)]) dX6_byCounting_114
          · skip
            refine z_iconst hX dX6_byCounting_108 ?_
            refine lv_goto (tgt := 113) hx hb dX6_byCounting_109 (by decide) ?_
            refine z_iadd hX dX6_byCounting_113 ?_
            exact w_iret hX hP hS (by rw [mSh_h hg hp1 (by omega), bI_t ⟨c_6, by omega⟩]) dX6_byCounting_114
        · skip
          have hri := hrm i
          refine W.eq (g2 := F0 m 24 ls []) rfl ?_
          refine lv_aload_n hx hb dX6_byCounting_24 rfl (lv_at hl 0 rfl) ?_
          refine n_get hX hK (hR _ _ hS) in_X6 0 rfl vw_X6 1 (by decide) q548 rfl dX6_byCounting_25 ?_
          refine lv_iload_n hx hb dX6_byCounting_28 rfl (lv_at hl 3 rfl) ?_
          refine n_ald hX hK (hR _ _ hS) 2 rfl i (⟨rfl, by omega⟩) (by omega) dX6_byCounting_29 ?_
          refine z_top (y := mRm g p1 i) (tk_r (by omega)) ?_
          refine lv_aload_n hx hb dX6_byCounting_30 rfl (lv_at hl 0 rfl) ?_
          refine n_get hX hK (hR _ _ hS) in_X6 0 rfl vw_X6 1 (by decide) q548 rfl dX6_byCounting_31 ?_
          refine lv_iload_n hx hb dX6_byCounting_34 rfl (lv_at hl 1 rfl) ?_
          refine n_ald hX hK (hR _ _ hS) 2 rfl c1 (⟨rfl, by omega⟩) (by omega) dX6_byCounting_35 ?_
          refine z_top (y := mRm g p1 c1) (tk_r (by omega)) ?_
          refine z_icmp_gt (tgt := 59) hX (by omega) dX6_byCounting_36 (by decide) (fun c_36 => ?_) (fun c_36 => ?_)
          · skip
            refine z_iconst hX dX6_byCounting_59 ?_
            refine lv_goto (tgt := 64) hx hb dX6_byCounting_60 (by decide) ?_
            refine lv_istore (lv' := [(4, .int (iI (1))), (0, .ref sh), (1, .int (iI (↑c1))), (2, .int (iI (sg (fun k => mAhB g p1 c1 k) i))), (3, .int (iI (↑i)))]) hx hb dX6_byCounting_64 hl (by decide) rfl (fun ls hl => ?_)
            refine lv_iload_n hx hb dX6_byCounting_66 rfl (lv_at hl 3 rfl) ?_
            refine lv_aload_n hx hb dX6_byCounting_67 rfl (lv_at hl 1 rfl) ?_
            refine n_get hX hK (hR _ _ hS) in_X6 0 rfl vw_X6 2 (by decide) q549 rfl dX6_byCounting_68 ?_
            refine lv_iload_n hx hb dX6_byCounting_71 rfl (lv_at hl 4 rfl) ?_
            refine n_zld hX hK (hR _ _ hS) 3 rfl i (⟨rfl, by omega⟩) (by omega) dX6_byCounting_72 ?_
            refine z_top (y := bI (0 < g (12 + 7 * p1 + i))) (tk_r (by omega)) ?_
            refine z_if_eqB (tgt := 85) hX dX6_byCounting_73 (by decide) (fun c_73 => ?_) (fun c_73 => ?_)
            · skip
              refine z_iconst hX dX6_byCounting_85 ?_
              refine z_iadd hX dX6_byCounting_86 ?_
              refine z_top (y := sg (fun k => mAhB g p1 c1 k) (i + 1)) (by rw [sg_succ, mAhB_f (fun q9 => by obtain ⟨q1, q2⟩ := q9; first | exact c_73 q1 | omega)]) ?_
              refine W.eq (g2 := F0 m 87 ls [.int (iI (sg (fun k => mAhB g p1 c1 k) (i + 1)))]) rfl ?_
              refine lv_istore_n (lv' := [(2, .int (iI (sg (fun k => mAhB g p1 c1 k) (i + 1)))), (4, .int (iI (1))), (0, .ref sh), (1, .int (iI (↑c1))), (3, .int (iI (↑i)))]) hx hb dX6_byCounting_87 rfl hl (by decide) rfl (fun ls hl => ?_)
              refine z_iinc (y := ↑(i + 1)) (lv' := [(3, .int (iI (↑(i + 1)))), (2, .int (iI (sg (fun k => mAhB g p1 c1 k) (i + 1)))), (4, .int (iI (1))), (0, .ref sh), (1, .int (iI (↑c1)))]) hX dX6_byCounting_88 hl (k := 4) rfl (by omega) (by decide) rfl (fun ls hl => ?_)
              refine lv_goto (tgt := 15) hx hb dX6_byCounting_91 (by decide) ?_
              exact ih15 (i + 1) (by omega) (by omega) _ _ _ hP hS (lv_sub hl [3, 4, 1, 0] rfl)
            · skip
              refine lv_iload hx hb dX6_byCounting_76 (lv_at hl 0 rfl) ?_
              refine z_if_eq (tgt := 85) hX (by decide) dX6_byCounting_78 (by decide) (fun h9 => absurd h9 (by decide)) (fun h9 => ?_)
              refine z_iconst hX dX6_byCounting_81 ?_
              refine lv_goto (tgt := 86) hx hb dX6_byCounting_82 (by decide) ?_
              refine z_iadd hX dX6_byCounting_86 ?_
              refine z_top (y := sg (fun k => mAhB g p1 c1 k) (i + 1)) (by rw [sg_succ, mAhB_t ⟨c_73, by omega⟩]) ?_
              refine lv_istore_n (lv' := [(2, .int (iI (sg (fun k => mAhB g p1 c1 k) (i + 1)))), (4, .int (iI (1))), (0, .ref sh), (1, .int (iI (↑c1))), (3, .int (iI (↑i)))]) hx hb dX6_byCounting_87 rfl hl (by decide) rfl (fun ls hl => ?_)
              refine z_iinc (y := ↑(i + 1)) (lv' := [(3, .int (iI (↑(i + 1)))), (2, .int (iI (sg (fun k => mAhB g p1 c1 k) (i + 1)))), (4, .int (iI (1))), (0, .ref sh), (1, .int (iI (↑c1)))]) hX dX6_byCounting_88 hl (k := 4) rfl (by omega) (by decide) rfl (fun ls hl => ?_)
              refine lv_goto (tgt := 15) hx hb dX6_byCounting_91 (by decide) ?_
              exact ih15 (i + 1) (by omega) (by omega) _ _ _ hP hS (lv_sub hl [3, 4, 1, 0] rfl)
          · skip
            refine lv_aload_n hx hb dX6_byCounting_39 rfl (lv_at hl 0 rfl) ?_
            refine n_get hX hK (hR _ _ hS) in_X6 0 rfl vw_X6 1 (by decide) q548 rfl dX6_byCounting_40 ?_
            refine lv_iload_n hx hb dX6_byCounting_43 rfl (lv_at hl 3 rfl) ?_
            refine n_ald hX hK (hR _ _ hS) 2 rfl i (⟨rfl, by omega⟩) (by omega) dX6_byCounting_44 ?_
            refine z_top (y := mRm g p1 i) (tk_r (by omega)) ?_
            refine lv_aload_n hx hb dX6_byCounting_45 rfl (lv_at hl 0 rfl) ?_
            refine n_get hX hK (hR _ _ hS) in_X6 0 rfl vw_X6 1 (by decide) q548 rfl dX6_byCounting_46 ?_
            refine lv_iload_n hx hb dX6_byCounting_49 rfl (lv_at hl 1 rfl) ?_
            refine n_ald hX hK (hR _ _ hS) 2 rfl c1 (⟨rfl, by omega⟩) (by omega) dX6_byCounting_50 ?_
            refine z_top (y := mRm g p1 c1) (tk_r (by omega)) ?_
            refine z_icmp_ne (tgt := 63) hX (by omega) dX6_byCounting_51 (by decide) (fun c_51 => ?_) (fun c_51 => ?_)
            · skip
              refine W.eq (g2 := F0 m 63 ls []) rfl ?_
              refine z_iconst hX dX6_byCounting_63 ?_
              refine lv_istore (lv' := [(4, .int (iI (0))), (0, .ref sh), (1, .int (iI (↑c1))), (2, .int (iI (sg (fun k => mAhB g p1 c1 k) i))), (3, .int (iI (↑i)))]) hx hb dX6_byCounting_64 hl (by decide) rfl (fun ls hl => ?_)
              refine lv_iload_n hx hb dX6_byCounting_66 rfl (lv_at hl 3 rfl) ?_
              refine lv_aload_n hx hb dX6_byCounting_67 rfl (lv_at hl 1 rfl) ?_
              refine n_get hX hK (hR _ _ hS) in_X6 0 rfl vw_X6 2 (by decide) q549 rfl dX6_byCounting_68 ?_
              refine lv_iload_n hx hb dX6_byCounting_71 rfl (lv_at hl 4 rfl) ?_
              refine n_zld hX hK (hR _ _ hS) 3 rfl i (⟨rfl, by omega⟩) (by omega) dX6_byCounting_72 ?_
              refine z_top (y := bI (0 < g (12 + 7 * p1 + i))) (tk_r (by omega)) ?_
              refine z_if_eqB (tgt := 85) hX dX6_byCounting_73 (by decide) (fun c_73 => ?_) (fun c_73 => ?_)
              · skip
                refine z_iconst hX dX6_byCounting_85 ?_
                refine z_iadd hX dX6_byCounting_86 ?_
                refine z_top (y := sg (fun k => mAhB g p1 c1 k) (i + 1)) (by rw [sg_succ, mAhB_f (fun q9 => by obtain ⟨q1, q2⟩ := q9; first | exact c_73 q1 | omega)]) ?_
                refine W.eq (g2 := F0 m 87 ls [.int (iI (sg (fun k => mAhB g p1 c1 k) (i + 1)))]) rfl ?_
                refine lv_istore_n (lv' := [(2, .int (iI (sg (fun k => mAhB g p1 c1 k) (i + 1)))), (4, .int (iI (0))), (0, .ref sh), (1, .int (iI (↑c1))), (3, .int (iI (↑i)))]) hx hb dX6_byCounting_87 rfl hl (by decide) rfl (fun ls hl => ?_)
                refine z_iinc (y := ↑(i + 1)) (lv' := [(3, .int (iI (↑(i + 1)))), (2, .int (iI (sg (fun k => mAhB g p1 c1 k) (i + 1)))), (4, .int (iI (0))), (0, .ref sh), (1, .int (iI (↑c1)))]) hX dX6_byCounting_88 hl (k := 4) rfl (by omega) (by decide) rfl (fun ls hl => ?_)
                refine lv_goto (tgt := 15) hx hb dX6_byCounting_91 (by decide) ?_
                exact ih15 (i + 1) (by omega) (by omega) _ _ _ hP hS (lv_sub hl [3, 4, 1, 0] rfl)
              · skip
                refine lv_iload hx hb dX6_byCounting_76 (lv_at hl 0 rfl) ?_
                refine z_if_eq (tgt := 85) hX (by decide) dX6_byCounting_78 (by decide) (fun h9 => ?_) (fun h9 => absurd h9 (by decide))
                refine z_iconst hX dX6_byCounting_85 ?_
                refine z_iadd hX dX6_byCounting_86 ?_
                refine z_top (y := sg (fun k => mAhB g p1 c1 k) (i + 1)) (by rw [sg_succ, mAhB_f (fun q9 => by obtain ⟨q1, q2⟩ := q9; first | exact c_73 q1 | omega)]) ?_
                refine lv_istore_n (lv' := [(2, .int (iI (sg (fun k => mAhB g p1 c1 k) (i + 1)))), (4, .int (iI (0))), (0, .ref sh), (1, .int (iI (↑c1))), (3, .int (iI (↑i)))]) hx hb dX6_byCounting_87 rfl hl (by decide) rfl (fun ls hl => ?_)
                refine z_iinc (y := ↑(i + 1)) (lv' := [(3, .int (iI (↑(i + 1)))), (2, .int (iI (sg (fun k => mAhB g p1 c1 k) (i + 1)))), (4, .int (iI (0))), (0, .ref sh), (1, .int (iI (↑c1)))]) hX dX6_byCounting_88 hl (k := 4) rfl (by omega) (by decide) rfl (fun ls hl => ?_)
                refine lv_goto (tgt := 15) hx hb dX6_byCounting_91 (by decide) ?_
                exact ih15 (i + 1) (by omega) (by omega) _ _ _ hP hS (lv_sub hl [3, 4, 1, 0] rfl)
            · skip
              refine W.eq (g2 := F0 m 54 ls []) rfl ?_
              refine lv_iload_n hx hb dX6_byCounting_54 rfl (lv_at hl 3 rfl) ?_
              refine lv_iload_n hx hb dX6_byCounting_55 rfl (lv_at hl 1 rfl) ?_
              refine z_icmp_ge (tgt := 63) hX (by omega) dX6_byCounting_56 (by decide) (fun c_56 => ?_) (fun c_56 => ?_)
              · skip
                refine z_iconst hX dX6_byCounting_63 ?_
                refine lv_istore (lv' := [(4, .int (iI (0))), (0, .ref sh), (1, .int (iI (↑c1))), (2, .int (iI (sg (fun k => mAhB g p1 c1 k) i))), (3, .int (iI (↑i)))]) hx hb dX6_byCounting_64 hl (by decide) rfl (fun ls hl => ?_)
                refine lv_iload_n hx hb dX6_byCounting_66 rfl (lv_at hl 3 rfl) ?_
                refine lv_aload_n hx hb dX6_byCounting_67 rfl (lv_at hl 1 rfl) ?_
                refine n_get hX hK (hR _ _ hS) in_X6 0 rfl vw_X6 2 (by decide) q549 rfl dX6_byCounting_68 ?_
                refine lv_iload_n hx hb dX6_byCounting_71 rfl (lv_at hl 4 rfl) ?_
                refine n_zld hX hK (hR _ _ hS) 3 rfl i (⟨rfl, by omega⟩) (by omega) dX6_byCounting_72 ?_
                refine z_top (y := bI (0 < g (12 + 7 * p1 + i))) (tk_r (by omega)) ?_
                refine W.eq (g2 := F0 m 73 ls [.int (iI (bI (0 < g (12 + 7 * p1 + i)))), .int (iI (sg (fun k => mAhB g p1 c1 k) i))]) rfl ?_
                refine z_if_eqB (tgt := 85) hX dX6_byCounting_73 (by decide) (fun c_73 => ?_) (fun c_73 => ?_)
                · skip
                  refine z_iconst hX dX6_byCounting_85 ?_
                  refine z_iadd hX dX6_byCounting_86 ?_
                  refine z_top (y := sg (fun k => mAhB g p1 c1 k) (i + 1)) (by rw [sg_succ, mAhB_f (fun q9 => by obtain ⟨q1, q2⟩ := q9; first | exact c_73 q1 | omega)]) ?_
                  refine lv_istore_n (lv' := [(2, .int (iI (sg (fun k => mAhB g p1 c1 k) (i + 1)))), (4, .int (iI (0))), (0, .ref sh), (1, .int (iI (↑c1))), (3, .int (iI (↑i)))]) hx hb dX6_byCounting_87 rfl hl (by decide) rfl (fun ls hl => ?_)
                  refine z_iinc (y := ↑(i + 1)) (lv' := [(3, .int (iI (↑(i + 1)))), (2, .int (iI (sg (fun k => mAhB g p1 c1 k) (i + 1)))), (4, .int (iI (0))), (0, .ref sh), (1, .int (iI (↑c1)))]) hX dX6_byCounting_88 hl (k := 4) rfl (by omega) (by decide) rfl (fun ls hl => ?_)
                  refine lv_goto (tgt := 15) hx hb dX6_byCounting_91 (by decide) ?_
                  exact ih15 (i + 1) (by omega) (by omega) _ _ _ hP hS (lv_sub hl [3, 4, 1, 0] rfl)
                · skip
                  refine lv_iload hx hb dX6_byCounting_76 (lv_at hl 0 rfl) ?_
                  refine z_if_eq (tgt := 85) hX (by decide) dX6_byCounting_78 (by decide) (fun h9 => ?_) (fun h9 => absurd h9 (by decide))
                  refine z_iconst hX dX6_byCounting_85 ?_
                  refine z_iadd hX dX6_byCounting_86 ?_
                  refine z_top (y := sg (fun k => mAhB g p1 c1 k) (i + 1)) (by rw [sg_succ, mAhB_f (fun q9 => by obtain ⟨q1, q2⟩ := q9; first | exact c_73 q1 | omega)]) ?_
                  refine W.eq (g2 := F0 m 87 ls [.int (iI (sg (fun k => mAhB g p1 c1 k) (i + 1)))]) rfl ?_
                  refine lv_istore_n (lv' := [(2, .int (iI (sg (fun k => mAhB g p1 c1 k) (i + 1)))), (4, .int (iI (0))), (0, .ref sh), (1, .int (iI (↑c1))), (3, .int (iI (↑i)))]) hx hb dX6_byCounting_87 rfl hl (by decide) rfl (fun ls hl => ?_)
                  refine z_iinc (y := ↑(i + 1)) (lv' := [(3, .int (iI (↑(i + 1)))), (2, .int (iI (sg (fun k => mAhB g p1 c1 k) (i + 1)))), (4, .int (iI (0))), (0, .ref sh), (1, .int (iI (↑c1)))]) hX dX6_byCounting_88 hl (k := 4) rfl (by omega) (by decide) rfl (fun ls hl => ?_)
                  refine lv_goto (tgt := 15) hx hb dX6_byCounting_91 (by decide) ?_
                  exact ih15 (i + 1) (by omega) (by omega) _ _ _ hP hS (lv_sub hl [3, 4, 1, 0] rfl)
              · skip
                refine z_iconst hX dX6_byCounting_59 ?_
                refine lv_goto (tgt := 64) hx hb dX6_byCounting_60 (by decide) ?_
                refine lv_istore (lv' := [(4, .int (iI (1))), (0, .ref sh), (1, .int (iI (↑c1))), (2, .int (iI (sg (fun k => mAhB g p1 c1 k) i))), (3, .int (iI (↑i)))]) hx hb dX6_byCounting_64 hl (by decide) rfl (fun ls hl => ?_)
                refine lv_iload_n hx hb dX6_byCounting_66 rfl (lv_at hl 3 rfl) ?_
                refine lv_aload_n hx hb dX6_byCounting_67 rfl (lv_at hl 1 rfl) ?_
                refine n_get hX hK (hR _ _ hS) in_X6 0 rfl vw_X6 2 (by decide) q549 rfl dX6_byCounting_68 ?_
                refine lv_iload_n hx hb dX6_byCounting_71 rfl (lv_at hl 4 rfl) ?_
                refine W.eq (g2 := F0 m 72 ls [.int (iI (↑i)), .ref ia, .int (iI (sg (fun k => mAhB g p1 c1 k) i))]) rfl ?_
                refine n_zld hX hK (hR _ _ hS) 3 rfl i (⟨rfl, by omega⟩) (by omega) dX6_byCounting_72 ?_
                refine z_top (y := bI (0 < g (12 + 7 * p1 + i))) (tk_r (by omega)) ?_
                refine z_if_eqB (tgt := 85) hX dX6_byCounting_73 (by decide) (fun c_73 => ?_) (fun c_73 => ?_)
                · skip
                  refine z_iconst hX dX6_byCounting_85 ?_
                  refine z_iadd hX dX6_byCounting_86 ?_
                  refine z_top (y := sg (fun k => mAhB g p1 c1 k) (i + 1)) (by rw [sg_succ, mAhB_f (fun q9 => by obtain ⟨q1, q2⟩ := q9; first | exact c_73 q1 | omega)]) ?_
                  refine lv_istore_n (lv' := [(2, .int (iI (sg (fun k => mAhB g p1 c1 k) (i + 1)))), (4, .int (iI (1))), (0, .ref sh), (1, .int (iI (↑c1))), (3, .int (iI (↑i)))]) hx hb dX6_byCounting_87 rfl hl (by decide) rfl (fun ls hl => ?_)
                  refine z_iinc (y := ↑(i + 1)) (lv' := [(3, .int (iI (↑(i + 1)))), (2, .int (iI (sg (fun k => mAhB g p1 c1 k) (i + 1)))), (4, .int (iI (1))), (0, .ref sh), (1, .int (iI (↑c1)))]) hX dX6_byCounting_88 hl (k := 4) rfl (by omega) (by decide) rfl (fun ls hl => ?_)
                  refine lv_goto (tgt := 15) hx hb dX6_byCounting_91 (by decide) ?_
                  exact ih15 (i + 1) (by omega) (by omega) _ _ _ hP hS (lv_sub hl [3, 4, 1, 0] rfl)
                · skip
                  refine lv_iload hx hb dX6_byCounting_76 (lv_at hl 0 rfl) ?_
                  refine z_if_eq (tgt := 85) hX (by decide) dX6_byCounting_78 (by decide) (fun h9 => absurd h9 (by decide)) (fun h9 => ?_)
                  refine z_iconst hX dX6_byCounting_81 ?_
                  refine lv_goto (tgt := 86) hx hb dX6_byCounting_82 (by decide) ?_
                  refine z_iadd hX dX6_byCounting_86 ?_
                  refine z_top (y := sg (fun k => mAhB g p1 c1 k) (i + 1)) (by rw [sg_succ, mAhB_t ⟨c_73, by omega⟩]) ?_
                  refine lv_istore_n (lv' := [(2, .int (iI (sg (fun k => mAhB g p1 c1 k) (i + 1)))), (4, .int (iI (1))), (0, .ref sh), (1, .int (iI (↑c1))), (3, .int (iI (↑i)))]) hx hb dX6_byCounting_87 rfl hl (by decide) rfl (fun ls hl => ?_)
                  refine z_iinc (y := ↑(i + 1)) (lv' := [(3, .int (iI (↑(i + 1)))), (2, .int (iI (sg (fun k => mAhB g p1 c1 k) (i + 1)))), (4, .int (iI (1))), (0, .ref sh), (1, .int (iI (↑c1)))]) hX dX6_byCounting_88 hl (k := 4) rfl (by omega) (by decide) rfl (fun ls hl => ?_)
                  refine lv_goto (tgt := 15) hx hb dX6_byCounting_91 (by decide) ?_
                  exact ih15 (i + 1) (by omega) (by omega) _ _ _ hP hS (lv_sub hl [3, 4, 1, 0] rfl)
    exact L15 (n0 + 1) (0) (by omega) (by omega) _ _ _ hP hS (lv_sub hl [2, 3, 1, 0] rfl)
  · skip
    refine z_iconst hX dX6_byCounting_9 ?_
    exact w_iret hX hP hS (by rw [show mSh g p1 c1 = 0 from if_pos (by omega)]) dX6_byCounting_10
set_option maxHeartbeats 4000000 in
theorem c_X2_debtsOf {l : Launch} {D : va_G} {Z : zZ} {cA : Nat → ClassId} (hZ : zOk Z) (hfl : l.stackTraces = false) (hz : ∀ A U H, Z A U H → zT9 A U H) (sz : Nat) {a : Nat → Nat} (σ : zT) (n0 : Nat) (hn : σ 0 0 = n0 ∧ n0 ≤ 7) (B : Int) (hgo : gOk (σ 0) B) (p1 : Nat) (E1 : Int) (h1 : E1 = p1 ∧ p1 < 7)  : Met l yX2_debtsOf (ws_ yX2_debtsOf cX2_debtsOf 4 (some (.array .int))) { frames := 0, cells := 1, slots := 7, locals := 0 } (wPc D vwCl (tyL cA) Z (wL []) (hW a cA σ) [.ref (a 0), .int (iI E1)] sz zO) (nQq D (fun r ws => ∃ dv, r = some dv ∧ ws = [enI cA dv n0 (tkF (fun k => σ 0 (12 + 7 * p1 + k)) n0)] ∧ va_D (wA (wL []) sz) ws) (wA (wL []) sz)) 1 7 (wA (wL []) sz) := by
  obtain ⟨rfl, h1⟩ := h1
  refine l_met (cc := cX2_debtsOf) (maxL := 4) (ret := some (.array .int)) (own := RX2) (by decide) rfl rfl (Nat.le_of_ble_eq_true rfl) ?_
  intro p e s m below meth c hX hnm hsz hK hP hD hA hE hS hR hN ls hl
  have hx := hX.1
  have hb := hX.2.1
  have hz0 := hz _ _ _ hE
  have hl : lv_has ls 4 [(0, .ref (a 0)), (1, .int (iI (↑p1)))] := hl
  refine lv_aload_n hx hb dX2_debtsOf_0 rfl (lv_at hl 0 rfl) ?_
  refine h_get hX hK (hR _ _ hS) 3 (by decide) q172 rfl dX2_debtsOf_1 ?_
  refine z_newa hX hK hP hD hS hA .int 0 (ty := .int) rfl (q165) rfl (n0, .inl (fun _ => iI 0)) n0 (fun _ => rfl) (hn.1) (by omega) (by show n0 * 4 ≤ 536870912; omega) (Nat.le_of_ble_eq_true rfl) (by show 0 + n0 ≤ 7; omega) dX2_debtsOf_4 (fun dv H hP hD hS => ?_)
  have hP : va_P D vwCl [enI cA dv n0 (fun _ => 0)] H := hP
  have hD : va_D _ [enI cA dv n0 (fun _ => 0)] := hD
  refine lv_astore_n (lv' := [(2, .ref dv), (0, .ref (a 0)), (1, .int (iI (↑p1)))]) hx hb dX2_debtsOf_6 rfl hl (by decide) rfl (fun ls hl => ?_)
  refine z_iconst hX dX2_debtsOf_7 ?_
  refine z_top (y := ↑(0 : Nat)) (rfl) ?_
  refine lv_istore_n (lv' := [(3, .int (iI (↑(0 : Nat)))), (2, .ref dv), (0, .ref (a 0)), (1, .int (iI (↑p1)))]) hx hb dX2_debtsOf_8 rfl hl (by decide) rfl (fun ls hl => ?_)
  have L9 : ∀ (n : Nat) (i : Nat), (n0 < i + n) → (i ≤ n0) → ∀ (H : Heap) (locs : List Loc) (ls : Array Slot), va_P D vwCl [enI cA dv n0 (tkF (fun k => σ 0 (12 + 7 * p1 + k)) i)] H → va_D (wA (wL []) sz) [enI cA dv n0 (tkF (fun k => σ 0 (12 + 7 * p1 + k)) i)] → va_S (wA (wL []) sz) s.heap H locs → lv_has ls 4 [(0, .ref (a 0)), (1, .int (iI (↑p1))), (2, .ref dv), (3, .int (iI (↑i)))] → W p l e (headSpec (ws_ yX2_debtsOf cX2_debtsOf 4 (some (.array .int))) { frames := 0, cells := 1, slots := 7, locals := 0 }).room s m ([.ref (a 0), .int (iI (↑p1))] : List Value).toArray below meth c H locs 1 n0 (MQ below (nQq D (fun r ws => ∃ dv, r = some dv ∧ ws = [enI cA dv n0 (tkF (fun k => σ 0 (12 + 7 * p1 + k)) n0)] ∧ va_D (wA (wL []) sz) ws) (wA (wL []) sz)) ([.ref (a 0), .int (iI (↑p1))] : List Value).toArray s 1 7 (wA (wL []) sz)) (F0 m 9 ls []) := by
    intro n
    induction n with
    | zero =>
      intro i hf hi H locs ls hP hD hS hl
      exact absurd hf (by omega)
    | succ n ih9 =>
      intro i hf hi H locs ls hP hD hS hl
      refine lv_iload_n hx hb dX2_debtsOf_9 rfl (lv_at hl 3 rfl) ?_
      refine lv_aload_n hx hb dX2_debtsOf_10 rfl (lv_at hl 0 rfl) ?_
      refine h_get hX hK (hR _ _ hS) 3 (by decide) q172 rfl dX2_debtsOf_11 ?_
      refine W.eq (g2 := F0 m 14 ls [.int (iI (σ 0 0)), .int (iI (↑i))]) rfl ?_
      refine z_icmp_ge (tgt := 34) hX (by omega) dX2_debtsOf_14 (by decide) (fun c_14 => ?_) (fun c_14 => ?_)
      · skip
        refine lv_aload_n hx hb dX2_debtsOf_34 rfl (lv_at hl 2 rfl) ?_
        obtain rfl : n0 = i := by omega
        refine W.widen (k := 1) (n := 7) (Nat.le_of_ble_eq_true rfl) (by omega) ?_
        exact n_aret hX (Or.inr ⟨_, rfl⟩) hP hS (⟨dv, rfl, rfl, hD⟩) dX2_debtsOf_35
      · skip
        refine lv_aload_n hx hb dX2_debtsOf_17 rfl (lv_at hl 2 rfl) ?_
        refine lv_iload_n hx hb dX2_debtsOf_18 rfl (lv_at hl 3 rfl) ?_
        refine lv_aload_n hx hb dX2_debtsOf_19 rfl (lv_at hl 0 rfl) ?_
        refine h_get hX hK (hR _ _ hS) 0 (by decide) q166 rfl dX2_debtsOf_20 ?_
        refine lv_iload_n hx hb dX2_debtsOf_23 rfl (lv_at hl 1 rfl) ?_
        refine h_row hX hK (hR _ _ hS) p1 (⟨rfl, by omega⟩) dX2_debtsOf_24 ?_
        refine lv_iload_n hx hb dX2_debtsOf_25 rfl (lv_at hl 3 rfl) ?_
        refine W.eq (g2 := F0 m 26 ls [.int (iI (↑i)), .ref (a (4 + p1)), .int (iI (↑i)), .ref dv]) rfl ?_
        refine h_ldd hX hK (hR _ _ hS) p1 i (by omega) (⟨rfl, by omega⟩) dX2_debtsOf_26 ?_
        refine n_ast hX hK hP hD hS 0 rfl (v := σ 0 (12 + 7 * p1 + i)) i (⟨rfl, by omega⟩) (by omega) dX2_debtsOf_27 (fun H locs hP hD hS => ?_)
        have hP : va_P D vwCl [enI cA dv n0 (gU (tkF (fun k => σ 0 (12 + 7 * p1 + k)) i) i (σ 0 (12 + 7 * p1 + i)))] H := hP
        have hD : va_D _ [enI cA dv n0 (gU (tkF (fun k => σ 0 (12 + 7 * p1 + k)) i) i (σ 0 (12 + 7 * p1 + i)))] := hD
        rw [show (gU (tkF (fun k => σ 0 (12 + 7 * p1 + k)) i) i (σ 0 (12 + 7 * p1 + i))) = tkF (fun k => σ 0 (12 + 7 * p1 + k)) (i + 1) from tkF_s] at hP hD
        refine z_iinc (y := ↑(i + 1)) (lv' := [(3, .int (iI (↑(i + 1)))), (0, .ref (a 0)), (1, .int (iI (↑p1))), (2, .ref dv)]) hX dX2_debtsOf_28 hl (k := 3) rfl (by omega) (by decide) rfl (fun ls hl => ?_)
        refine lv_goto (tgt := 9) hx hb dX2_debtsOf_31 (by decide) ?_
        exact ih9 (i + 1) (by omega) (by omega) _ _ _ hP hD hS (lv_sub hl [1, 2, 3, 0] rfl)
  refine W.widen (k := 1) (n := n0) (by omega) (by omega) ?_
  rw [tkF_0 (f := fun k => σ 0 (12 + 7 * p1 + k))] at hP hD
  exact L9 (n0 + 1) (0) (by omega) (by omega) _ _ _ hP hD hS (lv_sub hl [2, 3, 1, 0] rfl)
set_option maxHeartbeats 4000000 in
theorem c_X2_shares {l : Launch} {D : va_G} {Z : zZ} {cA : Nat → ClassId} (hZ : zOk Z) (hfl : l.stackTraces = false) (hz : ∀ A U H, Z A U H → zT9 A U H) (sz : Nat) {a : Nat → Nat} (σ : zT) (n0 : Nat) (hn : σ 0 0 = n0 ∧ n0 ≤ 7) (B : Int) (hgo : gOk (σ 0) B) (p1 : Nat) (E1 : Int) (h1 : E1 = p1 ∧ p1 < 7) (hB : B ≤ 2000000) (hO : 0 < mOb (σ 0) p1) : Met l yX2_shares (ws_ yX2_shares cX2_shares 2 (some (.object "ClearingHouse$Shares"))) { frames := 2, cells := 5, slots := 32, locals := 44 } (wPc D vwCl (tyL cA) Z (wL []) (hW a cA σ) [.ref (a 0), .int (iI E1)] sz zO) (nQq D (fun r ws => ∃ sh pa ra ia, r = some sh ∧ ws = shW sh pa ra ia cA (σ 0) p1 n0 ∧ va_D (wA (wL []) sz) ws) (wA (wL []) sz)) 5 32 (wA (wL []) sz) := by
  obtain ⟨rfl, h1⟩ := h1
  refine l_met (cc := cX2_shares) (maxL := 2) (ret := some (.object "ClearingHouse$Shares")) (own := RX2) (by decide) rfl rfl (Nat.le_of_ble_eq_true rfl) ?_
  intro p e s m below meth c hX hnm hsz hK hP hD hA hE hS hR hN ls hl
  have hx := hX.1
  have hb := hX.2.1
  have hz0 := hz _ _ _ hE
  have hl : lv_has ls 2 [(0, .ref (a 0)), (1, .int (iI (↑p1)))] := hl
  refine va_new (C := RX6) (T := TX6) (N := 4) (ci := 5) (fs := [.null, .null, .null, .int (iI (0))]) hx hb hX.hts in_X6 tyX6 tyX6_ok hX.ow (hX.hts _ q537) (hX.hts _ q538) (hX.hts _ q99) hK hP hD hS hA vw_X6 (by decide) (Nat.le_of_ble_eq_true rfl) (Nat.le_of_ble_eq_true rfl) dX2_shares_0 (fun sh H hP hD hS => ?_)
  have hP : va_P D vwCl [enO sh 5 [.null, .null, .null, .int (iI (0))]] H := hP
  have hD : va_D _ [enO sh 5 [.null, .null, .null, .int (iI (0))]] := hD
  refine lv_dup hx hb dX2_shares_3 rfl ?_
  refine lv_aload_n hx hb dX2_shares_4 rfl (lv_at hl 0 rfl) ?_
  refine h_get hX hK (hR _ _ hS) 1 (by decide) q168 rfl dX2_shares_5 ?_
  refine lv_iload_n hx hb dX2_shares_8 rfl (lv_at hl 1 rfl) ?_
  refine h_ldc hX hK (hR _ _ hS) p1 (⟨rfl, by omega⟩) dX2_shares_9 ?_
  refine lv_aload_n hx hb dX2_shares_10 rfl (lv_at hl 0 rfl) ?_
  refine lv_iload_n hx hb dX2_shares_11 rfl (lv_at hl 1 rfl) ?_
  have hz8 : sz ≤ _ := Nat.le_trans (Nat.le_of_eq hsz.symm) hS.1
  refine l_callq (L0 := []) (G := [enO sh 5 [.null, .null, .null, .int (iI (0))]]) hP hD hA hS (va_runV (As := [.int (iI (↑p1))]) (rest := [.int (iI (σ 0 (5 + p1))), .ref sh, .ref sh]) hX.fix (c_X2_debtsOf hZ hfl hz _ σ n0 hn B hgo p1 _ ⟨rfl, h1⟩) (cwV 1 hX.hts (lw_V q539 q541 qs7 q81 q542) rfl rfl rfl (by decide +kernel) ⟨Nat.le_of_ble_eq_true rfl, Nat.le_of_ble_eq_true rfl⟩) (r_preV hZ hK hA hE (hR _ _ hS) hS (va_recv hK (hR _ _ hS) (ci := 1) (q0 := 0) vw_X2 hW_0)) rfl rfl hl.1 rfl (lv_room (Nat.le_of_ble_eq_true rfl)) dX2_shares_12 ⟨Nat.le_of_ble_eq_true rfl, Nat.le_of_ble_eq_true rfl⟩) (fun r w1 h => by obtain ⟨_, _, rfl, h⟩ := h; exact h) (fun r9 w1 H locs hq hP hD hS => ?_)
  obtain ⟨dv, rfl, rfl, -⟩ := hq
  have hP : va_P D vwCl [enI cA dv n0 (tkF (fun k => σ 0 (12 + 7 * p1 + k)) n0), enO sh 5 [.null, .null, .null, .int (iI (0))]] H := hP
  have hD : va_D _ [enI cA dv n0 (tkF (fun k => σ 0 (12 + 7 * p1 + k)) n0), enO sh 5 [.null, .null, .null, .int (iI (0))]] := hD
  refine W.eq (g2 := F0 m 15 ls [.ref dv, .int (iI (σ 0 (5 + p1))), .ref sh, .ref sh]) rfl ?_
  refine W.eq (g2 := F0 m 15 ls [.ref dv, .int (iI (σ 0 (5 + p1))), .ref sh, .ref sh]) rfl ?_
  refine lv_aload_n hx hb dX2_shares_15 rfl (lv_at hl 0 rfl) ?_
  refine lv_iload_n hx hb dX2_shares_16 rfl (lv_at hl 1 rfl) ?_
  refine r_calli (w := wL [enI cA dv n0 (tkF (fun k => σ 0 (12 + 7 * p1 + k)) n0), enO sh 5 [.null, .null, .null, .int (iI (0))]]) (x := zO) hA hP hS (va_runV (As := [.int (iI (↑p1))]) (rest := [.ref dv, .int (iI (σ 0 (5 + p1))), .ref sh, .ref sh]) hX.fix (c_X2_obligations hZ _ σ n0 hn B hgo p1 _ ⟨rfl, by omega⟩) (cwV 1 hX.hts (lw_V q525 q526 q527 q81 q528) rfl rfl rfl (by decide +kernel) ⟨Nat.le_of_ble_eq_true rfl, Nat.le_of_ble_eq_true rfl⟩) (r_preV hZ hK hA hE (hR _ _ hS) hS (va_recv hK (hR _ _ hS) (ci := 1) (q0 := 0) vw_X2 hW_0)) rfl rfl hl.1 rfl (lv_room (Nat.le_of_ble_eq_true rfl)) dX2_shares_17 ⟨Nat.le_of_ble_eq_true rfl, Nat.le_of_ble_eq_true rfl⟩) (fun r y H locs hq hP hS => ?_)
  rw [show r = iI (mOb (σ 0) p1) from hq]
  have hP : va_P D vwCl [enO sh 5 [.null, .null, .null, .int (iI (0))], enI cA dv n0 (tkF (fun k => σ 0 (12 + 7 * p1 + k)) n0)] H := hP.sub [1, 0] rfl
  have hD : va_D _ [enO sh 5 [.null, .null, .null, .int (iI (0))], enI cA dv n0 (tkF (fun k => σ 0 (12 + 7 * p1 + k)) n0)] := hD.sub [1, 0] rfl rfl
  have hP9 : va_P D vwCl ([enO sh 5 [.null, .null, .null, .int (iI (0))]] ++ [enI cA dv n0 (tkF (fun k => σ 0 (12 + 7 * p1 + k)) n0)]) H := hP
  have hD9 : va_D _ ([enO sh 5 [.null, .null, .null, .int (iI (0))]] ++ [enI cA dv n0 (tkF (fun k => σ 0 (12 + 7 * p1 + k)) n0)]) := hD
  refine l_callv hP9 hD9 hA hS (va_runI (As := [.int (iI (σ 0 (5 + p1))), .ref dv, .int (iI (mOb (σ 0) p1))]) (rest := [.ref sh]) hX.fix (c_X6_init hZ hfl hz _ (σ 0) hgo hB n0 hn p1 h1 hO _ _ rfl rfl) (cwI 3 hX.hts (lw_meth q545) rfl rfl rfl (hX.hts _ q99) (hX.hts _ q543) (hX.hts _ q544) rfl (by decide +kernel) ⟨Nat.le_of_ble_eq_true rfl, Nat.le_of_ble_eq_true rfl⟩) (l_preS hZ hK (D_l hD9) hA hE (P_l hP9) (P_r hP9) (n_in hP9 hD9 (fun q h => h)) hS) rfl rfl hl.1 rfl (lv_room (Nat.le_of_ble_eq_true rfl)) dX2_shares_20 ⟨Nat.le_of_ble_eq_true rfl, Nat.le_of_ble_eq_true rfl⟩) (fun w1 h => by obtain ⟨_, _, _, rfl, h⟩ := h; exact h) (fun w1 H locs hq hP hD hS => ?_)
  obtain ⟨pa, ra, ia, rfl, -⟩ := hq
  have hP : va_P D vwCl [enO sh 5 [.ref pa, .ref ra, .ref ia, .int (iI (mLeft (σ 0) p1))], enI cA pa n0 (tkF (fun k => mPt (σ 0) p1 k) n0), enI cA ra n0 (tkF (fun k => mRm (σ 0) p1 k) n0), enZ cA ia n0 (tkF (fun k => bI (0 < (σ 0) (12 + 7 * p1 + k))) n0), enI cA dv n0 (tkF (fun k => σ 0 (12 + 7 * p1 + k)) n0)] H := hP
  have hD : va_D _ [enO sh 5 [.ref pa, .ref ra, .ref ia, .int (iI (mLeft (σ 0) p1))], enI cA pa n0 (tkF (fun k => mPt (σ 0) p1 k) n0), enI cA ra n0 (tkF (fun k => mRm (σ 0) p1 k) n0), enZ cA ia n0 (tkF (fun k => bI (0 < (σ 0) (12 + 7 * p1 + k))) n0), enI cA dv n0 (tkF (fun k => σ 0 (12 + 7 * p1 + k)) n0)] := hD
  have hP := hP.sub [0, 1, 2, 3] rfl
  have hD : va_D (wA (wL []) sz) (shW sh pa ra ia cA (σ 0) p1 n0) := hD.sub [0, 1, 2, 3] rfl rfl
  exact n_aret hX (Or.inl ⟨_, rfl⟩) hP hS (⟨sh, pa, ra, ia, rfl, rfl, hD⟩) dX2_shares_23
