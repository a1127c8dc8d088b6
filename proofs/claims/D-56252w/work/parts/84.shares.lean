/-! shares of creditors -/
set_option maxRecDepth 100000
/-- the shares of a party's creditors, made -/
def shW (sh pa ra ia : Nat) (cA : Nat → ClassId) (g : Nat → Int) (p n : Nat) : va_W := [enO sh 5 [.ref pa, .ref ra, .ref ia, .int (iI (mLeft g p))], enI cA pa n (tkF (fun k => mPt g p k) n), enI cA ra n (tkF (fun k => mRm g p k) n), enZ cA ia n (tkF (fun k => bI (0 < g (12 + 7 * p + k))) n)]
theorem mLeft_n {g : Nat → Int} {B : Int} (hg : gOk g B) {n : Nat} (hn : g 0 = n ∧ n ≤ 7) {p : Nat} (hp : p < 7) : g (5 + p) - sg (fun k => mPt g p k) n = mLeft g p := by
  unfold mLeft
  rw [sg_cut (f := fun k => mPt g p k) (n := n) 7 hn.2 (fun k h1 h2 => by
    have := hg.2.2.2.1 p k hp h2 (Or.inr (Or.inl (by omega)))
    show mPt g p k = 0
    unfold mPt
    rw [this, Int.mul_zero, Int.zero_ediv])]
theorem tk_r {f : Nat → Int} {n k : Nat} (h : k < n) : tkF f n k = f k := if_pos h
theorem tk_v {f : Nat → Int} {i : Nat} {v : Int} (h : v = f i) : gU (tkF f i) i v = tkF f (i + 1) := by rw [h]; exact tkF_s
set_option maxHeartbeats 4000000 in
theorem c_X6_init {l : Launch} {D : va_G} {Z : zZ} {cA : Nat → ClassId} (hZ : zOk Z) (hfl : l.stackTraces = false) (hz : ∀ A U H, Z A U H → zT9 A U H) (sz : Nat) {sh da : Nat} {B : Int} (g : Nat → Int) (hg : gOk g B) (hB : B ≤ 2000000) (n0 : Nat) (hn : g 0 = n0 ∧ n0 ≤ 7) (p1 : Nat) (hp1 : p1 < 7) (hO : 0 < mOb g p1) (E1 E2 : Int) (h1 : E1 = g (5 + p1)) (h2 : E2 = mOb g p1) : Met l yX6_init (ws_ yX6_init cX6_init 5 (none)) { frames := 1, cells := 3, slots := 21, locals := 20 } (wPc D vwCl (tyL cA) Z (wL [enO sh 5 [.null, .null, .null, .int (iI (0))]]) [enI cA da n0 (tkF (fun k => g (12 + 7 * p1 + k)) n0)] [.ref sh, .int (iI E1), .ref da, .int (iI E2)] sz zO) (nQv D (fun ws => ∃ pa ra ia, ws = shW sh pa ra ia cA g p1 n0 ∧ va_D (wA (wL [enO sh 5 [.null, .null, .null, .int (iI (0))]]) sz) ws) (wA (wL [enO sh 5 [.null, .null, .null, .int (iI (0))]]) sz)) 3 21 (wA (wL [enO sh 5 [.null, .null, .null, .int (iI (0))]]) sz) := by
  subst h1
  subst h2
  refine l_met (cc := cX6_init) (maxL := 5) (ret := none) (own := RX6) (by decide) rfl rfl (Nat.le_of_ble_eq_true rfl) ?_
  intro p e s m below meth c hX hnm hsz hK hP hD hA hE hS hR hN ls hl
  have hx := hX.1
  have hb := hX.2.1
  have hz0 := hz _ _ _ hE
  have hl : lv_has ls 5 [(0, .ref sh), (1, .int (iI (g (5 + p1)))), (2, .ref da), (3, .int (iI (mOb g p1)))] := hl
  refine lv_aload_n hx hb dX6_init_0 rfl (lv_at hl 0 rfl) ?_
  refine W.objInit hx hb hX.ow (hX.hts _ q546) (hX.hts _ q131) (hX.hts _ q132) rfl (by rw [hX.2.2.1]; exact hl.1) rfl dX6_init_1 (Nat.le_of_ble_eq_true rfl) (Nat.le_of_ble_eq_true rfl) ?_
  refine lv_aload_n hx hb dX6_init_4 rfl (lv_at hl 0 rfl) ?_
  refine lv_aload_n hx hb dX6_init_5 rfl (lv_at hl 2 rfl) ?_
  refine va_alen hX.1 hX.2.1 hK (hR _ _ hS) 0 0 rfl ty_0 (v := iI ((n0 : Nat) : Int)) rfl dX6_init_6 ?_
  refine z_newa hX hK hP hD hS hA .int 0 (ty := .int) rfl (q165) rfl (n0, .inl (fun _ => iI 0)) n0 (fun _ => rfl) (rfl) (by omega) (by show n0 * 4 ≤ 536870912; omega) (Nat.le_of_ble_eq_true rfl) (by show 0 + n0 ≤ 21; omega) dX6_init_7 (fun pa H hP hD hS => ?_)
  have hP : va_P D vwCl [enO sh 5 [.null, .null, .null, .int (iI (0))], enI cA pa n0 (fun _ => 0)] H := hP
  have hD : va_D _ [enO sh 5 [.null, .null, .null, .int (iI (0))], enI cA pa n0 (fun _ => 0)] := hD
  refine va_putF (C := RX6) (T := TX6) (N := 4) (ci := 5) (v := .ref pa) (ty := tyX6 0) hx hb hX.hts in_X6 tyX6 tyX6_ok nmX6 hX.ow hK hP hD hS 0 rfl vw_X6 0 (by decide) (hX.hts _ q547) (fun _ h9 => h9) rfl hnm rfl (by decide +kernel) rfl rfl (Nat.le_of_ble_eq_true rfl) dX6_init_9 (fun H locs hP hD hS => ?_)
  have hP : va_P D vwCl [enO sh 5 [.ref pa, .null, .null, .int (iI (0))], enI cA pa n0 (fun _ => 0)] H := hP
  have hD : va_D _ [enO sh 5 [.ref pa, .null, .null, .int (iI (0))], enI cA pa n0 (fun _ => 0)] := hD
  refine lv_aload_n hx hb dX6_init_12 rfl (lv_at hl 0 rfl) ?_
  refine lv_aload_n hx hb dX6_init_13 rfl (lv_at hl 2 rfl) ?_
  refine W.eq (g2 := F0 m 14 ls [.ref da, .ref sh]) rfl ?_
  refine va_alen hX.1 hX.2.1 hK (hR _ _ hS) 0 0 rfl ty_0 (v := iI ((n0 : Nat) : Int)) rfl dX6_init_14 ?_
  refine z_newa hX hK hP hD hS hA .int 0 (ty := .int) rfl (q165) rfl (n0, .inl (fun _ => iI 0)) n0 (fun _ => rfl) (rfl) (by omega) (by show n0 * 4 ≤ 536870912; omega) (Nat.le_of_ble_eq_true rfl) (by show 0 + n0 + n0 ≤ 21; omega) dX6_init_15 (fun ra H hP hD hS => ?_)
  have hP : va_P D vwCl [enO sh 5 [.ref pa, .null, .null, .int (iI (0))], enI cA pa n0 (fun _ => 0), enI cA ra n0 (fun _ => 0)] H := hP
  have hD : va_D _ [enO sh 5 [.ref pa, .null, .null, .int (iI (0))], enI cA pa n0 (fun _ => 0), enI cA ra n0 (fun _ => 0)] := hD
  refine va_putF (C := RX6) (T := TX6) (N := 4) (ci := 5) (v := .ref ra) (ty := tyX6 1) hx hb hX.hts in_X6 tyX6 tyX6_ok nmX6 hX.ow hK hP hD hS 0 rfl vw_X6 1 (by decide) (hX.hts _ q548) (fun _ h9 => h9) rfl hnm rfl (by decide +kernel) rfl rfl (Nat.le_of_ble_eq_true rfl) dX6_init_17 (fun H locs hP hD hS => ?_)
  have hP : va_P D vwCl [enO sh 5 [.ref pa, .ref ra, .null, .int (iI (0))], enI cA pa n0 (fun _ => 0), enI cA ra n0 (fun _ => 0)] H := hP
  have hD : va_D _ [enO sh 5 [.ref pa, .ref ra, .null, .int (iI (0))], enI cA pa n0 (fun _ => 0), enI cA ra n0 (fun _ => 0)] := hD
  refine lv_aload_n hx hb dX6_init_20 rfl (lv_at hl 0 rfl) ?_
  refine lv_aload_n hx hb dX6_init_21 rfl (lv_at hl 2 rfl) ?_
  refine va_alen hX.1 hX.2.1 hK (hR _ _ hS) 0 0 rfl ty_0 (v := iI ((n0 : Nat) : Int)) rfl dX6_init_22 ?_
  refine z_newa hX hK hP hD hS hA .boolean 2 (ty := .boolean) rfl (q560) rfl (n0, .inl (fun _ => iI 0)) n0 (fun _ => rfl) (rfl) (by omega) (by show n0 * 1 ≤ 536870912; omega) (Nat.le_of_ble_eq_true rfl) (by show 0 + n0 + n0 + n0 ≤ 21; omega) dX6_init_23 (fun ia H hP hD hS => ?_)
  have hP : va_P D vwCl [enO sh 5 [.ref pa, .ref ra, .null, .int (iI (0))], enI cA pa n0 (fun _ => 0), enI cA ra n0 (fun _ => 0), enZ cA ia n0 (fun _ => 0)] H := hP
  have hD : va_D _ [enO sh 5 [.ref pa, .ref ra, .null, .int (iI (0))], enI cA pa n0 (fun _ => 0), enI cA ra n0 (fun _ => 0), enZ cA ia n0 (fun _ => 0)] := hD
  refine va_putF (C := RX6) (T := TX6) (N := 4) (ci := 5) (v := .ref ia) (ty := tyX6 2) hx hb hX.hts in_X6 tyX6 tyX6_ok nmX6 hX.ow hK hP hD hS 0 rfl vw_X6 2 (by decide) (hX.hts _ q549) (fun _ h9 => h9) rfl hnm rfl (by decide +kernel) rfl rfl (Nat.le_of_ble_eq_true rfl) dX6_init_25 (fun H locs hP hD hS => ?_)
  have hP : va_P D vwCl [enO sh 5 [.ref pa, .ref ra, .ref ia, .int (iI (0))], enI cA pa n0 (fun _ => 0), enI cA ra n0 (fun _ => 0), enZ cA ia n0 (fun _ => 0)] H := hP
  have hD : va_D _ [enO sh 5 [.ref pa, .ref ra, .ref ia, .int (iI (0))], enI cA pa n0 (fun _ => 0), enI cA ra n0 (fun _ => 0), enZ cA ia n0 (fun _ => 0)] := hD
  refine lv_aload_n hx hb dX6_init_28 rfl (lv_at hl 0 rfl) ?_
  refine lv_iload_n hx hb dX6_init_29 rfl (lv_at hl 1 rfl) ?_
  refine W.eq (g2 := F0 m 30 ls [.int (iI (g (5 + p1))), .ref sh]) rfl ?_
  refine va_put (C := RX6) (T := TX6) (N := 4) (ci := 5) (v := .int (iI (g (5 + p1)))) (ty := tyX6 3) hx hb hX.hts in_X6 tyX6 tyX6_ok nmX6 hX.ow hK hP hD hS 0 rfl vw_X6 3 (by decide) (hX.hts _ q550) (fun _ h9 => h9) rfl (by decide +kernel) rfl rfl (Nat.le_of_ble_eq_true rfl) dX6_init_30 (fun H locs hP hD hS => ?_)
  have hP : va_P D vwCl [enO sh 5 [.ref pa, .ref ra, .ref ia, .int (iI (g (5 + p1)))], enI cA pa n0 (fun _ => 0), enI cA ra n0 (fun _ => 0), enZ cA ia n0 (fun _ => 0)] H := hP
  have hD : va_D _ [enO sh 5 [.ref pa, .ref ra, .ref ia, .int (iI (g (5 + p1)))], enI cA pa n0 (fun _ => 0), enI cA ra n0 (fun _ => 0), enZ cA ia n0 (fun _ => 0)] := hD
  refine z_iconst hX dX6_init_33 ?_
  refine z_top (y := ↑(0 : Nat)) (rfl) ?_
  refine lv_istore (lv' := [(4, .int (iI (↑(0 : Nat)))), (0, .ref sh), (1, .int (iI (g (5 + p1)))), (2, .ref da), (3, .int (iI (mOb g p1)))]) hx hb dX6_init_34 hl (by decide) rfl (fun ls hl => ?_)
  have L36 : ∀ (n : Nat) (i : Nat), (n0 < i + n) → (i ≤ n0) → ∀ (H : Heap) (locs : List Loc) (ls : Array Slot), va_P D vwCl [enO sh 5 [.ref pa, .ref ra, .ref ia, .int (iI (g (5 + p1) - sg (fun k => mPt g p1 k) i))], enI cA pa n0 (tkF (fun k => mPt g p1 k) i), enI cA ra n0 (tkF (fun k => mRm g p1 k) i), enZ cA ia n0 (tkF (fun k => bI (0 < g (12 + 7 * p1 + k))) i)] H → va_D (wA (wL [enO sh 5 [.null, .null, .null, .int (iI (0))]]) sz) [enO sh 5 [.ref pa, .ref ra, .ref ia, .int (iI (g (5 + p1) - sg (fun k => mPt g p1 k) i))], enI cA pa n0 (tkF (fun k => mPt g p1 k) i), enI cA ra n0 (tkF (fun k => mRm g p1 k) i), enZ cA ia n0 (tkF (fun k => bI (0 < g (12 + 7 * p1 + k))) i)] → va_S (wA (wL [enO sh 5 [.null, .null, .null, .int (iI (0))]]) sz) s.heap H locs → lv_has ls 5 [(0, .ref sh), (1, .int (iI (g (5 + p1)))), (2, .ref da), (3, .int (iI (mOb g p1))), (4, .int (iI (↑i)))] → W p l e (headSpec (ws_ yX6_init cX6_init 5 (none)) { frames := 1, cells := 3, slots := 21, locals := 20 }).room s m ([.ref sh, .int (iI (g (5 + p1))), .ref da, .int (iI (mOb g p1))] : List Value).toArray below meth c H locs 3 (n0 + n0 + n0) (MQ below (nQv D (fun ws => ∃ pa ra ia, ws = shW sh pa ra ia cA g p1 n0 ∧ va_D (wA (wL [enO sh 5 [.null, .null, .null, .int (iI (0))]]) sz) ws) (wA (wL [enO sh 5 [.null, .null, .null, .int (iI (0))]]) sz)) ([.ref sh, .int (iI (g (5 + p1))), .ref da, .int (iI (mOb g p1))] : List Value).toArray s 3 21 (wA (wL [enO sh 5 [.null, .null, .null, .int (iI (0))]]) sz)) (F0 m 36 ls []) := by
    intro n
    induction n with
    | zero =>
      intro i hf hi H locs ls hP hD hS hl
      exact absurd hf (by omega)
    | succ n ih36 =>
      intro i hf hi H locs ls hP hD hS hl
      refine lv_iload hx hb dX6_init_36 (lv_at hl 4 rfl) ?_
      refine lv_aload_n hx hb dX6_init_38 rfl (lv_at hl 2 rfl) ?_
      refine va_alen hX.1 hX.2.1 hK (hR _ _ hS) 0 0 rfl ty_0 (v := iI ((n0 : Nat) : Int)) rfl dX6_init_39 ?_
      refine z_icmp_ge (tgt := 114) hX (by omega) dX6_init_40 (by decide) (fun c_40 => ?_) (fun c_40 => ?_)
      · skip
        obtain rfl : i = n0 := by omega
        rw [mLeft_n hg hn hp1] at hP hD
        refine W.widen (k := 3) (n := 21) (Nat.le_of_ble_eq_true rfl) (by omega) ?_
        exact n_vret hX hP hS (⟨pa, ra, ia, rfl, hD⟩) dX6_init_114
      · skip
        have hdi := hg.2.2.1 p1 i hp1 (by omega)
        have hci := hg.2.1 p1 hp1
        have hob := mOb_bd hg hp1
        have hpi := mPt_bd (k := i) hg hp1 (by omega) hO
        have hri := mRm_bd (k := i) hO
        have hml : 0 ≤ g (5 + p1) * g (12 + 7 * p1 + i) ∧ g (5 + p1) * g (12 + 7 * p1 + i) ≤ 2147483647 := ⟨Int.mul_nonneg hci.1 hdi.1, Int.le_trans (Int.mul_le_mul (show g (5 + p1) ≤ 2000000 by omega) hdi.2 hdi.1 (by decide)) (by decide)⟩
        have hlf := mLeft_bd (i := i) hg hB hp1 hO (by omega)
        refine lv_aload_n hx hb dX6_init_43 rfl (lv_at hl 0 rfl) ?_
        refine n_get hX hK hP in_X6 0 rfl vw_X6 0 (by decide) q547 rfl dX6_init_44 ?_
        refine W.eq (g2 := F0 m 47 ls [.ref pa]) rfl ?_
        refine lv_iload hx hb dX6_init_47 (lv_at hl 4 rfl) ?_
        refine lv_iload_n hx hb dX6_init_49 rfl (lv_at hl 1 rfl) ?_
        refine lv_aload_n hx hb dX6_init_50 rfl (lv_at hl 2 rfl) ?_
        refine lv_iload hx hb dX6_init_51 (lv_at hl 4 rfl) ?_
        refine n_ald hX hK (hR _ _ hS) 0 rfl i (⟨rfl, by omega⟩) (by omega) dX6_init_53 ?_
        refine z_top (y := g (12 + 7 * p1 + i)) (tk_r (by omega)) ?_
        refine z_imul hX dX6_init_54 ?_
        refine lv_iload_n hx hb dX6_init_55 rfl (lv_at hl 3 rfl) ?_
        refine z_idiv hX dX6_init_56 (⟨hml, hO, by omega⟩) ?_
        refine z_top (y := mPt g p1 i) (rfl) ?_
        refine n_ast hX hK hP hD hS 1 rfl (v := mPt g p1 i) i (⟨rfl, by omega⟩) (by omega) dX6_init_57 (fun H locs hP hD hS => ?_)
        have hP : va_P D vwCl [enO sh 5 [.ref pa, .ref ra, .ref ia, .int (iI (g (5 + p1) - sg (fun k => mPt g p1 k) i))], enI cA pa n0 (gU (tkF (fun k => mPt g p1 k) i) i (mPt g p1 i)), enI cA ra n0 (tkF (fun k => mRm g p1 k) i), enZ cA ia n0 (tkF (fun k => bI (0 < g (12 + 7 * p1 + k))) i)] H := hP
        have hD : va_D _ [enO sh 5 [.ref pa, .ref ra, .ref ia, .int (iI (g (5 + p1) - sg (fun k => mPt g p1 k) i))], enI cA pa n0 (gU (tkF (fun k => mPt g p1 k) i) i (mPt g p1 i)), enI cA ra n0 (tkF (fun k => mRm g p1 k) i), enZ cA ia n0 (tkF (fun k => bI (0 < g (12 + 7 * p1 + k))) i)] := hD
        rw [show (gU (tkF (fun k => mPt g p1 k) i) i (mPt g p1 i)) = tkF (fun k => mPt g p1 k) (i + 1) from tkF_s] at hP hD
        refine lv_aload_n hx hb dX6_init_58 rfl (lv_at hl 0 rfl) ?_
        refine W.eq (g2 := F0 m 59 ls [.ref sh]) rfl ?_
        refine n_get hX hK hP in_X6 0 rfl vw_X6 1 (by decide) q548 rfl dX6_init_59 ?_
        refine lv_iload hx hb dX6_init_62 (lv_at hl 4 rfl) ?_
        refine lv_iload_n hx hb dX6_init_64 rfl (lv_at hl 1 rfl) ?_
        refine lv_aload_n hx hb dX6_init_65 rfl (lv_at hl 2 rfl) ?_
        refine lv_iload hx hb dX6_init_66 (lv_at hl 4 rfl) ?_
        refine n_ald hX hK (hR _ _ hS) 0 rfl i (⟨rfl, by omega⟩) (by omega) dX6_init_68 ?_
        refine z_top (y := g (12 + 7 * p1 + i)) (tk_r (by omega)) ?_
        refine z_imul hX dX6_init_69 ?_
        refine lv_iload_n hx hb dX6_init_70 rfl (lv_at hl 3 rfl) ?_
        refine z_irem hX dX6_init_71 (⟨hml, hO, by omega⟩) ?_
        refine z_top (y := mRm g p1 i) (rfl) ?_
        refine n_ast hX hK hP hD hS 2 rfl (v := mRm g p1 i) i (⟨rfl, by omega⟩) (by omega) dX6_init_72 (fun H locs hP hD hS => ?_)
        have hP : va_P D vwCl [enO sh 5 [.ref pa, .ref ra, .ref ia, .int (iI (g (5 + p1) - sg (fun k => mPt g p1 k) i))], enI cA pa n0 (tkF (fun k => mPt g p1 k) (i + 1)), enI cA ra n0 (gU (tkF (fun k => mRm g p1 k) i) i (mRm g p1 i)), enZ cA ia n0 (tkF (fun k => bI (0 < g (12 + 7 * p1 + k))) i)] H := hP
        have hD : va_D _ [enO sh 5 [.ref pa, .ref ra, .ref ia, .int (iI (g (5 + p1) - sg (fun k => mPt g p1 k) i))], enI cA pa n0 (tkF (fun k => mPt g p1 k) (i + 1)), enI cA ra n0 (gU (tkF (fun k => mRm g p1 k) i) i (mRm g p1 i)), enZ cA ia n0 (tkF (fun k => bI (0 < g (12 + 7 * p1 + k))) i)] := hD
        rw [show (gU (tkF (fun k => mRm g p1 k) i) i (mRm g p1 i)) = tkF (fun k => mRm g p1 k) (i + 1) from tkF_s] at hP hD
        refine W.eq (g2 := F0 m 73 ls []) rfl ?_
        refine lv_aload_n hx hb dX6_init_73 rfl (lv_at hl 0 rfl) ?_
        refine n_get hX hK hP in_X6 0 rfl vw_X6 2 (by decide) q549 rfl dX6_init_74 ?_
        refine lv_iload hx hb dX6_init_77 (lv_at hl 4 rfl) ?_
        refine lv_aload_n hx hb dX6_init_79 rfl (lv_at hl 2 rfl) ?_
        refine lv_iload hx hb dX6_init_80 (lv_at hl 4 rfl) ?_
        refine n_ald hX hK (hR _ _ hS) 0 rfl i (⟨rfl, by omega⟩) (by omega) dX6_init_82 ?_
        refine z_top (y := g (12 + 7 * p1 + i)) (tk_r (by omega)) ?_
        refine z_if_le (tgt := 90) hX (by omega) dX6_init_83 (by decide) (fun c_83 => ?_) (fun c_83 => ?_)
        · skip
          refine z_iconst hX dX6_init_90 ?_
          refine n_zst hX hK hP hD hS 3 rfl (v := 0) (by decide) i (⟨rfl, by omega⟩) (by omega) dX6_init_91 (fun H locs hP hD hS => ?_)
          have hP : va_P D vwCl [enO sh 5 [.ref pa, .ref ra, .ref ia, .int (iI (g (5 + p1) - sg (fun k => mPt g p1 k) i))], enI cA pa n0 (tkF (fun k => mPt g p1 k) (i + 1)), enI cA ra n0 (tkF (fun k => mRm g p1 k) (i + 1)), enZ cA ia n0 (gU (tkF (fun k => bI (0 < g (12 + 7 * p1 + k))) i) i 0)] H := hP
          have hD : va_D _ [enO sh 5 [.ref pa, .ref ra, .ref ia, .int (iI (g (5 + p1) - sg (fun k => mPt g p1 k) i))], enI cA pa n0 (tkF (fun k => mPt g p1 k) (i + 1)), enI cA ra n0 (tkF (fun k => mRm g p1 k) (i + 1)), enZ cA ia n0 (gU (tkF (fun k => bI (0 < g (12 + 7 * p1 + k))) i) i 0)] := hD
          rw [show (gU (tkF (fun k => bI (0 < g (12 + 7 * p1 + k))) i) i 0) = tkF (fun k => bI (0 < g (12 + 7 * p1 + k))) (i + 1) from tk_v (by first | exact (bI_t (by omega)).symm | exact (bI_f (by omega)).symm)] at hP hD
          refine lv_aload_n hx hb dX6_init_92 rfl (lv_at hl 0 rfl) ?_
          refine W.eq (g2 := F0 m 93 ls [.ref sh]) rfl ?_
          refine lv_dup hx hb dX6_init_93 rfl ?_
          refine n_get hX hK hP in_X6 0 rfl vw_X6 3 (by decide) q550 rfl dX6_init_94 ?_
          refine lv_aload_n hx hb dX6_init_97 rfl (lv_at hl 0 rfl) ?_
          refine n_get hX hK hP in_X6 0 rfl vw_X6 0 (by decide) q547 rfl dX6_init_98 ?_
          refine lv_iload hx hb dX6_init_101 (lv_at hl 4 rfl) ?_
          refine n_ald hX hK hP 1 rfl i (⟨rfl, by omega⟩) (by omega) dX6_init_103 ?_
          refine z_top (y := mPt g p1 i) (tk_r (by omega)) ?_
          refine z_isub hX dX6_init_104 ?_
          refine z_top (y := g (5 + p1) - sg (fun k => mPt g p1 k) (i + 1)) (by rw [sg_succ]; omega) ?_
          refine va_put (C := RX6) (T := TX6) (N := 4) (ci := 5) (v := .int (iI (g (5 + p1) - sg (fun k => mPt g p1 k) (i + 1)))) (ty := tyX6 3) hx hb hX.hts in_X6 tyX6 tyX6_ok nmX6 hX.ow hK hP hD hS 0 rfl vw_X6 3 (by decide) (hX.hts _ q550) (fun _ h9 => h9) rfl (by decide +kernel) rfl rfl (Nat.le_of_ble_eq_true rfl) dX6_init_105 (fun H locs hP hD hS => ?_)
          have hP : va_P D vwCl [enO sh 5 [.ref pa, .ref ra, .ref ia, .int (iI (g (5 + p1) - sg (fun k => mPt g p1 k) (i + 1)))], enI cA pa n0 (tkF (fun k => mPt g p1 k) (i + 1)), enI cA ra n0 (tkF (fun k => mRm g p1 k) (i + 1)), enZ cA ia n0 (tkF (fun k => bI (0 < g (12 + 7 * p1 + k))) (i + 1))] H := hP
          have hD : va_D _ [enO sh 5 [.ref pa, .ref ra, .ref ia, .int (iI (g (5 + p1) - sg (fun k => mPt g p1 k) (i + 1)))], enI cA pa n0 (tkF (fun k => mPt g p1 k) (i + 1)), enI cA ra n0 (tkF (fun k => mRm g p1 k) (i + 1)), enZ cA ia n0 (tkF (fun k => bI (0 < g (12 + 7 * p1 + k))) (i + 1))] := hD
          refine z_iinc (y := ↑(i + 1)) (lv' := [(4, .int (iI (↑(i + 1)))), (0, .ref sh), (1, .int (iI (g (5 + p1)))), (2, .ref da), (3, .int (iI (mOb g p1)))]) hX dX6_init_108 hl (k := 4) rfl (by omega) (by decide) rfl (fun ls hl => ?_)
          refine lv_goto (tgt := 36) hx hb dX6_init_111 (by decide) ?_
          exact ih36 (i + 1) (by omega) (by omega) _ _ _ hP hD hS (lv_sub hl [1, 2, 3, 4, 0] rfl)
        · skip
          refine W.eq (g2 := F0 m 86 ls [.int (iI (↑i)), .ref ia]) rfl ?_
          refine z_iconst hX dX6_init_86 ?_
          refine lv_goto (tgt := 91) hx hb dX6_init_87 (by decide) ?_
          refine n_zst hX hK hP hD hS 3 rfl (v := 1) (by decide) i (⟨rfl, by omega⟩) (by omega) dX6_init_91 (fun H locs hP hD hS => ?_)
          have hP : va_P D vwCl [enO sh 5 [.ref pa, .ref ra, .ref ia, .int (iI (g (5 + p1) - sg (fun k => mPt g p1 k) i))], enI cA pa n0 (tkF (fun k => mPt g p1 k) (i + 1)), enI cA ra n0 (tkF (fun k => mRm g p1 k) (i + 1)), enZ cA ia n0 (gU (tkF (fun k => bI (0 < g (12 + 7 * p1 + k))) i) i 1)] H := hP
          have hD : va_D _ [enO sh 5 [.ref pa, .ref ra, .ref ia, .int (iI (g (5 + p1) - sg (fun k => mPt g p1 k) i))], enI cA pa n0 (tkF (fun k => mPt g p1 k) (i + 1)), enI cA ra n0 (tkF (fun k => mRm g p1 k) (i + 1)), enZ cA ia n0 (gU (tkF (fun k => bI (0 < g (12 + 7 * p1 + k))) i) i 1)] := hD
          rw [show (gU (tkF (fun k => bI (0 < g (12 + 7 * p1 + k))) i) i 1) = tkF (fun k => bI (0 < g (12 + 7 * p1 + k))) (i + 1) from tk_v (by first | exact (bI_t (by omega)).symm | exact (bI_f (by omega)).symm)] at hP hD
          refine lv_aload_n hx hb dX6_init_92 rfl (lv_at hl 0 rfl) ?_
          refine lv_dup hx hb dX6_init_93 rfl ?_
          refine n_get hX hK hP in_X6 0 rfl vw_X6 3 (by decide) q550 rfl dX6_init_94 ?_
          refine lv_aload_n hx hb dX6_init_97 rfl (lv_at hl 0 rfl) ?_
          refine n_get hX hK hP in_X6 0 rfl vw_X6 0 (by decide) q547 rfl dX6_init_98 ?_
          refine lv_iload hx hb dX6_init_101 (lv_at hl 4 rfl) ?_
          refine n_ald hX hK hP 1 rfl i (⟨rfl, by omega⟩) (by omega) dX6_init_103 ?_
          refine z_top (y := mPt g p1 i) (tk_r (by omega)) ?_
          refine W.eq (g2 := F0 m 104 ls [.int (iI (mPt g p1 i)), .int (iI (g (5 + p1) - sg (fun k => mPt g p1 k) i)), .ref sh]) rfl ?_
          refine z_isub hX dX6_init_104 ?_
          refine z_top (y := g (5 + p1) - sg (fun k => mPt g p1 k) (i + 1)) (by rw [sg_succ]; omega) ?_
          refine va_put (C := RX6) (T := TX6) (N := 4) (ci := 5) (v := .int (iI (g (5 + p1) - sg (fun k => mPt g p1 k) (i + 1)))) (ty := tyX6 3) hx hb hX.hts in_X6 tyX6 tyX6_ok nmX6 hX.ow hK hP hD hS 0 rfl vw_X6 3 (by decide) (hX.hts _ q550) (fun _ h9 => h9) rfl (by decide +kernel) rfl rfl (Nat.le_of_ble_eq_true rfl) dX6_init_105 (fun H locs hP hD hS => ?_)
          have hP : va_P D vwCl [enO sh 5 [.ref pa, .ref ra, .ref ia, .int (iI (g (5 + p1) - sg (fun k => mPt g p1 k) (i + 1)))], enI cA pa n0 (tkF (fun k => mPt g p1 k) (i + 1)), enI cA ra n0 (tkF (fun k => mRm g p1 k) (i + 1)), enZ cA ia n0 (tkF (fun k => bI (0 < g (12 + 7 * p1 + k))) (i + 1))] H := hP
          have hD : va_D _ [enO sh 5 [.ref pa, .ref ra, .ref ia, .int (iI (g (5 + p1) - sg (fun k => mPt g p1 k) (i + 1)))], enI cA pa n0 (tkF (fun k => mPt g p1 k) (i + 1)), enI cA ra n0 (tkF (fun k => mRm g p1 k) (i + 1)), enZ cA ia n0 (tkF (fun k => bI (0 < g (12 + 7 * p1 + k))) (i + 1))] := hD
          refine z_iinc (y := ↑(i + 1)) (lv' := [(4, .int (iI (↑(i + 1)))), (0, .ref sh), (1, .int (iI (g (5 + p1)))), (2, .ref da), (3, .int (iI (mOb g p1)))]) hX dX6_init_108 hl (k := 4) rfl (by omega) (by decide) rfl (fun ls hl => ?_)
          refine lv_goto (tgt := 36) hx hb dX6_init_111 (by decide) ?_
          exact ih36 (i + 1) (by omega) (by omega) _ _ _ hP hD hS (lv_sub hl [1, 2, 3, 4, 0] rfl)
  refine W.widen (k := 3) (n := n0 + n0 + n0) (by omega) (by omega) ?_
  have z1 := tkF_0 (f := fun k => mPt g p1 k)
  have z2 := tkF_0 (f := fun k => mRm g p1 k)
  have z3 := tkF_0 (f := fun k => bI (0 < g (12 + 7 * p1 + k)))
  have hP : va_P D vwCl [enO sh 5 [.ref pa, .ref ra, .ref ia, .int (iI (g (5 + p1) - sg (fun k => mPt g p1 k) 0))], enI cA pa n0 (tkF (fun k => mPt g p1 k) 0), enI cA ra n0 (tkF (fun k => mRm g p1 k) 0), enZ cA ia n0 (tkF (fun k => bI (0 < g (12 + 7 * p1 + k))) 0)] H := by
    rw [← z1, ← z2, ← z3, show g (5 + p1) - sg (fun k => mPt g p1 k) 0 = g (5 + p1) from Int.sub_zero _]; exact hP
  have hD : va_D (wA (wL [enO sh 5 [.null, .null, .null, .int (iI (0))]]) sz) [enO sh 5 [.ref pa, .ref ra, .ref ia, .int (iI (g (5 + p1) - sg (fun k => mPt g p1 k) 0))], enI cA pa n0 (tkF (fun k => mPt g p1 k) 0), enI cA ra n0 (tkF (fun k => mRm g p1 k) 0), enZ cA ia n0 (tkF (fun k => bI (0 < g (12 + 7 * p1 + k))) 0)] := by
    rw [← z1, ← z2, ← z3, show g (5 + p1) - sg (fun k => mPt g p1 k) 0 = g (5 + p1) from Int.sub_zero _]; exact hD
  exact L36 (n0 + 1) (0) (by omega) (by omega) _ _ _ hP hD hS (lv_sub hl [1, 2, 3, 4, 0] rfl)
theorem hm_0z {g : Nat → Int} {p n : Nat} : (fun _ => (0 : Int)) = tkF (hmF g p ((0 : Nat) : Int)) n := hm_0
set_option maxHeartbeats 4000000 in
theorem c_X6_give {l : Launch} {D : va_G} {Z : zZ} {cA : Nat → ClassId} (hZ : zOk Z) (hfl : l.stackTraces = false) (hz : ∀ A U H, Z A U H → zT9 A U H) (sz : Nat) {sh pa ra ia : Nat} {B : Int} (g : Nat → Int) (hg : gOk g B) (hB : B ≤ 2000000) (n0 : Nat) (hn : g 0 = n0 ∧ n0 ≤ 7) (p1 : Nat) (hp1 : p1 < 7) (hO : 0 < mOb g p1)  : Met l yX6_give (ws_ yX6_give cX6_give 7 (some (.array .int))) { frames := 0, cells := 2, slots := 14, locals := 0 } (wPc D vwCl (tyL cA) Z (wL []) (shW sh pa ra ia cA g p1 n0) [.ref sh] sz zO) (nQq D (fun r ws => ∃ gv, r = some gv ∧ ws = [enI cA gv n0 (tkF (fun k => mSh g p1 k) n0)] ∧ va_D (wA (wL []) sz) ws) (wA (wL []) sz)) 2 14 (wA (wL []) sz) := by
  refine l_met (cc := cX6_give) (maxL := 7) (ret := some (.array .int)) (own := RX6) (by decide) rfl rfl (Nat.le_of_ble_eq_true rfl) ?_
  intro p e s m below meth c hX hnm hsz hK hP hD hA hE hS hR hN ls hl
  have hx := hX.1
  have hb := hX.2.1
  have hz0 := hz _ _ _ hE
  have hl : lv_has ls 7 [(0, .ref sh)] := hl
  have hlc := mLeft_cn hg hp1 hO
  have hc7 := mCn_7 (g := g) (p := p1)
  have hrm := fun k => mRm_bd (k := k) hO
  have hob := mOb_bd hg hp1
  refine lv_aload_n hx hb dX6_give_0 rfl (lv_at hl 0 rfl) ?_
  refine n_get hX hK (hR _ _ hS) in_X6 0 rfl vw_X6 0 (by decide) q547 rfl dX6_give_1 ?_
  refine va_alen hX.1 hX.2.1 hK (hR _ _ hS) 1 0 rfl ty_0 (v := iI ((n0 : Nat) : Int)) rfl dX6_give_4 ?_
  refine z_newa hX hK hP hD hS hA .int 0 (ty := .int) rfl (q165) rfl (n0, .inl (fun _ => iI 0)) n0 (fun _ => rfl) (rfl) (by omega) (by show n0 * 4 ≤ 536870912; omega) (Nat.le_of_ble_eq_true rfl) (by show 0 + n0 ≤ 14; omega) dX6_give_5 (fun gv H hP hD hS => ?_)
  have hP : va_P D vwCl [enI cA gv n0 (fun _ => 0)] H := hP
  have hD : va_D _ [enI cA gv n0 (fun _ => 0)] := hD
  refine lv_astore_n (lv' := [(1, .ref gv), (0, .ref sh)]) hx hb dX6_give_7 rfl hl (by decide) rfl (fun ls hl => ?_)
  refine lv_aload_n hx hb dX6_give_8 rfl (lv_at hl 1 rfl) ?_
  refine n_get hX hK (hR _ _ hS) in_X6 0 rfl vw_X6 0 (by decide) q547 rfl dX6_give_9 ?_
  refine va_alen hX.1 hX.2.1 hK (hR _ _ hS) 1 0 rfl ty_0 (v := iI ((n0 : Nat) : Int)) rfl dX6_give_12 ?_
  refine z_newa hX hK hP hD hS hA .boolean 2 (ty := .boolean) rfl (q560) rfl (n0, .inl (fun _ => iI 0)) n0 (fun _ => rfl) (rfl) (by omega) (by show n0 * 1 ≤ 536870912; omega) (Nat.le_of_ble_eq_true rfl) (by show 0 + n0 + n0 ≤ 14; omega) dX6_give_13 (fun hm H hP hD hS => ?_)
  have hP : va_P D vwCl [enI cA gv n0 (fun _ => 0), enZ cA hm n0 (fun _ => 0)] H := hP
  have hD : va_D _ [enI cA gv n0 (fun _ => 0), enZ cA hm n0 (fun _ => 0)] := hD
  refine W.eq (g2 := F0 m 15 ls [.ref hm]) rfl ?_
  refine lv_astore_n (lv' := [(2, .ref hm), (1, .ref gv), (0, .ref sh)]) hx hb dX6_give_15 rfl hl (by decide) rfl (fun ls hl => ?_)
  refine z_iconst hX dX6_give_16 ?_
  refine z_top (y := ↑(0 : Nat)) (rfl) ?_
  refine lv_istore_n (lv' := [(3, .int (iI (↑(0 : Nat)))), (2, .ref hm), (1, .ref gv), (0, .ref sh)]) hx hb dX6_give_17 rfl hl (by decide) rfl (fun ls hl => ?_)
  have L18 : ∀ (n : Nat) (L : Nat), (mLeft g p1 < L + n) → ((L : Int) ≤ mLeft g p1) → ∀ (H : Heap) (locs : List Loc) (ls : Array Slot), va_P D vwCl [enI cA gv n0 (fun _ => 0), enZ cA hm n0 (tkF (hmF g p1 L) n0)] H → va_D (wA (wL []) sz) [enI cA gv n0 (fun _ => 0), enZ cA hm n0 (tkF (hmF g p1 L) n0)] → va_S (wA (wL []) sz) s.heap H locs → lv_has ls 7 [(0, .ref sh), (1, .ref gv), (2, .ref hm), (3, .int (iI (↑L)))] → W p l e (headSpec (ws_ yX6_give cX6_give 7 (some (.array .int))) { frames := 0, cells := 2, slots := 14, locals := 0 }).room s m ([.ref sh] : List Value).toArray below meth c H locs 2 (n0 + n0) (MQ below (nQq D (fun r ws => ∃ gv, r = some gv ∧ ws = [enI cA gv n0 (tkF (fun k => mSh g p1 k) n0)] ∧ va_D (wA (wL []) sz) ws) (wA (wL []) sz)) ([.ref sh] : List Value).toArray s 2 14 (wA (wL []) sz)) (F0 m 18 ls []) := by
    intro n
    induction n with
    | zero =>
      intro L hf hL H locs ls hP hD hS hl
      exact absurd hf (by omega)
    | succ n ih18 =>
      intro L hf hL H locs ls hP hD hS hl
      refine lv_iload_n hx hb dX6_give_18 rfl (lv_at hl 3 rfl) ?_
      refine lv_aload_n hx hb dX6_give_19 rfl (lv_at hl 0 rfl) ?_
      refine n_get hX hK (hR _ _ hS) in_X6 0 rfl vw_X6 3 (by decide) q550 rfl dX6_give_20 ?_
      refine z_icmp_ge (tgt := 120) hX (by omega) dX6_give_23 (by decide) (fun c_23 => ?_) (fun c_23 => ?_)
      · skip
        have hLe : (L : Int) = mLeft g p1 := by omega
        refine z_iconst hX dX6_give_120 ?_
        refine z_top (y := ↑(0 : Nat)) (rfl) ?_
        refine lv_istore_n (lv' := [(3, .int (iI (↑(0 : Nat)))), (0, .ref sh), (1, .ref gv), (2, .ref hm)]) hx hb dX6_give_121 rfl hl (by decide) rfl (fun ls hl => ?_)
        have L122 : ∀ (n : Nat) (i : Nat), (n0 < i + n) → (i ≤ n0) → ∀ (H : Heap) (locs : List Loc) (ls : Array Slot), va_P D vwCl [enI cA gv n0 (tkF (fun k => mSh g p1 k) i), enZ cA hm n0 (tkF (hmF g p1 (mLeft g p1)) n0)] H → va_D (wA (wL []) sz) [enI cA gv n0 (tkF (fun k => mSh g p1 k) i), enZ cA hm n0 (tkF (hmF g p1 (mLeft g p1)) n0)] → va_S (wA (wL []) sz) s.heap H locs → lv_has ls 7 [(0, .ref sh), (1, .ref gv), (2, .ref hm), (3, .int (iI (↑i)))] → W p l e (headSpec (ws_ yX6_give cX6_give 7 (some (.array .int))) { frames := 0, cells := 2, slots := 14, locals := 0 }).room s m ([.ref sh] : List Value).toArray below meth c H locs 2 (n0 + n0) (MQ below (nQq D (fun r ws => ∃ gv, r = some gv ∧ ws = [enI cA gv n0 (tkF (fun k => mSh g p1 k) n0)] ∧ va_D (wA (wL []) sz) ws) (wA (wL []) sz)) ([.ref sh] : List Value).toArray s 2 14 (wA (wL []) sz)) (F0 m 122 ls []) := by
          intro n
          induction n with
          | zero =>
            intro i hf hi H locs ls hP hD hS hl
            exact absurd hf (by omega)
          | succ n ih122 =>
            intro i hf hi H locs ls hP hD hS hl
            refine lv_iload_n hx hb dX6_give_122 rfl (lv_at hl 3 rfl) ?_
            refine W.eq (g2 := F0 m 123 ls [.int (iI (↑i))]) rfl ?_
            refine lv_aload_n hx hb dX6_give_123 rfl (lv_at hl 0 rfl) ?_
            refine n_get hX hK (hR _ _ hS) in_X6 0 rfl vw_X6 0 (by decide) q547 rfl dX6_give_124 ?_
            refine va_alen hX.1 hX.2.1 hK (hR _ _ hS) 1 0 rfl ty_0 (v := iI ((n0 : Nat) : Int)) rfl dX6_give_127 ?_
            refine z_icmp_ge (tgt := 158) hX (by omega) dX6_give_128 (by decide) (fun c_128 => ?_) (fun c_128 => ?_)
            · skip
              refine lv_aload_n hx hb dX6_give_158 rfl (lv_at hl 1 rfl) ?_
              obtain rfl : n0 = i := by omega
              have hP := hP.sub [0] rfl
              refine W.widen (k := 2) (n := 14) (Nat.le_of_ble_eq_true rfl) (by omega) ?_
              exact n_aret hX (Or.inr ⟨_, rfl⟩) hP hS (⟨gv, rfl, rfl, hD.sub [0] rfl rfl⟩) dX6_give_159
            · skip
              refine lv_aload_n hx hb dX6_give_131 rfl (lv_at hl 1 rfl) ?_
              refine lv_iload_n hx hb dX6_give_132 rfl (lv_at hl 3 rfl) ?_
              refine lv_aload_n hx hb dX6_give_133 rfl (lv_at hl 0 rfl) ?_
              refine n_get hX hK (hR _ _ hS) in_X6 0 rfl vw_X6 0 (by decide) q547 rfl dX6_give_134 ?_
              refine W.eq (g2 := F0 m 137 ls [.ref pa, .int (iI (↑i)), .ref gv]) rfl ?_
              refine lv_iload_n hx hb dX6_give_137 rfl (lv_at hl 3 rfl) ?_
              refine n_ald hX hK (hR _ _ hS) 1 rfl i (⟨rfl, by omega⟩) (by omega) dX6_give_138 ?_
              refine z_top (y := mPt g p1 i) (tk_r (by omega)) ?_
              refine lv_aload_n hx hb dX6_give_139 rfl (lv_at hl 2 rfl) ?_
              refine lv_iload_n hx hb dX6_give_140 rfl (lv_at hl 3 rfl) ?_
              refine n_zld hX hK hP 1 rfl i (⟨rfl, by omega⟩) (by omega) dX6_give_141 ?_
              refine z_top (y := bI (0 < g (12 + 7 * p1 + i) ∧ mRank g p1 i < mLeft g p1)) (tk_r (by omega)) ?_
              refine z_if_eqB (tgt := 149) hX dX6_give_142 (by decide) (fun c_142 => ?_) (fun c_142 => ?_)
              · skip
                refine z_iconst hX dX6_give_149 ?_
                refine z_iadd hX dX6_give_150 ?_
                refine z_top (y := mSh g p1 i) (by rw [mSh_h hg hp1 (by omega), bI_f c_142]) ?_
                refine n_ast hX hK hP hD hS 0 rfl (v := mSh g p1 i) i (⟨rfl, by omega⟩) (by omega) dX6_give_151 (fun H locs hP hD hS => ?_)
                have hP : va_P D vwCl [enI cA gv n0 (gU (tkF (fun k => mSh g p1 k) i) i (mSh g p1 i)), enZ cA hm n0 (tkF (hmF g p1 (mLeft g p1)) n0)] H := hP
                have hD : va_D _ [enI cA gv n0 (gU (tkF (fun k => mSh g p1 k) i) i (mSh g p1 i)), enZ cA hm n0 (tkF (hmF g p1 (mLeft g p1)) n0)] := hD
                rw [show (gU (tkF (fun k => mSh g p1 k) i) i (mSh g p1 i)) = tkF (fun k => mSh g p1 k) (i + 1) from tkF_s] at hP hD
                refine z_iinc (y := ↑(i + 1)) (lv' := [(3, .int (iI (↑(i + 1)))), (0, .ref sh), (1, .ref gv), (2, .ref hm)]) hX dX6_give_152 hl (k := 3) rfl (by omega) (by decide) rfl (fun ls hl => ?_)
                refine lv_goto (tgt := 122) hx hb dX6_give_155 (by decide) ?_
                exact ih122 (i + 1) (by omega) (by omega) _ _ _ hP hD hS (lv_sub hl [1, 2, 3, 0] rfl)
              · skip
                refine z_iconst hX dX6_give_145 ?_
                refine lv_goto (tgt := 150) hx hb dX6_give_146 (by decide) ?_
                refine z_iadd hX dX6_give_150 ?_
                refine z_top (y := mSh g p1 i) (by rw [mSh_h hg hp1 (by omega), bI_t c_142]) ?_
                refine n_ast hX hK hP hD hS 0 rfl (v := mSh g p1 i) i (⟨rfl, by omega⟩) (by omega) dX6_give_151 (fun H locs hP hD hS => ?_)
                have hP : va_P D vwCl [enI cA gv n0 (gU (tkF (fun k => mSh g p1 k) i) i (mSh g p1 i)), enZ cA hm n0 (tkF (hmF g p1 (mLeft g p1)) n0)] H := hP
                have hD : va_D _ [enI cA gv n0 (gU (tkF (fun k => mSh g p1 k) i) i (mSh g p1 i)), enZ cA hm n0 (tkF (hmF g p1 (mLeft g p1)) n0)] := hD
                rw [show (gU (tkF (fun k => mSh g p1 k) i) i (mSh g p1 i)) = tkF (fun k => mSh g p1 k) (i + 1) from tkF_s] at hP hD
                refine z_iinc (y := ↑(i + 1)) (lv' := [(3, .int (iI (↑(i + 1)))), (0, .ref sh), (1, .ref gv), (2, .ref hm)]) hX dX6_give_152 hl (k := 3) rfl (by omega) (by decide) rfl (fun ls hl => ?_)
                refine lv_goto (tgt := 122) hx hb dX6_give_155 (by decide) ?_
                exact ih122 (i + 1) (by omega) (by omega) _ _ _ hP hD hS (lv_sub hl [1, 2, 3, 0] rfl)
        rw [hLe] at hP hD
        rw [tkF_0 (f := fun k => mSh g p1 k)] at hP hD
        exact L122 (n0 + 1) (0) (by omega) (by omega) _ _ _ hP hD hS (lv_sub hl [1, 2, 3, 0] rfl)
      · skip
        refine z_iconst hX dX6_give_26 ?_
        refine lv_istore (lv' := [(4, .int (iI (-1))), (0, .ref sh), (1, .ref gv), (2, .ref hm), (3, .int (iI (↑L)))]) hx hb dX6_give_27 hl (by decide) rfl (fun ls hl => ?_)
        refine z_iconst hX dX6_give_29 ?_
        refine z_top (y := ↑(0 : Nat)) (rfl) ?_
        refine W.eq (g2 := F0 m 30 ls [.int (iI (↑(0 : Nat)))]) rfl ?_
        refine lv_istore (lv' := [(5, .int (iI (↑(0 : Nat)))), (4, .int (iI (-1))), (0, .ref sh), (1, .ref gv), (2, .ref hm), (3, .int (iI (↑L)))]) hx hb dX6_give_30 hl (by decide) rfl (fun ls hl => ?_)
        have L32 : ∀ (n : Nat) (i : Nat) (b : Int), (n0 < i + n) → (i ≤ n0) → (b = bsF g p1 L i) → ∀ (H : Heap) (locs : List Loc) (ls : Array Slot), va_P D vwCl [enI cA gv n0 (fun _ => 0), enZ cA hm n0 (tkF (hmF g p1 L) n0)] H → va_D (wA (wL []) sz) [enI cA gv n0 (fun _ => 0), enZ cA hm n0 (tkF (hmF g p1 L) n0)] → va_S (wA (wL []) sz) s.heap H locs → lv_has ls 7 [(0, .ref sh), (1, .ref gv), (2, .ref hm), (3, .int (iI (↑L))), (4, .int (iI (b))), (5, .int (iI (↑i)))] → W p l e (headSpec (ws_ yX6_give cX6_give 7 (some (.array .int))) { frames := 0, cells := 2, slots := 14, locals := 0 }).room s m ([.ref sh] : List Value).toArray below meth c H locs 2 (n0 + n0) (MQ below (nQq D (fun r ws => ∃ gv, r = some gv ∧ ws = [enI cA gv n0 (tkF (fun k => mSh g p1 k) n0)] ∧ va_D (wA (wL []) sz) ws) (wA (wL []) sz)) ([.ref sh] : List Value).toArray s 2 14 (wA (wL []) sz)) (F0 m 32 ls []) := by
          intro n
          induction n with
          | zero =>
            intro i b hf hi hb9 H locs ls hP hD hS hl
            exact absurd hf (by omega)
          | succ n ih32 =>
            intro i b hf hi hb9 H locs ls hP hD hS hl
            have hbb := bs_bd (g := g) (p := p1) (L := L) i
            rw [← hb9] at hbb
            refine lv_iload hx hb dX6_give_32 (lv_at hl 5 rfl) ?_
            refine lv_aload_n hx hb dX6_give_34 rfl (lv_at hl 0 rfl) ?_
            refine n_get hX hK (hR _ _ hS) in_X6 0 rfl vw_X6 0 (by decide) q547 rfl dX6_give_35 ?_
            refine va_alen hX.1 hX.2.1 hK (hR _ _ hS) 1 0 rfl ty_0 (v := iI ((n0 : Nat) : Int)) rfl dX6_give_38 ?_
            refine z_icmp_ge (tgt := 109) hX (by omega) dX6_give_39 (by decide) (fun c_39 => ?_) (fun c_39 => ?_)
            · skip
              obtain rfl : n0 = i := by omega
              have hbr := bs_rank hg hn hp1 (L := L) (by omega)
              rw [← hb9] at hbr
              refine lv_aload_n hx hb dX6_give_109 rfl (lv_at hl 2 rfl) ?_
              refine lv_iload hx hb dX6_give_110 (lv_at hl 4 rfl) ?_
              refine z_iconst hX dX6_give_112 ?_
              refine n_zst hX hK hP hD hS 1 rfl (v := 1) (by decide) (b.toNat) (by omega) (by omega) dX6_give_113 (fun H locs hP hD hS => ?_)
              have hP : va_P D vwCl [enI cA gv n0 (fun _ => 0), enZ cA hm n0 (gU (tkF (hmF g p1 L) n0) (b.toNat) 1)] H := hP
              have hD : va_D _ [enI cA gv n0 (fun _ => 0), enZ cA hm n0 (gU (tkF (hmF g p1 L) n0) (b.toNat) 1)] := hD
              rw [show (gU (tkF (hmF g p1 L) n0) (b.toNat) 1) = tkF (hmF g p1 ((L + 1 : Nat) : Int)) n0 from hm_s hn.2 (by omega) hbr.2.1 hbr.2.2] at hP hD
              refine W.eq (g2 := F0 m 114 ls []) rfl ?_
              refine z_iinc (y := ↑(L + 1)) (lv' := [(3, .int (iI (↑(L + 1)))), (0, .ref sh), (1, .ref gv), (2, .ref hm), (4, .int (iI (b))), (5, .int (iI (↑n0)))]) hX dX6_give_114 hl (k := 3) rfl (by omega) (by decide) rfl (fun ls hl => ?_)
              refine lv_goto (tgt := 18) hx hb dX6_give_117 (by decide) ?_
              exact ih18 (L + 1) (by omega) (by omega) _ _ _ hP hD hS (lv_sub hl [1, 2, 3, 0] rfl)
            · skip
              have hri := hrm i
              refine lv_iload hx hb dX6_give_42 (lv_at hl 4 rfl) ?_
              refine z_iconst hX dX6_give_44 ?_
              refine z_icmp_eq (tgt := 65) hX (by omega) dX6_give_45 (by decide) (fun c_45 => ?_) (fun c_45 => ?_)
              · skip
                refine z_iconst hX dX6_give_65 ?_
                refine lv_goto (tgt := 70) hx hb dX6_give_66 (by decide) ?_
                refine lv_istore (lv' := [(6, .int (iI (1))), (0, .ref sh), (1, .ref gv), (2, .ref hm), (3, .int (iI (↑L))), (4, .int (iI (b))), (5, .int (iI (↑i)))]) hx hb dX6_give_70 hl (by decide) rfl (fun ls hl => ?_)
                refine lv_aload_n hx hb dX6_give_72 rfl (lv_at hl 1 rfl) ?_
                refine n_get hX hK (hR _ _ hS) in_X6 0 rfl vw_X6 2 (by decide) q549 rfl dX6_give_73 ?_
                refine W.eq (g2 := F0 m 76 ls [.ref ia]) rfl ?_
                refine lv_iload hx hb dX6_give_76 (lv_at hl 6 rfl) ?_
                refine n_zld hX hK (hR _ _ hS) 3 rfl i (⟨rfl, by omega⟩) (by omega) dX6_give_78 ?_
                refine z_top (y := bI (0 < g (12 + 7 * p1 + i))) (tk_r (by omega)) ?_
                refine z_if_eqB (tgt := 99) hX dX6_give_79 (by decide) (fun c_79 => ?_) (fun c_79 => ?_)
                · skip
                  refine lv_iload hx hb dX6_give_99 (lv_at hl 5 rfl) ?_
                  refine lv_istore (lv' := [(4, .int (iI (b))), (6, .int (iI (1))), (0, .ref sh), (1, .ref gv), (2, .ref hm), (3, .int (iI (↑L))), (5, .int (iI (↑i)))]) hx hb dX6_give_101 hl (by decide) rfl (fun ls hl => ?_)
                  refine z_iinc (y := ↑(i + 1)) (lv' := [(5, .int (iI (↑(i + 1)))), (4, .int (iI (b))), (6, .int (iI (1))), (0, .ref sh), (1, .ref gv), (2, .ref hm), (3, .int (iI (↑L)))]) hX dX6_give_103 hl (k := 6) rfl (by omega) (by decide) rfl (fun ls hl => ?_)
                  refine lv_goto (tgt := 32) hx hb dX6_give_106 (by decide) ?_
                  exact ih32 (i + 1) (b) (by omega) (by omega) (by rw [bs_f (fun q9 => by first | exact c_79 q9.1 | exact q9.2.1 (c_86).2 | (have q8 := q9.2.2; rw [← hb9] at q8; rcases q8 with q8 | q8 <;> first | omega | exact absurd q8 (by omega))), ← hb9]) _ _ _ hP hD hS (lv_sub hl [3, 4, 5, 6, 1, 0] rfl)
                · skip
                  refine lv_aload_n hx hb dX6_give_82 rfl (lv_at hl 3 rfl) ?_
                  refine lv_iload hx hb dX6_give_83 (lv_at hl 6 rfl) ?_
                  refine n_zld hX hK hP 1 rfl i (⟨rfl, by omega⟩) (by omega) dX6_give_85 ?_
                  refine z_top (y := bI (0 < g (12 + 7 * p1 + i) ∧ mRank g p1 i < L)) (tk_r (by omega)) ?_
                  refine W.eq (g2 := F0 m 86 ls [.int (iI (bI (0 < g (12 + 7 * p1 + i) ∧ mRank g p1 i < L)))]) rfl ?_
                  refine z_if_neB (tgt := 99) hX dX6_give_86 (by decide) (fun c_86 => ?_) (fun c_86 => ?_)
                  · skip
                    refine lv_iload hx hb dX6_give_99 (lv_at hl 5 rfl) ?_
                    refine lv_istore (lv' := [(4, .int (iI (b))), (6, .int (iI (1))), (0, .ref sh), (1, .ref gv), (2, .ref hm), (3, .int (iI (↑L))), (5, .int (iI (↑i)))]) hx hb dX6_give_101 hl (by decide) rfl (fun ls hl => ?_)
                    refine z_iinc (y := ↑(i + 1)) (lv' := [(5, .int (iI (↑(i + 1)))), (4, .int (iI (b))), (6, .int (iI (1))), (0, .ref sh), (1, .ref gv), (2, .ref hm), (3, .int (iI (↑L)))]) hX dX6_give_103 hl (k := 6) rfl (by omega) (by decide) rfl (fun ls hl => ?_)
                    refine lv_goto (tgt := 32) hx hb dX6_give_106 (by decide) ?_
                    exact ih32 (i + 1) (b) (by omega) (by omega) (by rw [bs_f (fun q9 => by first | exact c_79 q9.1 | exact q9.2.1 (c_86).2 | (have q8 := q9.2.2; rw [← hb9] at q8; rcases q8 with q8 | q8 <;> first | omega | exact absurd q8 (by omega))), ← hb9]) _ _ _ hP hD hS (lv_sub hl [3, 4, 5, 6, 1, 0] rfl)
                  · skip
                    refine lv_iload hx hb dX6_give_89 (lv_at hl 0 rfl) ?_
                    refine z_if_eq (tgt := 99) hX (by decide) dX6_give_91 (by decide) (fun h9 => absurd h9 (by decide)) (fun h9 => ?_)
                    refine lv_iload hx hb dX6_give_94 (lv_at hl 6 rfl) ?_
                    refine lv_goto (tgt := 101) hx hb dX6_give_96 (by decide) ?_
                    refine lv_istore (lv' := [(4, .int (iI (↑i))), (6, .int (iI (1))), (0, .ref sh), (1, .ref gv), (2, .ref hm), (3, .int (iI (↑L))), (5, .int (iI (↑i)))]) hx hb dX6_give_101 hl (by decide) rfl (fun ls hl => ?_)
                    refine W.eq (g2 := F0 m 103 ls []) rfl ?_
                    refine z_iinc (y := ↑(i + 1)) (lv' := [(5, .int (iI (↑(i + 1)))), (4, .int (iI (↑i))), (6, .int (iI (1))), (0, .ref sh), (1, .ref gv), (2, .ref hm), (3, .int (iI (↑L)))]) hX dX6_give_103 hl (k := 6) rfl (by omega) (by decide) rfl (fun ls hl => ?_)
                    refine lv_goto (tgt := 32) hx hb dX6_give_106 (by decide) ?_
                    exact ih32 (i + 1) (↑i) (by omega) (by omega) ((bs_t c_79 (fun q9 => c_86 ⟨c_79, q9⟩) (by rw [← hb9]; first | exact Or.inl c_45 | exact Or.inr c_62)).symm) _ _ _ hP hD hS (lv_sub hl [3, 4, 5, 6, 1, 0] rfl)
              · skip
                have hrb := hrm b.toNat
                refine lv_aload_n hx hb dX6_give_48 rfl (lv_at hl 0 rfl) ?_
                refine n_get hX hK (hR _ _ hS) in_X6 0 rfl vw_X6 1 (by decide) q548 rfl dX6_give_49 ?_
                refine lv_iload hx hb dX6_give_52 (lv_at hl 5 rfl) ?_
                refine n_ald hX hK (hR _ _ hS) 2 rfl i (⟨rfl, by omega⟩) (by omega) dX6_give_54 ?_
                refine z_top (y := mRm g p1 i) (tk_r (by omega)) ?_
                refine lv_aload_n hx hb dX6_give_55 rfl (lv_at hl 0 rfl) ?_
                refine n_get hX hK (hR _ _ hS) in_X6 0 rfl vw_X6 1 (by decide) q548 rfl dX6_give_56 ?_
                refine lv_iload hx hb dX6_give_59 (lv_at hl 4 rfl) ?_
                refine n_ald hX hK (hR _ _ hS) 2 rfl (b.toNat) (by omega) (by omega) dX6_give_61 ?_
                refine z_top (y := mRm g p1 b.toNat) (tk_r (by omega)) ?_
                refine W.eq (g2 := F0 m 62 ls [.int (iI (mRm g p1 b.toNat)), .int (iI (mRm g p1 i))]) rfl ?_
                refine z_icmp_le (tgt := 69) hX (by omega) dX6_give_62 (by decide) (fun c_62 => ?_) (fun c_62 => ?_)
                · skip
                  refine z_iconst hX dX6_give_69 ?_
                  refine lv_istore (lv' := [(6, .int (iI (0))), (0, .ref sh), (1, .ref gv), (2, .ref hm), (3, .int (iI (↑L))), (4, .int (iI (b))), (5, .int (iI (↑i)))]) hx hb dX6_give_70 hl (by decide) rfl (fun ls hl => ?_)
                  refine lv_aload_n hx hb dX6_give_72 rfl (lv_at hl 1 rfl) ?_
                  refine n_get hX hK (hR _ _ hS) in_X6 0 rfl vw_X6 2 (by decide) q549 rfl dX6_give_73 ?_
                  refine lv_iload hx hb dX6_give_76 (lv_at hl 6 rfl) ?_
                  refine n_zld hX hK (hR _ _ hS) 3 rfl i (⟨rfl, by omega⟩) (by omega) dX6_give_78 ?_
                  refine z_top (y := bI (0 < g (12 + 7 * p1 + i))) (tk_r (by omega)) ?_
                  refine z_if_eqB (tgt := 99) hX dX6_give_79 (by decide) (fun c_79 => ?_) (fun c_79 => ?_)
                  · skip
                    refine lv_iload hx hb dX6_give_99 (lv_at hl 5 rfl) ?_
                    refine lv_istore (lv' := [(4, .int (iI (b))), (6, .int (iI (0))), (0, .ref sh), (1, .ref gv), (2, .ref hm), (3, .int (iI (↑L))), (5, .int (iI (↑i)))]) hx hb dX6_give_101 hl (by decide) rfl (fun ls hl => ?_)
                    refine W.eq (g2 := F0 m 103 ls []) rfl ?_
                    refine z_iinc (y := ↑(i + 1)) (lv' := [(5, .int (iI (↑(i + 1)))), (4, .int (iI (b))), (6, .int (iI (0))), (0, .ref sh), (1, .ref gv), (2, .ref hm), (3, .int (iI (↑L)))]) hX dX6_give_103 hl (k := 6) rfl (by omega) (by decide) rfl (fun ls hl => ?_)
                    refine lv_goto (tgt := 32) hx hb dX6_give_106 (by decide) ?_
                    exact ih32 (i + 1) (b) (by omega) (by omega) (by rw [bs_f (fun q9 => by first | exact c_79 q9.1 | exact q9.2.1 (c_86).2 | (have q8 := q9.2.2; rw [← hb9] at q8; rcases q8 with q8 | q8 <;> first | omega | exact absurd q8 (by omega))), ← hb9]) _ _ _ hP hD hS (lv_sub hl [3, 4, 5, 6, 1, 0] rfl)
                  · skip
                    refine lv_aload_n hx hb dX6_give_82 rfl (lv_at hl 3 rfl) ?_
                    refine lv_iload hx hb dX6_give_83 (lv_at hl 6 rfl) ?_
                    refine n_zld hX hK hP 1 rfl i (⟨rfl, by omega⟩) (by omega) dX6_give_85 ?_
                    refine z_top (y := bI (0 < g (12 + 7 * p1 + i) ∧ mRank g p1 i < L)) (tk_r (by omega)) ?_
                    refine z_if_neB (tgt := 99) hX dX6_give_86 (by decide) (fun c_86 => ?_) (fun c_86 => ?_)
                    · skip
                      refine lv_iload hx hb dX6_give_99 (lv_at hl 5 rfl) ?_
                      refine lv_istore (lv' := [(4, .int (iI (b))), (6, .int (iI (0))), (0, .ref sh), (1, .ref gv), (2, .ref hm), (3, .int (iI (↑L))), (5, .int (iI (↑i)))]) hx hb dX6_give_101 hl (by decide) rfl (fun ls hl => ?_)
                      refine z_iinc (y := ↑(i + 1)) (lv' := [(5, .int (iI (↑(i + 1)))), (4, .int (iI (b))), (6, .int (iI (0))), (0, .ref sh), (1, .ref gv), (2, .ref hm), (3, .int (iI (↑L)))]) hX dX6_give_103 hl (k := 6) rfl (by omega) (by decide) rfl (fun ls hl => ?_)
                      refine lv_goto (tgt := 32) hx hb dX6_give_106 (by decide) ?_
                      exact ih32 (i + 1) (b) (by omega) (by omega) (by rw [bs_f (fun q9 => by first | exact c_79 q9.1 | exact q9.2.1 (c_86).2 | (have q8 := q9.2.2; rw [← hb9] at q8; rcases q8 with q8 | q8 <;> first | omega | exact absurd q8 (by omega))), ← hb9]) _ _ _ hP hD hS (lv_sub hl [3, 4, 5, 6, 1, 0] rfl)
                    · skip
                      refine W.eq (g2 := F0 m 89 ls []) rfl ?_
                      refine lv_iload hx hb dX6_give_89 (lv_at hl 0 rfl) ?_
                      refine z_if_eq (tgt := 99) hX (by decide) dX6_give_91 (by decide) (fun h9 => ?_) (fun h9 => absurd h9 (by decide))
                      refine lv_iload hx hb dX6_give_99 (lv_at hl 5 rfl) ?_
                      refine lv_istore (lv' := [(4, .int (iI (b))), (6, .int (iI (0))), (0, .ref sh), (1, .ref gv), (2, .ref hm), (3, .int (iI (↑L))), (5, .int (iI (↑i)))]) hx hb dX6_give_101 hl (by decide) rfl (fun ls hl => ?_)
                      refine z_iinc (y := ↑(i + 1)) (lv' := [(5, .int (iI (↑(i + 1)))), (4, .int (iI (b))), (6, .int (iI (0))), (0, .ref sh), (1, .ref gv), (2, .ref hm), (3, .int (iI (↑L)))]) hX dX6_give_103 hl (k := 6) rfl (by omega) (by decide) rfl (fun ls hl => ?_)
                      refine lv_goto (tgt := 32) hx hb dX6_give_106 (by decide) ?_
                      exact ih32 (i + 1) (b) (by omega) (by omega) (by rw [bs_f (fun q9 => by first | exact c_79 q9.1 | exact q9.2.1 (c_86).2 | (have q8 := q9.2.2; rw [← hb9] at q8; rcases q8 with q8 | q8 <;> first | omega | exact absurd q8 (by omega))), ← hb9]) _ _ _ hP hD hS (lv_sub hl [3, 4, 5, 6, 1, 0] rfl)
                · skip
                  refine z_iconst hX dX6_give_65 ?_
                  refine lv_goto (tgt := 70) hx hb dX6_give_66 (by decide) ?_
                  refine lv_istore (lv' := [(6, .int (iI (1))), (0, .ref sh), (1, .ref gv), (2, .ref hm), (3, .int (iI (↑L))), (4, .int (iI (b))), (5, .int (iI (↑i)))]) hx hb dX6_give_70 hl (by decide) rfl (fun ls hl => ?_)
                  refine lv_aload_n hx hb dX6_give_72 rfl (lv_at hl 1 rfl) ?_
                  refine W.eq (g2 := F0 m 73 ls [.ref sh]) rfl ?_
                  refine n_get hX hK (hR _ _ hS) in_X6 0 rfl vw_X6 2 (by decide) q549 rfl dX6_give_73 ?_
                  refine lv_iload hx hb dX6_give_76 (lv_at hl 6 rfl) ?_
                  refine n_zld hX hK (hR _ _ hS) 3 rfl i (⟨rfl, by omega⟩) (by omega) dX6_give_78 ?_
                  refine z_top (y := bI (0 < g (12 + 7 * p1 + i))) (tk_r (by omega)) ?_
                  refine z_if_eqB (tgt := 99) hX dX6_give_79 (by decide) (fun c_79 => ?_) (fun c_79 => ?_)
                  · skip
                    refine lv_iload hx hb dX6_give_99 (lv_at hl 5 rfl) ?_
                    refine lv_istore (lv' := [(4, .int (iI (b))), (6, .int (iI (1))), (0, .ref sh), (1, .ref gv), (2, .ref hm), (3, .int (iI (↑L))), (5, .int (iI (↑i)))]) hx hb dX6_give_101 hl (by decide) rfl (fun ls hl => ?_)
                    refine z_iinc (y := ↑(i + 1)) (lv' := [(5, .int (iI (↑(i + 1)))), (4, .int (iI (b))), (6, .int (iI (1))), (0, .ref sh), (1, .ref gv), (2, .ref hm), (3, .int (iI (↑L)))]) hX dX6_give_103 hl (k := 6) rfl (by omega) (by decide) rfl (fun ls hl => ?_)
                    refine lv_goto (tgt := 32) hx hb dX6_give_106 (by decide) ?_
                    exact ih32 (i + 1) (b) (by omega) (by omega) (by rw [bs_f (fun q9 => by first | exact c_79 q9.1 | exact q9.2.1 (c_86).2 | (have q8 := q9.2.2; rw [← hb9] at q8; rcases q8 with q8 | q8 <;> first | omega | exact absurd q8 (by omega))), ← hb9]) _ _ _ hP hD hS (lv_sub hl [3, 4, 5, 6, 1, 0] rfl)
                  · skip
                    refine lv_aload_n hx hb dX6_give_82 rfl (lv_at hl 3 rfl) ?_
                    refine lv_iload hx hb dX6_give_83 (lv_at hl 6 rfl) ?_
                    refine W.eq (g2 := F0 m 85 ls [.int (iI (↑i)), .ref hm]) rfl ?_
                    refine n_zld hX hK hP 1 rfl i (⟨rfl, by omega⟩) (by omega) dX6_give_85 ?_
                    refine z_top (y := bI (0 < g (12 + 7 * p1 + i) ∧ mRank g p1 i < L)) (tk_r (by omega)) ?_
                    refine z_if_neB (tgt := 99) hX dX6_give_86 (by decide) (fun c_86 => ?_) (fun c_86 => ?_)
                    · skip
                      refine lv_iload hx hb dX6_give_99 (lv_at hl 5 rfl) ?_
                      refine lv_istore (lv' := [(4, .int (iI (b))), (6, .int (iI (1))), (0, .ref sh), (1, .ref gv), (2, .ref hm), (3, .int (iI (↑L))), (5, .int (iI (↑i)))]) hx hb dX6_give_101 hl (by decide) rfl (fun ls hl => ?_)
                      refine z_iinc (y := ↑(i + 1)) (lv' := [(5, .int (iI (↑(i + 1)))), (4, .int (iI (b))), (6, .int (iI (1))), (0, .ref sh), (1, .ref gv), (2, .ref hm), (3, .int (iI (↑L)))]) hX dX6_give_103 hl (k := 6) rfl (by omega) (by decide) rfl (fun ls hl => ?_)
                      refine lv_goto (tgt := 32) hx hb dX6_give_106 (by decide) ?_
                      exact ih32 (i + 1) (b) (by omega) (by omega) (by rw [bs_f (fun q9 => by first | exact c_79 q9.1 | exact q9.2.1 (c_86).2 | (have q8 := q9.2.2; rw [← hb9] at q8; rcases q8 with q8 | q8 <;> first | omega | exact absurd q8 (by omega))), ← hb9]) _ _ _ hP hD hS (lv_sub hl [3, 4, 5, 6, 1, 0] rfl)
                    · skip
                      refine lv_iload hx hb dX6_give_89 (lv_at hl 0 rfl) ?_
                      refine z_if_eq (tgt := 99) hX (by decide) dX6_give_91 (by decide) (fun h9 => absurd h9 (by decide)) (fun h9 => ?_)
                      refine lv_iload hx hb dX6_give_94 (lv_at hl 6 rfl) ?_
                      refine lv_goto (tgt := 101) hx hb dX6_give_96 (by decide) ?_
                      refine W.eq (g2 := F0 m 101 ls [.int (iI (↑i))]) rfl ?_
                      refine lv_istore (lv' := [(4, .int (iI (↑i))), (6, .int (iI (1))), (0, .ref sh), (1, .ref gv), (2, .ref hm), (3, .int (iI (↑L))), (5, .int (iI (↑i)))]) hx hb dX6_give_101 hl (by decide) rfl (fun ls hl => ?_)
                      refine z_iinc (y := ↑(i + 1)) (lv' := [(5, .int (iI (↑(i + 1)))), (4, .int (iI (↑i))), (6, .int (iI (1))), (0, .ref sh), (1, .ref gv), (2, .ref hm), (3, .int (iI (↑L)))]) hX dX6_give_103 hl (k := 6) rfl (by omega) (by decide) rfl (fun ls hl => ?_)
                      refine lv_goto (tgt := 32) hx hb dX6_give_106 (by decide) ?_
                      exact ih32 (i + 1) (↑i) (by omega) (by omega) ((bs_t c_79 (fun q9 => c_86 ⟨c_79, q9⟩) (by rw [← hb9]; first | exact Or.inl c_45 | exact Or.inr c_62)).symm) _ _ _ hP hD hS (lv_sub hl [3, 4, 5, 6, 1, 0] rfl)
        exact L32 (n0 + 1) (0) (-1) (by omega) (by omega) (rfl) _ _ _ hP hD hS (lv_sub hl [2, 3, 4, 5, 1, 0] rfl)
  refine W.widen (k := 2) (n := n0 + n0) (by omega) (by omega) ?_
  have hP : va_P D vwCl [enI cA gv n0 (fun _ => 0), enZ cA hm n0 (tkF (hmF g p1 ((0 : Nat) : Int)) n0)] H := by rw [← hm_0z]; exact hP
  have hD : va_D (wA (wL []) sz) [enI cA gv n0 (fun _ => 0), enZ cA hm n0 (tkF (hmF g p1 ((0 : Nat) : Int)) n0)] := by rw [← hm_0z]; exact hD
  exact L18 (8) (0) (by omega) (hlc.1) _ _ _ hP hD hS (lv_sub hl [3, 2, 1, 0] rfl)
