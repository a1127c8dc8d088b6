/-! the fewest payments by trying -/
set_option maxRecDepth 100000
/-- the others tried in turn -/
def ffG (rec : (Nat → Int) → Int) (f : Nat → Int) (i : Nat) (M : Int) : Nat → Int
  | 0 => M
  | j + 1 => if ¬ ((0 < f i) ↔ (0 < f (i + 1 + j))) ∧ f (i + 1 + j) ≠ 0 then min (ffG rec f i M j) (1 + rec (gU f (i + 1 + j) (f (i + 1 + j) + f i))) else ffG rec f i M j
/-- the fewest payments of the places from i on (c of them) -/
def ffF (m : Nat) : Nat → Nat → (Nat → Int) → Int
  | 0, _, _ => 0
  | c + 1, i, f => if f i = 0 then ffF m c (i + 1) f else ffG (ffF m c (i + 1)) f i m c
theorem ffF_z {m c i : Nat} {f : Nat → Int} (h : f i = 0) : ffF m (c + 1) i f = ffF m c (i + 1) f := if_pos h
theorem ffF_n {m c i : Nat} {f : Nat → Int} (h : f i ≠ 0) : ffF m (c + 1) i f = ffG (ffF m c (i + 1)) f i m c := if_neg h
theorem ffG_bd {rec : (Nat → Int) → Int} {f : Nat → Int} {i : Nat} {M : Int} (hr : ∀ f, 0 ≤ rec f) (hM : 0 ≤ M) : ∀ j, 0 ≤ ffG rec f i M j ∧ ffG rec f i M j ≤ M := by
  intro j
  induction j with
  | zero => exact ⟨hM, Int.le_refl _⟩
  | succ j ih =>
    unfold ffG
    split
    · have := hr (gU f (i + 1 + j) (f (i + 1 + j) + f i)); omega
    · exact ih
theorem ffF_bd {m : Nat} : ∀ c i f, 0 ≤ ffF m c i f ∧ ffF m c i f ≤ m := by
  intro c
  induction c with
  | zero => intro i f; exact ⟨Int.le_refl _, Int.natCast_nonneg m⟩
  | succ c ih =>
    intro i f
    unfold ffF
    split
    · exact ih _ _
    · exact ffG_bd (fun f => (ih _ f).1) (Int.natCast_nonneg m) c
theorem gU_back {f : Nat → Int} {k : Nat} {v : Int} : gU (gU f k (f k + v)) k (f k + v - v) = f := by
  rw [gU_uu, show f k + v - v = f k by omega, gU_self]
set_option maxHeartbeats 4000000 in
theorem c_X2_fewestFrom_s {l : Launch} {D : va_G} {Z : zZ} {cA : Nat → ClassId} (hZ : zOk Z) (hfl : l.stackTraces = false) (hz : ∀ A U H, Z A U H → zT9 A U H) (sz : Nat) {pv : Nat} (mm : Nat) (hm7 : mm ≤ 7) (c9 : Nat) (ih : ∀ c, c < c9 → ∀ (i : Nat) (f : Nat → Int) (b E1 : Int) (sz : Nat), E1 = (i : Int) → i + c = mm → 0 ≤ b → (∀ k, -b ≤ f k ∧ f k ≤ b) → b * 2 ^ c ≤ 1000000000 → Met l yX2_fewestFrom (ws_ yX2_fewestFrom cX2_fewestFrom 5 (some .int)) { frames := c + 1, cells := 0, slots := 0, locals := 40 + 40 * c } (wPc D vwCl (tyL cA) Z (wL [enI cA pv mm f]) [] [.int (iI E1), .ref pv] sz zO) (nQi D (fun r ws => r = iI (ffF mm c i f) ∧ ws = [enI cA pv mm f]) (wA (wL [enI cA pv mm f]) sz)) 0 0 (wA (wL [enI cA pv mm f]) sz)) (i : Nat) (f : Nat → Int) (b E1 : Int) (h1 : E1 = (i : Int)) (hic : i + c9 = mm) (hb0 : 0 ≤ b) (hfb : ∀ k, -b ≤ f k ∧ f k ≤ b) (hbw : b * 2 ^ c9 ≤ 1000000000) : Met l yX2_fewestFrom (ws_ yX2_fewestFrom cX2_fewestFrom 5 (some .int)) { frames := c9 + 1, cells := 0, slots := 0, locals := 40 + 40 * c9 } (wPc D vwCl (tyL cA) Z (wL [enI cA pv mm f]) [] [.int (iI E1), .ref pv] sz zO) (nQi D (fun r ws => r = iI (ffF mm c9 i f) ∧ ws = [enI cA pv mm f]) (wA (wL [enI cA pv mm f]) sz)) 0 0 (wA (wL [enI cA pv mm f]) sz) := by
  subst h1
  refine l_met (cc := cX2_fewestFrom) (maxL := 5) (ret := some .int) (own := RX2) (by decide) rfl rfl (Nat.le_of_ble_eq_true rfl) ?_
  intro p e s m below meth c hX hnm hsz hK hP hD hA hE hS hR hN ls hl
  have hx := hX.1
  have hb := hX.2.1
  have hz0 := hz _ _ _ hE
  have hl : lv_has ls 5 [(0, .int (iI (↑i))), (1, .ref pv)] := hl
  have hbb : b ≤ 1000000000 := by
    have h1 : (1 : Int) ≤ 2 ^ c9 := by exact_mod_cast Nat.two_pow_pos c9
    have h2 : b * 1 ≤ b * 2 ^ c9 := Int.mul_le_mul_of_nonneg_left h1 hb0
    omega
  refine lv_iload_n hx hb dX2_fewestFrom_0 rfl (lv_at hl 0 rfl) ?_
  refine lv_istore_n (lv' := [(2, .int (iI (↑i))), (0, .int (iI (↑i))), (1, .ref pv)]) hx hb dX2_fewestFrom_1 rfl hl (by decide) rfl (fun ls hl => ?_)
  have L2 : ∀ (n : Nat) (k : Nat), (mm < k + n) → (i ≤ k ∧ k ≤ mm) → (ffF mm c9 i f = ffF mm (mm - k) k f) → ∀ (H : Heap) (locs : List Loc) (ls : Array Slot), va_P D vwCl [enI cA pv mm f] H → va_D (wA (wL [enI cA pv mm f]) sz) [enI cA pv mm f] → va_S (wA (wL [enI cA pv mm f]) sz) s.heap H locs → lv_has ls 5 [(1, .ref pv), (2, .int (iI (↑k)))] → W p l e (headSpec (ws_ yX2_fewestFrom cX2_fewestFrom 5 (some .int)) { frames := c9 + 1, cells := 0, slots := 0, locals := 40 + 40 * c9 }).room s m ([.int (iI (↑i)), .ref pv] : List Value).toArray below meth c H locs 0 0 (MQ below (nQi D (fun r ws => r = iI (ffF mm c9 i f) ∧ ws = [enI cA pv mm f]) (wA (wL [enI cA pv mm f]) sz)) ([.int (iI (↑i)), .ref pv] : List Value).toArray s 0 0 (wA (wL [enI cA pv mm f]) sz)) (F0 m 2 ls []) := by
    intro n
    induction n with
    | zero =>
      intro k hf hk hsk H locs ls hP hD hS hl
      exact absurd hf (by omega)
    | succ n ih2 =>
      intro k hf hk hsk H locs ls hP hD hS hl
      refine lv_iload_n hx hb dX2_fewestFrom_2 rfl (lv_at hl 1 rfl) ?_
      refine lv_aload_n hx hb dX2_fewestFrom_3 rfl (lv_at hl 0 rfl) ?_
      refine va_alen hX.1 hX.2.1 hK hP 0 0 rfl ty_0 (v := iI ((mm : Nat) : Int)) rfl dX2_fewestFrom_4 ?_
      refine z_icmp_ge (tgt := 20) hX (by omega) dX2_fewestFrom_5 (by decide) (fun c_5 => ?_) (fun c_5 => ?_)
      · skip
        refine lv_iload_n hx hb dX2_fewestFrom_20 rfl (lv_at hl 1 rfl) ?_
        refine lv_aload_n hx hb dX2_fewestFrom_21 rfl (lv_at hl 0 rfl) ?_
        refine va_alen hX.1 hX.2.1 hK hP 0 0 rfl ty_0 (v := iI ((mm : Nat) : Int)) rfl dX2_fewestFrom_22 ?_
        refine W.eq (g2 := F0 m 23 ls [.int (iI (↑mm)), .int (iI (↑k))]) rfl ?_
        refine z_icmp_ne (tgt := 28) hX (by omega) dX2_fewestFrom_23 (by decide) (fun c_23 => ?_) (fun c_23 => ?_)
        · skip
          refine lv_aload_n hx hb dX2_fewestFrom_28 rfl (lv_at hl 0 rfl) ?_
          refine va_alen hX.1 hX.2.1 hK hP 0 0 rfl ty_0 (v := iI ((mm : Nat) : Int)) rfl dX2_fewestFrom_29 ?_
          refine z_top (y := ffG (ffF mm (mm - k - 1) (k + 1)) f k mm 0) (rfl) ?_
          refine lv_istore_n (lv' := [(3, .int (iI (ffG (ffF mm (mm - k - 1) (k + 1)) f k mm 0))), (1, .ref pv), (2, .int (iI (↑k)))]) hx hb dX2_fewestFrom_30 rfl hl (by decide) rfl (fun ls hl => ?_)
          refine lv_iload_n hx hb dX2_fewestFrom_31 rfl (lv_at hl 2 rfl) ?_
          refine z_iconst hX dX2_fewestFrom_32 ?_
          refine z_iadd hX dX2_fewestFrom_33 ?_
          refine z_top (y := ↑(k + 1 + 0)) (by omega) ?_
          refine lv_istore (lv' := [(4, .int (iI (↑(k + 1 + 0)))), (3, .int (iI (ffG (ffF mm (mm - k - 1) (k + 1)) f k mm 0))), (1, .ref pv), (2, .int (iI (↑k)))]) hx hb dX2_fewestFrom_34 hl (by decide) rfl (fun ls hl => ?_)
          have L36 : ∀ (n : Nat) (j : Nat), (mm < k + 1 + j + n) → (k + 1 + j ≤ mm) → ∀ (H : Heap) (locs : List Loc) (ls : Array Slot), va_P D vwCl [enI cA pv mm f] H → va_D (wA (wL [enI cA pv mm f]) sz) [enI cA pv mm f] → va_S (wA (wL [enI cA pv mm f]) sz) s.heap H locs → lv_has ls 5 [(1, .ref pv), (2, .int (iI (↑k))), (3, .int (iI (ffG (ffF mm (mm - k - 1) (k + 1)) f k mm j))), (4, .int (iI (↑(k + 1 + j))))] → W p l e (headSpec (ws_ yX2_fewestFrom cX2_fewestFrom 5 (some .int)) { frames := c9 + 1, cells := 0, slots := 0, locals := 40 + 40 * c9 }).room s m ([.int (iI (↑i)), .ref pv] : List Value).toArray below meth c H locs 0 0 (MQ below (nQi D (fun r ws => r = iI (ffF mm c9 i f) ∧ ws = [enI cA pv mm f]) (wA (wL [enI cA pv mm f]) sz)) ([.int (iI (↑i)), .ref pv] : List Value).toArray s 0 0 (wA (wL [enI cA pv mm f]) sz)) (F0 m 36 ls []) := by
            intro n
            induction n with
            | zero =>
              intro j hf hj H locs ls hP hD hS hl
              exact absurd hf (by omega)
            | succ n ih36 =>
              intro j hf hj H locs ls hP hD hS hl
              refine lv_iload hx hb dX2_fewestFrom_36 (lv_at hl 3 rfl) ?_
              refine lv_aload_n hx hb dX2_fewestFrom_38 rfl (lv_at hl 0 rfl) ?_
              refine W.eq (g2 := F0 m 39 ls [.ref pv, .int (iI (↑(k + 1 + j)))]) rfl ?_
              refine va_alen hX.1 hX.2.1 hK hP 0 0 rfl ty_0 (v := iI ((mm : Nat) : Int)) rfl dX2_fewestFrom_39 ?_
              refine z_icmp_ge (tgt := 116) hX (by omega) dX2_fewestFrom_40 (by decide) (fun c_40 => ?_) (fun c_40 => ?_)
              · skip
                refine lv_iload_n hx hb dX2_fewestFrom_116 rfl (lv_at hl 2 rfl) ?_
                exact n_iret hX hP hS (⟨by rw [hsk, show mm - k = (mm - k - 1) + 1 by omega, ffF_n (by omega), show mm - k - 1 + 1 - 1 = mm - k - 1 by omega, show j = mm - k - 1 by omega], rfl⟩) dX2_fewestFrom_117
              · skip
                refine lv_aload_n hx hb dX2_fewestFrom_43 rfl (lv_at hl 0 rfl) ?_
                refine lv_iload_n hx hb dX2_fewestFrom_44 rfl (lv_at hl 1 rfl) ?_
                refine n_ald hX hK hP 0 rfl k (⟨rfl, by omega⟩) (by omega) dX2_fewestFrom_45 ?_
                refine z_if_le (tgt := 53) hX (by have := hfb k; omega) dX2_fewestFrom_46 (by decide) (fun c_46 => ?_) (fun c_46 => ?_)
                · skip
                  refine z_iconst hX dX2_fewestFrom_53 ?_
                  refine lv_aload_n hx hb dX2_fewestFrom_54 rfl (lv_at hl 0 rfl) ?_
                  refine W.eq (g2 := F0 m 55 ls [.ref pv, .int (iI (0))]) rfl ?_
                  refine lv_iload hx hb dX2_fewestFrom_55 (lv_at hl 3 rfl) ?_
                  refine n_ald hX hK hP 0 rfl ((k + 1 + j)) (⟨rfl, by omega⟩) (by omega) dX2_fewestFrom_57 ?_
                  refine z_if_le (tgt := 65) hX (by have := hfb (k + 1 + j); omega) dX2_fewestFrom_58 (by decide) (fun c_58 => ?_) (fun c_58 => ?_)
                  · skip
                    refine z_iconst hX dX2_fewestFrom_65 ?_
                    refine z_icmp_eq (tgt := 110) hX (by decide) dX2_fewestFrom_66 (by decide) (fun c_66 => ?_) (fun c_66 => ?_)
                    · skip
                      refine z_iinc (y := ↑(k + 1 + (j + 1))) (lv' := [(4, .int (iI (↑(k + 1 + (j + 1))))), (1, .ref pv), (2, .int (iI (↑k))), (3, .int (iI (ffG (ffF mm (mm - k - 1) (k + 1)) f k mm j)))]) hX dX2_fewestFrom_110 hl (k := 3) rfl (by omega) (by decide) rfl (fun ls hl => ?_)
                      refine lv_goto (tgt := 36) hx hb dX2_fewestFrom_113 (by decide) ?_
                      rw [show ffG (ffF mm (mm - k - 1) (k + 1)) f k mm j = ffG (ffF mm (mm - k - 1) (k + 1)) f k mm (j + 1) from (if_neg (fun q9 => by first | exact q9.2 c_73 | exact q9.1 (by omega))).symm] at hl
                      exact ih36 (j + 1) (by omega) (by omega) _ _ _ hP hD hS (lv_sub hl [1, 2, 3, 0] rfl)
                    · skip
                      refine lv_aload_n hx hb dX2_fewestFrom_69 rfl (lv_at hl 0 rfl) ?_
                      refine lv_iload hx hb dX2_fewestFrom_70 (lv_at hl 3 rfl) ?_
                      refine n_ald hX hK hP 0 rfl ((k + 1 + j)) (⟨rfl, by omega⟩) (by omega) dX2_fewestFrom_72 ?_
                      refine W.eq (g2 := F0 m 73 ls [.int (iI (f ((k + 1 + j))))]) rfl ?_
                      refine z_if_eq (tgt := 110) hX (by have := hfb (k + 1 + j); omega) dX2_fewestFrom_73 (by decide) (fun c_73 => ?_) (fun c_73 => ?_)
                      · skip
                        refine z_iinc (y := ↑(k + 1 + (j + 1))) (lv' := [(4, .int (iI (↑(k + 1 + (j + 1))))), (1, .ref pv), (2, .int (iI (↑k))), (3, .int (iI (ffG (ffF mm (mm - k - 1) (k + 1)) f k mm j)))]) hX dX2_fewestFrom_110 hl (k := 3) rfl (by omega) (by decide) rfl (fun ls hl => ?_)
                        refine lv_goto (tgt := 36) hx hb dX2_fewestFrom_113 (by decide) ?_
                        rw [show ffG (ffF mm (mm - k - 1) (k + 1)) f k mm j = ffG (ffF mm (mm - k - 1) (k + 1)) f k mm (j + 1) from (if_neg (fun q9 => by first | exact q9.2 c_73 | exact q9.1 (by omega))).symm] at hl
                        exact ih36 (j + 1) (by omega) (by omega) _ _ _ hP hD hS (lv_sub hl [1, 2, 3, 0] rfl)
                      · skip
                        refine lv_aload_n hx hb dX2_fewestFrom_76 rfl (lv_at hl 0 rfl) ?_
                        refine lv_iload hx hb dX2_fewestFrom_77 (lv_at hl 3 rfl) ?_
                        refine lv_dup2_11 hx hb dX2_fewestFrom_79 rfl rfl ?_
                        refine n_ald hX hK hP 0 rfl ((k + 1 + j)) (⟨rfl, by omega⟩) (by omega) dX2_fewestFrom_80 ?_
                        refine z_top (y := f (k + 1 + j)) (rfl) ?_
                        refine lv_aload_n hx hb dX2_fewestFrom_81 rfl (lv_at hl 0 rfl) ?_
                        refine lv_iload_n hx hb dX2_fewestFrom_82 rfl (lv_at hl 1 rfl) ?_
                        refine n_ald hX hK hP 0 rfl k (⟨rfl, by omega⟩) (by omega) dX2_fewestFrom_83 ?_
                        refine z_top (y := f k) (rfl) ?_
                        refine W.eq (g2 := F0 m 84 ls [.int (iI (f k)), .int (iI (f (k + 1 + j))), .int (iI (↑(k + 1 + j))), .ref pv]) rfl ?_
                        refine z_iadd hX dX2_fewestFrom_84 ?_
                        refine n_ast hX hK hP hD hS 0 rfl (v := (f (k + 1 + j)) + (f k)) ((k + 1 + j)) (⟨rfl, by omega⟩) (by omega) dX2_fewestFrom_85 (fun H locs hP hD hS => ?_)
                        have hP : va_P D vwCl [enI cA pv mm (gU f ((k + 1 + j)) ((f (k + 1 + j)) + (f k)))] H := hP
                        have hD : va_D _ [enI cA pv mm (gU f ((k + 1 + j)) ((f (k + 1 + j)) + (f k)))] := hD
                        rw [show (gU f ((k + 1 + j)) ((f (k + 1 + j)) + (f k))) = gU f (k + 1 + j) (f (k + 1 + j) + f k) from rfl] at hP hD
                        refine lv_iload_n hx hb dX2_fewestFrom_86 rfl (lv_at hl 2 rfl) ?_
                        refine z_iconst hX dX2_fewestFrom_87 ?_
                        refine lv_iload_n hx hb dX2_fewestFrom_88 rfl (lv_at hl 1 rfl) ?_
                        refine z_iconst hX dX2_fewestFrom_89 ?_
                        refine z_iadd hX dX2_fewestFrom_90 ?_
                        refine lv_aload_n hx hb dX2_fewestFrom_91 rfl (lv_at hl 0 rfl) ?_
                        have hb2 : ∀ q, -(2 * b) ≤ (gU f (k + 1 + j) (f (k + 1 + j) + f k)) q ∧ (gU f (k + 1 + j) (f (k + 1 + j) + f k)) q ≤ 2 * b := fun q => by
                          unfold gU
                          have h1 := hfb (k + 1 + j)
                          have h2 := hfb k
                          have h3 := hfb q
                          split <;> omega
                        have hpw : 2 * b * 2 ^ (mm - k - 1) ≤ 1000000000 := by
                          have h1 : 2 ^ (mm - k - 1 + 1) ≤ 2 ^ c9 := Nat.pow_le_pow_right (by decide) (by omega)
                          have h2 : b * (2 ^ (mm - k - 1 + 1) : Nat) ≤ b * (2 ^ c9 : Nat) := Int.mul_le_mul_of_nonneg_left (by exact_mod_cast h1) hb0
                          have h3 : 2 * b * 2 ^ (mm - k - 1) = b * (2 ^ (mm - k - 1 + 1) : Nat) := by
                            rw [Nat.pow_succ]; push_cast; rw [Int.mul_comm 2 b, Int.mul_assoc, Int.mul_comm (2 : Int)]
                          have h4 : (b * (2 ^ c9 : Nat) : Int) ≤ 1000000000 := by push_cast; exact hbw
                          omega
                        have hP9 : va_P D vwCl ([enI cA pv mm (gU f (k + 1 + j) (f (k + 1 + j) + f k))] ++ []) H := hP
                        have hD9 : va_D _ ([enI cA pv mm (gU f (k + 1 + j) (f (k + 1 + j) + f k))] ++ []) := hD
                        refine l_calli hP9 hD9 hA hS (va_runS (As := [.int (iI ((↑k) + 1)), .ref pv]) (rest := [.int (iI (1)), .int (iI (ffG (ffF mm (mm - k - 1) (k + 1)) f k mm j))]) hX.fix (ih (mm - k - 1) (by omega) (k + 1) (gU f (k + 1 + j) (f (k + 1 + j) + f k)) (2 * b) _ _ (by omega) (by omega) (by omega) hb2 hpw) (va_cwS 2 hX.hts (lw_S q906 q907 q81 q908) rfl rfl rfl (by decide +kernel) ⟨by show mm - k - 1 + 1 + 1 ≤ c9 + 1; omega, by show 8 + (5 + 11) + (40 + 40 * (mm - k - 1)) ≤ 40 + 40 * c9; omega⟩) (l_preS hZ hK (D_l hD9) hA hE (P_l hP9) (fun k q h => by cases h) (fun k q h => by cases h) hS) rfl rfl hl.1 rfl (lv_room (Nat.le_of_ble_eq_true rfl)) dX2_fewestFrom_92 ⟨Nat.le_of_ble_eq_true rfl, Nat.le_of_ble_eq_true rfl⟩) (fun r w1 h => by obtain ⟨-, rfl⟩ := h; exact (D_l hD9).self) (fun r w1 H locs hq hP hD hS => ?_)
                        obtain ⟨hq1, rfl⟩ := hq
                        have hP : va_P D vwCl [enI cA pv mm (gU f (k + 1 + j) (f (k + 1 + j) + f k))] H := hP
                        have hD : va_D _ [enI cA pv mm (gU f (k + 1 + j) (f (k + 1 + j) + f k))] := hD
                        rw [show r = iI (ffF mm (mm - k - 1) (k + 1) (gU f (k + 1 + j) (f (k + 1 + j) + f k))) from hq1]
                        refine z_iadd hX dX2_fewestFrom_95 ?_
                        refine W.eq (g2 := F0 m 96 ls [.int (iI (1 + (ffF mm (mm - k - 1) (k + 1) (gU f (k + 1 + j) (f (k + 1 + j) + f k))))), .int (iI (ffG (ffF mm (mm - k - 1) (k + 1)) f k mm j))]) rfl ?_
                        have hbA := ffG_bd (rec := ffF mm (mm - k - 1) (k + 1)) (f := f) (i := k) (M := mm) (fun f => (ffF_bd _ _ f).1) (Int.natCast_nonneg mm) j
                        have hbB := ffF_bd (m := mm) (mm - k - 1) (k + 1) (gU f (k + 1 + j) (f (k + 1 + j) + f k))
                        refine z_mmin hX ⟨by unfold rng; omega, by unfold rng; omega⟩ hl.1.symm q476 ⟨by show 1 ≤ c9 + 1; omega, by show 0 + 13 ≤ 40 + 40 * c9; omega⟩ ⟨Nat.le_of_ble_eq_true rfl, Nat.le_of_ble_eq_true rfl⟩ dX2_fewestFrom_96 ?_
                        refine lv_istore_n (lv' := [(3, .int (iI (min (ffG (ffF mm (mm - k - 1) (k + 1)) f k mm j) (1 + (ffF mm (mm - k - 1) (k + 1) (gU f (k + 1 + j) (f (k + 1 + j) + f k))))))), (1, .ref pv), (2, .int (iI (↑k))), (4, .int (iI (↑(k + 1 + j))))]) hx hb dX2_fewestFrom_99 rfl hl (by decide) rfl (fun ls hl => ?_)
                        refine lv_aload_n hx hb dX2_fewestFrom_100 rfl (lv_at hl 1 rfl) ?_
                        refine lv_iload hx hb dX2_fewestFrom_101 (lv_at hl 3 rfl) ?_
                        refine lv_dup2_11 hx hb dX2_fewestFrom_103 rfl rfl ?_
                        refine n_ald hX hK hP 0 rfl ((k + 1 + j)) (⟨rfl, by omega⟩) (by omega) dX2_fewestFrom_104 ?_
                        refine z_top (y := f (k + 1 + j) + f k) (gU_eq) ?_
                        refine lv_aload_n hx hb dX2_fewestFrom_105 rfl (lv_at hl 1 rfl) ?_
                        refine lv_iload_n hx hb dX2_fewestFrom_106 rfl (lv_at hl 2 rfl) ?_
                        refine n_ald hX hK hP 0 rfl k (⟨rfl, by omega⟩) (by omega) dX2_fewestFrom_107 ?_
                        refine z_top (y := f k) (gU_ne (by omega)) ?_
                        refine z_isub hX dX2_fewestFrom_108 ?_
                        refine W.eq (g2 := F0 m 109 ls [.int (iI ((f (k + 1 + j) + f k) - (f k))), .int (iI (↑(k + 1 + j))), .ref pv]) rfl ?_
                        refine n_ast hX hK hP hD hS 0 rfl (v := (f (k + 1 + j) + f k) - (f k)) ((k + 1 + j)) (⟨rfl, by omega⟩) (by omega) dX2_fewestFrom_109 (fun H locs hP hD hS => ?_)
                        have hP : va_P D vwCl [enI cA pv mm (gU (gU f (k + 1 + j) (f (k + 1 + j) + f k)) ((k + 1 + j)) ((f (k + 1 + j) + f k) - (f k)))] H := hP
                        have hD : va_D _ [enI cA pv mm (gU (gU f (k + 1 + j) (f (k + 1 + j) + f k)) ((k + 1 + j)) ((f (k + 1 + j) + f k) - (f k)))] := hD
                        rw [show (gU (gU f (k + 1 + j) (f (k + 1 + j) + f k)) ((k + 1 + j)) ((f (k + 1 + j) + f k) - (f k))) = f from gU_back] at hP hD
                        refine z_iinc (y := ↑(k + 1 + (j + 1))) (lv' := [(4, .int (iI (↑(k + 1 + (j + 1))))), (3, .int (iI (min (ffG (ffF mm (mm - k - 1) (k + 1)) f k mm j) (1 + (ffF mm (mm - k - 1) (k + 1) (gU f (k + 1 + j) (f (k + 1 + j) + f k))))))), (1, .ref pv), (2, .int (iI (↑k)))]) hX dX2_fewestFrom_110 hl (k := 3) rfl (by omega) (by decide) rfl (fun ls hl => ?_)
                        refine lv_goto (tgt := 36) hx hb dX2_fewestFrom_113 (by decide) ?_
                        rw [show min (ffG (ffF mm (mm - k - 1) (k + 1)) f k mm j) (1 + (ffF mm (mm - k - 1) (k + 1) (gU f (k + 1 + j) (f (k + 1 + j) + f k)))) = ffG (ffF mm (mm - k - 1) (k + 1)) f k mm (j + 1) from (if_pos ⟨by omega, c_73⟩).symm] at hl
                        exact ih36 (j + 1) (by omega) (by omega) _ _ _ hP hD hS (lv_sub hl [2, 3, 1, 0] rfl)
                  · skip
                    refine z_iconst hX dX2_fewestFrom_61 ?_
                    refine lv_goto (tgt := 66) hx hb dX2_fewestFrom_62 (by decide) ?_
                    refine z_icmp_eq (tgt := 110) hX (by decide) dX2_fewestFrom_66 (by decide) (fun c_66 => ?_) (fun c_66 => ?_)
                    · skip
                      refine z_iinc (y := ↑(k + 1 + (j + 1))) (lv' := [(4, .int (iI (↑(k + 1 + (j + 1))))), (1, .ref pv), (2, .int (iI (↑k))), (3, .int (iI (ffG (ffF mm (mm - k - 1) (k + 1)) f k mm j)))]) hX dX2_fewestFrom_110 hl (k := 3) rfl (by omega) (by decide) rfl (fun ls hl => ?_)
                      refine lv_goto (tgt := 36) hx hb dX2_fewestFrom_113 (by decide) ?_
                      rw [show ffG (ffF mm (mm - k - 1) (k + 1)) f k mm j = ffG (ffF mm (mm - k - 1) (k + 1)) f k mm (j + 1) from (if_neg (fun q9 => by first | exact q9.2 c_73 | exact q9.1 (by omega))).symm] at hl
                      exact ih36 (j + 1) (by omega) (by omega) _ _ _ hP hD hS (lv_sub hl [1, 2, 3, 0] rfl)
                    · skip
                      refine lv_aload_n hx hb dX2_fewestFrom_69 rfl (lv_at hl 0 rfl) ?_
                      refine lv_iload hx hb dX2_fewestFrom_70 (lv_at hl 3 rfl) ?_
                      refine W.eq (g2 := F0 m 72 ls [.int (iI (↑(k + 1 + j))), .ref pv]) rfl ?_
                      refine n_ald hX hK hP 0 rfl ((k + 1 + j)) (⟨rfl, by omega⟩) (by omega) dX2_fewestFrom_72 ?_
                      refine z_if_eq (tgt := 110) hX (by have := hfb (k + 1 + j); omega) dX2_fewestFrom_73 (by decide) (fun c_73 => ?_) (fun c_73 => ?_)
                      · skip
                        refine z_iinc (y := ↑(k + 1 + (j + 1))) (lv' := [(4, .int (iI (↑(k + 1 + (j + 1))))), (1, .ref pv), (2, .int (iI (↑k))), (3, .int (iI (ffG (ffF mm (mm - k - 1) (k + 1)) f k mm j)))]) hX dX2_fewestFrom_110 hl (k := 3) rfl (by omega) (by decide) rfl (fun ls hl => ?_)
                        refine lv_goto (tgt := 36) hx hb dX2_fewestFrom_113 (by decide) ?_
                        rw [show ffG (ffF mm (mm - k - 1) (k + 1)) f k mm j = ffG (ffF mm (mm - k - 1) (k + 1)) f k mm (j + 1) from (if_neg (fun q9 => by first | exact q9.2 c_73 | exact q9.1 (by omega))).symm] at hl
                        exact ih36 (j + 1) (by omega) (by omega) _ _ _ hP hD hS (lv_sub hl [1, 2, 3, 0] rfl)
                      · skip
                        refine lv_aload_n hx hb dX2_fewestFrom_76 rfl (lv_at hl 0 rfl) ?_
                        refine lv_iload hx hb dX2_fewestFrom_77 (lv_at hl 3 rfl) ?_
                        refine lv_dup2_11 hx hb dX2_fewestFrom_79 rfl rfl ?_
                        refine n_ald hX hK hP 0 rfl ((k + 1 + j)) (⟨rfl, by omega⟩) (by omega) dX2_fewestFrom_80 ?_
                        refine z_top (y := f (k + 1 + j)) (rfl) ?_
                        refine lv_aload_n hx hb dX2_fewestFrom_81 rfl (lv_at hl 0 rfl) ?_
                        refine lv_iload_n hx hb dX2_fewestFrom_82 rfl (lv_at hl 1 rfl) ?_
                        refine W.eq (g2 := F0 m 83 ls [.int (iI (↑k)), .ref pv, .int (iI (f (k + 1 + j))), .int (iI (↑(k + 1 + j))), .ref pv]) rfl ?_
                        refine n_ald hX hK hP 0 rfl k (⟨rfl, by omega⟩) (by omega) dX2_fewestFrom_83 ?_
                        refine z_top (y := f k) (rfl) ?_
                        refine z_iadd hX dX2_fewestFrom_84 ?_
                        refine n_ast hX hK hP hD hS 0 rfl (v := (f (k + 1 + j)) + (f k)) ((k + 1 + j)) (⟨rfl, by omega⟩) (by omega) dX2_fewestFrom_85 (fun H locs hP hD hS => ?_)
                        have hP : va_P D vwCl [enI cA pv mm (gU f ((k + 1 + j)) ((f (k + 1 + j)) + (f k)))] H := hP
                        have hD : va_D _ [enI cA pv mm (gU f ((k + 1 + j)) ((f (k + 1 + j)) + (f k)))] := hD
                        rw [show (gU f ((k + 1 + j)) ((f (k + 1 + j)) + (f k))) = gU f (k + 1 + j) (f (k + 1 + j) + f k) from rfl] at hP hD
                        refine lv_iload_n hx hb dX2_fewestFrom_86 rfl (lv_at hl 2 rfl) ?_
                        refine z_iconst hX dX2_fewestFrom_87 ?_
                        refine lv_iload_n hx hb dX2_fewestFrom_88 rfl (lv_at hl 1 rfl) ?_
                        refine z_iconst hX dX2_fewestFrom_89 ?_
                        refine z_iadd hX dX2_fewestFrom_90 ?_
                        refine lv_aload_n hx hb dX2_fewestFrom_91 rfl (lv_at hl 0 rfl) ?_
                        have hb2 : ∀ q, -(2 * b) ≤ (gU f (k + 1 + j) (f (k + 1 + j) + f k)) q ∧ (gU f (k + 1 + j) (f (k + 1 + j) + f k)) q ≤ 2 * b := fun q => by
                          unfold gU
                          have h1 := hfb (k + 1 + j)
                          have h2 := hfb k
                          have h3 := hfb q
                          split <;> omega
                        have hpw : 2 * b * 2 ^ (mm - k - 1) ≤ 1000000000 := by
                          have h1 : 2 ^ (mm - k - 1 + 1) ≤ 2 ^ c9 := Nat.pow_le_pow_right (by decide) (by omega)
                          have h2 : b * (2 ^ (mm - k - 1 + 1) : Nat) ≤ b * (2 ^ c9 : Nat) := Int.mul_le_mul_of_nonneg_left (by exact_mod_cast h1) hb0
                          have h3 : 2 * b * 2 ^ (mm - k - 1) = b * (2 ^ (mm - k - 1 + 1) : Nat) := by
                            rw [Nat.pow_succ]; push_cast; rw [Int.mul_comm 2 b, Int.mul_assoc, Int.mul_comm (2 : Int)]
                          have h4 : (b * (2 ^ c9 : Nat) : Int) ≤ 1000000000 := by push_cast; exact hbw
                          omega
                        have hP9 : va_P D vwCl ([enI cA pv mm (gU f (k + 1 + j) (f (k + 1 + j) + f k))] ++ []) H := hP
                        have hD9 : va_D _ ([enI cA pv mm (gU f (k + 1 + j) (f (k + 1 + j) + f k))] ++ []) := hD
                        refine l_calli hP9 hD9 hA hS (va_runS (As := [.int (iI ((↑k) + 1)), .ref pv]) (rest := [.int (iI (1)), .int (iI (ffG (ffF mm (mm - k - 1) (k + 1)) f k mm j))]) hX.fix (ih (mm - k - 1) (by omega) (k + 1) (gU f (k + 1 + j) (f (k + 1 + j) + f k)) (2 * b) _ _ (by omega) (by omega) (by omega) hb2 hpw) (va_cwS 2 hX.hts (lw_S q906 q907 q81 q908) rfl rfl rfl (by decide +kernel) ⟨by show mm - k - 1 + 1 + 1 ≤ c9 + 1; omega, by show 8 + (5 + 11) + (40 + 40 * (mm - k - 1)) ≤ 40 + 40 * c9; omega⟩) (l_preS hZ hK (D_l hD9) hA hE (P_l hP9) (fun k q h => by cases h) (fun k q h => by cases h) hS) rfl rfl hl.1 rfl (lv_room (Nat.le_of_ble_eq_true rfl)) dX2_fewestFrom_92 ⟨Nat.le_of_ble_eq_true rfl, Nat.le_of_ble_eq_true rfl⟩) (fun r w1 h => by obtain ⟨-, rfl⟩ := h; exact (D_l hD9).self) (fun r w1 H locs hq hP hD hS => ?_)
                        obtain ⟨hq1, rfl⟩ := hq
                        have hP : va_P D vwCl [enI cA pv mm (gU f (k + 1 + j) (f (k + 1 + j) + f k))] H := hP
                        have hD : va_D _ [enI cA pv mm (gU f (k + 1 + j) (f (k + 1 + j) + f k))] := hD
                        rw [show r = iI (ffF mm (mm - k - 1) (k + 1) (gU f (k + 1 + j) (f (k + 1 + j) + f k))) from hq1]
                        refine W.eq (g2 := F0 m 95 ls [.int (iI (ffF mm (mm - k - 1) (k + 1) (gU f (k + 1 + j) (f (k + 1 + j) + f k)))), .int (iI (1)), .int (iI (ffG (ffF mm (mm - k - 1) (k + 1)) f k mm j))]) rfl ?_
                        refine z_iadd hX dX2_fewestFrom_95 ?_
                        have hbA := ffG_bd (rec := ffF mm (mm - k - 1) (k + 1)) (f := f) (i := k) (M := mm) (fun f => (ffF_bd _ _ f).1) (Int.natCast_nonneg mm) j
                        have hbB := ffF_bd (m := mm) (mm - k - 1) (k + 1) (gU f (k + 1 + j) (f (k + 1 + j) + f k))
                        refine z_mmin hX ⟨by unfold rng; omega, by unfold rng; omega⟩ hl.1.symm q476 ⟨by show 1 ≤ c9 + 1; omega, by show 0 + 13 ≤ 40 + 40 * c9; omega⟩ ⟨Nat.le_of_ble_eq_true rfl, Nat.le_of_ble_eq_true rfl⟩ dX2_fewestFrom_96 ?_
                        refine lv_istore_n (lv' := [(3, .int (iI (min (ffG (ffF mm (mm - k - 1) (k + 1)) f k mm j) (1 + (ffF mm (mm - k - 1) (k + 1) (gU f (k + 1 + j) (f (k + 1 + j) + f k))))))), (1, .ref pv), (2, .int (iI (↑k))), (4, .int (iI (↑(k + 1 + j))))]) hx hb dX2_fewestFrom_99 rfl hl (by decide) rfl (fun ls hl => ?_)
                        refine lv_aload_n hx hb dX2_fewestFrom_100 rfl (lv_at hl 1 rfl) ?_
                        refine lv_iload hx hb dX2_fewestFrom_101 (lv_at hl 3 rfl) ?_
                        refine lv_dup2_11 hx hb dX2_fewestFrom_103 rfl rfl ?_
                        refine n_ald hX hK hP 0 rfl ((k + 1 + j)) (⟨rfl, by omega⟩) (by omega) dX2_fewestFrom_104 ?_
                        refine z_top (y := f (k + 1 + j) + f k) (gU_eq) ?_
                        refine lv_aload_n hx hb dX2_fewestFrom_105 rfl (lv_at hl 1 rfl) ?_
                        refine lv_iload_n hx hb dX2_fewestFrom_106 rfl (lv_at hl 2 rfl) ?_
                        refine n_ald hX hK hP 0 rfl k (⟨rfl, by omega⟩) (by omega) dX2_fewestFrom_107 ?_
                        refine z_top (y := f k) (gU_ne (by omega)) ?_
                        refine W.eq (g2 := F0 m 108 ls [.int (iI (f k)), .int (iI (f (k + 1 + j) + f k)), .int (iI (↑(k + 1 + j))), .ref pv]) rfl ?_
                        refine z_isub hX dX2_fewestFrom_108 ?_
                        refine n_ast hX hK hP hD hS 0 rfl (v := (f (k + 1 + j) + f k) - (f k)) ((k + 1 + j)) (⟨rfl, by omega⟩) (by omega) dX2_fewestFrom_109 (fun H locs hP hD hS => ?_)
                        have hP : va_P D vwCl [enI cA pv mm (gU (gU f (k + 1 + j) (f (k + 1 + j) + f k)) ((k + 1 + j)) ((f (k + 1 + j) + f k) - (f k)))] H := hP
                        have hD : va_D _ [enI cA pv mm (gU (gU f (k + 1 + j) (f (k + 1 + j) + f k)) ((k + 1 + j)) ((f (k + 1 + j) + f k) - (f k)))] := hD
                        rw [show (gU (gU f (k + 1 + j) (f (k + 1 + j) + f k)) ((k + 1 + j)) ((f (k + 1 + j) + f k) - (f k))) = f from gU_back] at hP hD
                        refine z_iinc (y := ↑(k + 1 + (j + 1))) (lv' := [(4, .int (iI (↑(k + 1 + (j + 1))))), (3, .int (iI (min (ffG (ffF mm (mm - k - 1) (k + 1)) f k mm j) (1 + (ffF mm (mm - k - 1) (k + 1) (gU f (k + 1 + j) (f (k + 1 + j) + f k))))))), (1, .ref pv), (2, .int (iI (↑k)))]) hX dX2_fewestFrom_110 hl (k := 3) rfl (by omega) (by decide) rfl (fun ls hl => ?_)
                        refine lv_goto (tgt := 36) hx hb dX2_fewestFrom_113 (by decide) ?_
                        rw [show min (ffG (ffF mm (mm - k - 1) (k + 1)) f k mm j) (1 + (ffF mm (mm - k - 1) (k + 1) (gU f (k + 1 + j) (f (k + 1 + j) + f k)))) = ffG (ffF mm (mm - k - 1) (k + 1)) f k mm (j + 1) from (if_pos ⟨by omega, c_73⟩).symm] at hl
                        exact ih36 (j + 1) (by omega) (by omega) _ _ _ hP hD hS (lv_sub hl [2, 3, 1, 0] rfl)
                · skip
                  refine z_iconst hX dX2_fewestFrom_49 ?_
                  refine lv_goto (tgt := 54) hx hb dX2_fewestFrom_50 (by decide) ?_
                  refine lv_aload_n hx hb dX2_fewestFrom_54 rfl (lv_at hl 0 rfl) ?_
                  refine lv_iload hx hb dX2_fewestFrom_55 (lv_at hl 3 rfl) ?_
                  refine n_ald hX hK hP 0 rfl ((k + 1 + j)) (⟨rfl, by omega⟩) (by omega) dX2_fewestFrom_57 ?_
                  refine z_if_le (tgt := 65) hX (by have := hfb (k + 1 + j); omega) dX2_fewestFrom_58 (by decide) (fun c_58 => ?_) (fun c_58 => ?_)
                  · skip
                    refine W.eq (g2 := F0 m 65 ls [.int (iI (1))]) rfl ?_
                    refine z_iconst hX dX2_fewestFrom_65 ?_
                    refine z_icmp_eq (tgt := 110) hX (by decide) dX2_fewestFrom_66 (by decide) (fun c_66 => ?_) (fun c_66 => ?_)
                    · skip
                      refine z_iinc (y := ↑(k + 1 + (j + 1))) (lv' := [(4, .int (iI (↑(k + 1 + (j + 1))))), (1, .ref pv), (2, .int (iI (↑k))), (3, .int (iI (ffG (ffF mm (mm - k - 1) (k + 1)) f k mm j)))]) hX dX2_fewestFrom_110 hl (k := 3) rfl (by omega) (by decide) rfl (fun ls hl => ?_)
                      refine lv_goto (tgt := 36) hx hb dX2_fewestFrom_113 (by decide) ?_
                      rw [show ffG (ffF mm (mm - k - 1) (k + 1)) f k mm j = ffG (ffF mm (mm - k - 1) (k + 1)) f k mm (j + 1) from (if_neg (fun q9 => by first | exact q9.2 c_73 | exact q9.1 (by omega))).symm] at hl
                      exact ih36 (j + 1) (by omega) (by omega) _ _ _ hP hD hS (lv_sub hl [1, 2, 3, 0] rfl)
                    · skip
                      refine lv_aload_n hx hb dX2_fewestFrom_69 rfl (lv_at hl 0 rfl) ?_
                      refine lv_iload hx hb dX2_fewestFrom_70 (lv_at hl 3 rfl) ?_
                      refine n_ald hX hK hP 0 rfl ((k + 1 + j)) (⟨rfl, by omega⟩) (by omega) dX2_fewestFrom_72 ?_
                      refine z_if_eq (tgt := 110) hX (by have := hfb (k + 1 + j); omega) dX2_fewestFrom_73 (by decide) (fun c_73 => ?_) (fun c_73 => ?_)
                      · skip
                        refine z_iinc (y := ↑(k + 1 + (j + 1))) (lv' := [(4, .int (iI (↑(k + 1 + (j + 1))))), (1, .ref pv), (2, .int (iI (↑k))), (3, .int (iI (ffG (ffF mm (mm - k - 1) (k + 1)) f k mm j)))]) hX dX2_fewestFrom_110 hl (k := 3) rfl (by omega) (by decide) rfl (fun ls hl => ?_)
                        refine lv_goto (tgt := 36) hx hb dX2_fewestFrom_113 (by decide) ?_
                        rw [show ffG (ffF mm (mm - k - 1) (k + 1)) f k mm j = ffG (ffF mm (mm - k - 1) (k + 1)) f k mm (j + 1) from (if_neg (fun q9 => by first | exact q9.2 c_73 | exact q9.1 (by omega))).symm] at hl
                        exact ih36 (j + 1) (by omega) (by omega) _ _ _ hP hD hS (lv_sub hl [1, 2, 3, 0] rfl)
                      · skip
                        refine W.eq (g2 := F0 m 76 ls []) rfl ?_
                        refine lv_aload_n hx hb dX2_fewestFrom_76 rfl (lv_at hl 0 rfl) ?_
                        refine lv_iload hx hb dX2_fewestFrom_77 (lv_at hl 3 rfl) ?_
                        refine lv_dup2_11 hx hb dX2_fewestFrom_79 rfl rfl ?_
                        refine n_ald hX hK hP 0 rfl ((k + 1 + j)) (⟨rfl, by omega⟩) (by omega) dX2_fewestFrom_80 ?_
                        refine z_top (y := f (k + 1 + j)) (rfl) ?_
                        refine lv_aload_n hx hb dX2_fewestFrom_81 rfl (lv_at hl 0 rfl) ?_
                        refine lv_iload_n hx hb dX2_fewestFrom_82 rfl (lv_at hl 1 rfl) ?_
                        refine n_ald hX hK hP 0 rfl k (⟨rfl, by omega⟩) (by omega) dX2_fewestFrom_83 ?_
                        refine z_top (y := f k) (rfl) ?_
                        refine z_iadd hX dX2_fewestFrom_84 ?_
                        refine n_ast hX hK hP hD hS 0 rfl (v := (f (k + 1 + j)) + (f k)) ((k + 1 + j)) (⟨rfl, by omega⟩) (by omega) dX2_fewestFrom_85 (fun H locs hP hD hS => ?_)
                        have hP : va_P D vwCl [enI cA pv mm (gU f ((k + 1 + j)) ((f (k + 1 + j)) + (f k)))] H := hP
                        have hD : va_D _ [enI cA pv mm (gU f ((k + 1 + j)) ((f (k + 1 + j)) + (f k)))] := hD
                        rw [show (gU f ((k + 1 + j)) ((f (k + 1 + j)) + (f k))) = gU f (k + 1 + j) (f (k + 1 + j) + f k) from rfl] at hP hD
                        refine lv_iload_n hx hb dX2_fewestFrom_86 rfl (lv_at hl 2 rfl) ?_
                        refine W.eq (g2 := F0 m 87 ls [.int (iI (ffG (ffF mm (mm - k - 1) (k + 1)) f k mm j))]) rfl ?_
                        refine z_iconst hX dX2_fewestFrom_87 ?_
                        refine lv_iload_n hx hb dX2_fewestFrom_88 rfl (lv_at hl 1 rfl) ?_
                        refine z_iconst hX dX2_fewestFrom_89 ?_
                        refine z_iadd hX dX2_fewestFrom_90 ?_
                        refine lv_aload_n hx hb dX2_fewestFrom_91 rfl (lv_at hl 0 rfl) ?_
                        have hb2 : ∀ q, -(2 * b) ≤ (gU f (k + 1 + j) (f (k + 1 + j) + f k)) q ∧ (gU f (k + 1 + j) (f (k + 1 + j) + f k)) q ≤ 2 * b := fun q => by
                          unfold gU
                          have h1 := hfb (k + 1 + j)
                          have h2 := hfb k
                          have h3 := hfb q
                          split <;> omega
                        have hpw : 2 * b * 2 ^ (mm - k - 1) ≤ 1000000000 := by
                          have h1 : 2 ^ (mm - k - 1 + 1) ≤ 2 ^ c9 := Nat.pow_le_pow_right (by decide) (by omega)
                          have h2 : b * (2 ^ (mm - k - 1 + 1) : Nat) ≤ b * (2 ^ c9 : Nat) := Int.mul_le_mul_of_nonneg_left (by exact_mod_cast h1) hb0
                          have h3 : 2 * b * 2 ^ (mm - k - 1) = b * (2 ^ (mm - k - 1 + 1) : Nat) := by
                            rw [Nat.pow_succ]; push_cast; rw [Int.mul_comm 2 b, Int.mul_assoc, Int.mul_comm (2 : Int)]
                          have h4 : (b * (2 ^ c9 : Nat) : Int) ≤ 1000000000 := by push_cast; exact hbw
                          omega
                        have hP9 : va_P D vwCl ([enI cA pv mm (gU f (k + 1 + j) (f (k + 1 + j) + f k))] ++ []) H := hP
                        have hD9 : va_D _ ([enI cA pv mm (gU f (k + 1 + j) (f (k + 1 + j) + f k))] ++ []) := hD
                        refine l_calli hP9 hD9 hA hS (va_runS (As := [.int (iI ((↑k) + 1)), .ref pv]) (rest := [.int (iI (1)), .int (iI (ffG (ffF mm (mm - k - 1) (k + 1)) f k mm j))]) hX.fix (ih (mm - k - 1) (by omega) (k + 1) (gU f (k + 1 + j) (f (k + 1 + j) + f k)) (2 * b) _ _ (by omega) (by omega) (by omega) hb2 hpw) (va_cwS 2 hX.hts (lw_S q906 q907 q81 q908) rfl rfl rfl (by decide +kernel) ⟨by show mm - k - 1 + 1 + 1 ≤ c9 + 1; omega, by show 8 + (5 + 11) + (40 + 40 * (mm - k - 1)) ≤ 40 + 40 * c9; omega⟩) (l_preS hZ hK (D_l hD9) hA hE (P_l hP9) (fun k q h => by cases h) (fun k q h => by cases h) hS) rfl rfl hl.1 rfl (lv_room (Nat.le_of_ble_eq_true rfl)) dX2_fewestFrom_92 ⟨Nat.le_of_ble_eq_true rfl, Nat.le_of_ble_eq_true rfl⟩) (fun r w1 h => by obtain ⟨-, rfl⟩ := h; exact (D_l hD9).self) (fun r w1 H locs hq hP hD hS => ?_)
                        obtain ⟨hq1, rfl⟩ := hq
                        have hP : va_P D vwCl [enI cA pv mm (gU f (k + 1 + j) (f (k + 1 + j) + f k))] H := hP
                        have hD : va_D _ [enI cA pv mm (gU f (k + 1 + j) (f (k + 1 + j) + f k))] := hD
                        rw [show r = iI (ffF mm (mm - k - 1) (k + 1) (gU f (k + 1 + j) (f (k + 1 + j) + f k))) from hq1]
                        refine z_iadd hX dX2_fewestFrom_95 ?_
                        have hbA := ffG_bd (rec := ffF mm (mm - k - 1) (k + 1)) (f := f) (i := k) (M := mm) (fun f => (ffF_bd _ _ f).1) (Int.natCast_nonneg mm) j
                        have hbB := ffF_bd (m := mm) (mm - k - 1) (k + 1) (gU f (k + 1 + j) (f (k + 1 + j) + f k))
                        refine z_mmin hX ⟨by unfold rng; omega, by unfold rng; omega⟩ hl.1.symm q476 ⟨by show 1 ≤ c9 + 1; omega, by show 0 + 13 ≤ 40 + 40 * c9; omega⟩ ⟨Nat.le_of_ble_eq_true rfl, Nat.le_of_ble_eq_true rfl⟩ dX2_fewestFrom_96 ?_
                        refine lv_istore_n (lv' := [(3, .int (iI (min (ffG (ffF mm (mm - k - 1) (k + 1)) f k mm j) (1 + (ffF mm (mm - k - 1) (k + 1) (gU f (k + 1 + j) (f (k + 1 + j) + f k))))))), (1, .ref pv), (2, .int (iI (↑k))), (4, .int (iI (↑(k + 1 + j))))]) hx hb dX2_fewestFrom_99 rfl hl (by decide) rfl (fun ls hl => ?_)
                        refine lv_aload_n hx hb dX2_fewestFrom_100 rfl (lv_at hl 1 rfl) ?_
                        refine W.eq (g2 := F0 m 101 ls [.ref pv]) rfl ?_
                        refine lv_iload hx hb dX2_fewestFrom_101 (lv_at hl 3 rfl) ?_
                        refine lv_dup2_11 hx hb dX2_fewestFrom_103 rfl rfl ?_
                        refine n_ald hX hK hP 0 rfl ((k + 1 + j)) (⟨rfl, by omega⟩) (by omega) dX2_fewestFrom_104 ?_
                        refine z_top (y := f (k + 1 + j) + f k) (gU_eq) ?_
                        refine lv_aload_n hx hb dX2_fewestFrom_105 rfl (lv_at hl 1 rfl) ?_
                        refine lv_iload_n hx hb dX2_fewestFrom_106 rfl (lv_at hl 2 rfl) ?_
                        refine n_ald hX hK hP 0 rfl k (⟨rfl, by omega⟩) (by omega) dX2_fewestFrom_107 ?_
                        refine z_top (y := f k) (gU_ne (by omega)) ?_
                        refine z_isub hX dX2_fewestFrom_108 ?_
                        refine n_ast hX hK hP hD hS 0 rfl (v := (f (k + 1 + j) + f k) - (f k)) ((k + 1 + j)) (⟨rfl, by omega⟩) (by omega) dX2_fewestFrom_109 (fun H locs hP hD hS => ?_)
                        have hP : va_P D vwCl [enI cA pv mm (gU (gU f (k + 1 + j) (f (k + 1 + j) + f k)) ((k + 1 + j)) ((f (k + 1 + j) + f k) - (f k)))] H := hP
                        have hD : va_D _ [enI cA pv mm (gU (gU f (k + 1 + j) (f (k + 1 + j) + f k)) ((k + 1 + j)) ((f (k + 1 + j) + f k) - (f k)))] := hD
                        rw [show (gU (gU f (k + 1 + j) (f (k + 1 + j) + f k)) ((k + 1 + j)) ((f (k + 1 + j) + f k) - (f k))) = f from gU_back] at hP hD
                        refine z_iinc (y := ↑(k + 1 + (j + 1))) (lv' := [(4, .int (iI (↑(k + 1 + (j + 1))))), (3, .int (iI (min (ffG (ffF mm (mm - k - 1) (k + 1)) f k mm j) (1 + (ffF mm (mm - k - 1) (k + 1) (gU f (k + 1 + j) (f (k + 1 + j) + f k))))))), (1, .ref pv), (2, .int (iI (↑k)))]) hX dX2_fewestFrom_110 hl (k := 3) rfl (by omega) (by decide) rfl (fun ls hl => ?_)
                        refine lv_goto (tgt := 36) hx hb dX2_fewestFrom_113 (by decide) ?_
                        rw [show min (ffG (ffF mm (mm - k - 1) (k + 1)) f k mm j) (1 + (ffF mm (mm - k - 1) (k + 1) (gU f (k + 1 + j) (f (k + 1 + j) + f k)))) = ffG (ffF mm (mm - k - 1) (k + 1)) f k mm (j + 1) from (if_pos ⟨by omega, c_73⟩).symm] at hl
                        exact ih36 (j + 1) (by omega) (by omega) _ _ _ hP hD hS (lv_sub hl [2, 3, 1, 0] rfl)
                  · skip
                    refine W.eq (g2 := F0 m 61 ls [.int (iI (1))]) rfl ?_
                    refine z_iconst hX dX2_fewestFrom_61 ?_
                    refine lv_goto (tgt := 66) hx hb dX2_fewestFrom_62 (by decide) ?_
                    refine z_icmp_eq (tgt := 110) hX (by decide) dX2_fewestFrom_66 (by decide) (fun c_66 => ?_) (fun c_66 => ?_)
                    · skip
                      refine z_iinc (y := ↑(k + 1 + (j + 1))) (lv' := [(4, .int (iI (↑(k + 1 + (j + 1))))), (1, .ref pv), (2, .int (iI (↑k))), (3, .int (iI (ffG (ffF mm (mm - k - 1) (k + 1)) f k mm j)))]) hX dX2_fewestFrom_110 hl (k := 3) rfl (by omega) (by decide) rfl (fun ls hl => ?_)
                      refine lv_goto (tgt := 36) hx hb dX2_fewestFrom_113 (by decide) ?_
                      rw [show ffG (ffF mm (mm - k - 1) (k + 1)) f k mm j = ffG (ffF mm (mm - k - 1) (k + 1)) f k mm (j + 1) from (if_neg (fun q9 => by first | exact q9.2 c_73 | exact q9.1 (by omega))).symm] at hl
                      exact ih36 (j + 1) (by omega) (by omega) _ _ _ hP hD hS (lv_sub hl [1, 2, 3, 0] rfl)
                    · skip
                      refine lv_aload_n hx hb dX2_fewestFrom_69 rfl (lv_at hl 0 rfl) ?_
                      refine lv_iload hx hb dX2_fewestFrom_70 (lv_at hl 3 rfl) ?_
                      refine n_ald hX hK hP 0 rfl ((k + 1 + j)) (⟨rfl, by omega⟩) (by omega) dX2_fewestFrom_72 ?_
                      refine z_if_eq (tgt := 110) hX (by have := hfb (k + 1 + j); omega) dX2_fewestFrom_73 (by decide) (fun c_73 => ?_) (fun c_73 => ?_)
                      · skip
                        refine z_iinc (y := ↑(k + 1 + (j + 1))) (lv' := [(4, .int (iI (↑(k + 1 + (j + 1))))), (1, .ref pv), (2, .int (iI (↑k))), (3, .int (iI (ffG (ffF mm (mm - k - 1) (k + 1)) f k mm j)))]) hX dX2_fewestFrom_110 hl (k := 3) rfl (by omega) (by decide) rfl (fun ls hl => ?_)
                        refine lv_goto (tgt := 36) hx hb dX2_fewestFrom_113 (by decide) ?_
                        rw [show ffG (ffF mm (mm - k - 1) (k + 1)) f k mm j = ffG (ffF mm (mm - k - 1) (k + 1)) f k mm (j + 1) from (if_neg (fun q9 => by first | exact q9.2 c_73 | exact q9.1 (by omega))).symm] at hl
                        exact ih36 (j + 1) (by omega) (by omega) _ _ _ hP hD hS (lv_sub hl [1, 2, 3, 0] rfl)
                      · skip
                        refine lv_aload_n hx hb dX2_fewestFrom_76 rfl (lv_at hl 0 rfl) ?_
                        refine lv_iload hx hb dX2_fewestFrom_77 (lv_at hl 3 rfl) ?_
                        refine lv_dup2_11 hx hb dX2_fewestFrom_79 rfl rfl ?_
                        refine n_ald hX hK hP 0 rfl ((k + 1 + j)) (⟨rfl, by omega⟩) (by omega) dX2_fewestFrom_80 ?_
                        refine z_top (y := f (k + 1 + j)) (rfl) ?_
                        refine lv_aload_n hx hb dX2_fewestFrom_81 rfl (lv_at hl 0 rfl) ?_
                        refine lv_iload_n hx hb dX2_fewestFrom_82 rfl (lv_at hl 1 rfl) ?_
                        refine n_ald hX hK hP 0 rfl k (⟨rfl, by omega⟩) (by omega) dX2_fewestFrom_83 ?_
                        refine z_top (y := f k) (rfl) ?_
                        refine z_iadd hX dX2_fewestFrom_84 ?_
                        refine n_ast hX hK hP hD hS 0 rfl (v := (f (k + 1 + j)) + (f k)) ((k + 1 + j)) (⟨rfl, by omega⟩) (by omega) dX2_fewestFrom_85 (fun H locs hP hD hS => ?_)
                        have hP : va_P D vwCl [enI cA pv mm (gU f ((k + 1 + j)) ((f (k + 1 + j)) + (f k)))] H := hP
                        have hD : va_D _ [enI cA pv mm (gU f ((k + 1 + j)) ((f (k + 1 + j)) + (f k)))] := hD
                        rw [show (gU f ((k + 1 + j)) ((f (k + 1 + j)) + (f k))) = gU f (k + 1 + j) (f (k + 1 + j) + f k) from rfl] at hP hD
                        refine W.eq (g2 := F0 m 86 ls []) rfl ?_
                        refine lv_iload_n hx hb dX2_fewestFrom_86 rfl (lv_at hl 2 rfl) ?_
                        refine z_iconst hX dX2_fewestFrom_87 ?_
                        refine lv_iload_n hx hb dX2_fewestFrom_88 rfl (lv_at hl 1 rfl) ?_
                        refine z_iconst hX dX2_fewestFrom_89 ?_
                        refine z_iadd hX dX2_fewestFrom_90 ?_
                        refine lv_aload_n hx hb dX2_fewestFrom_91 rfl (lv_at hl 0 rfl) ?_
                        have hb2 : ∀ q, -(2 * b) ≤ (gU f (k + 1 + j) (f (k + 1 + j) + f k)) q ∧ (gU f (k + 1 + j) (f (k + 1 + j) + f k)) q ≤ 2 * b := fun q => by
                          unfold gU
                          have h1 := hfb (k + 1 + j)
                          have h2 := hfb k
                          have h3 := hfb q
                          split <;> omega
                        have hpw : 2 * b * 2 ^ (mm - k - 1) ≤ 1000000000 := by
                          have h1 : 2 ^ (mm - k - 1 + 1) ≤ 2 ^ c9 := Nat.pow_le_pow_right (by decide) (by omega)
                          have h2 : b * (2 ^ (mm - k - 1 + 1) : Nat) ≤ b * (2 ^ c9 : Nat) := Int.mul_le_mul_of_nonneg_left (by exact_mod_cast h1) hb0
                          have h3 : 2 * b * 2 ^ (mm - k - 1) = b * (2 ^ (mm - k - 1 + 1) : Nat) := by
                            rw [Nat.pow_succ]; push_cast; rw [Int.mul_comm 2 b, Int.mul_assoc, Int.mul_comm (2 : Int)]
                          have h4 : (b * (2 ^ c9 : Nat) : Int) ≤ 1000000000 := by push_cast; exact hbw
                          omega
                        have hP9 : va_P D vwCl ([enI cA pv mm (gU f (k + 1 + j) (f (k + 1 + j) + f k))] ++ []) H := hP
                        have hD9 : va_D _ ([enI cA pv mm (gU f (k + 1 + j) (f (k + 1 + j) + f k))] ++ []) := hD
                        refine l_calli hP9 hD9 hA hS (va_runS (As := [.int (iI ((↑k) + 1)), .ref pv]) (rest := [.int (iI (1)), .int (iI (ffG (ffF mm (mm - k - 1) (k + 1)) f k mm j))]) hX.fix (ih (mm - k - 1) (by omega) (k + 1) (gU f (k + 1 + j) (f (k + 1 + j) + f k)) (2 * b) _ _ (by omega) (by omega) (by omega) hb2 hpw) (va_cwS 2 hX.hts (lw_S q906 q907 q81 q908) rfl rfl rfl (by decide +kernel) ⟨by show mm - k - 1 + 1 + 1 ≤ c9 + 1; omega, by show 8 + (5 + 11) + (40 + 40 * (mm - k - 1)) ≤ 40 + 40 * c9; omega⟩) (l_preS hZ hK (D_l hD9) hA hE (P_l hP9) (fun k q h => by cases h) (fun k q h => by cases h) hS) rfl rfl hl.1 rfl (lv_room (Nat.le_of_ble_eq_true rfl)) dX2_fewestFrom_92 ⟨Nat.le_of_ble_eq_true rfl, Nat.le_of_ble_eq_true rfl⟩) (fun r w1 h => by obtain ⟨-, rfl⟩ := h; exact (D_l hD9).self) (fun r w1 H locs hq hP hD hS => ?_)
                        obtain ⟨hq1, rfl⟩ := hq
                        have hP : va_P D vwCl [enI cA pv mm (gU f (k + 1 + j) (f (k + 1 + j) + f k))] H := hP
                        have hD : va_D _ [enI cA pv mm (gU f (k + 1 + j) (f (k + 1 + j) + f k))] := hD
                        rw [show r = iI (ffF mm (mm - k - 1) (k + 1) (gU f (k + 1 + j) (f (k + 1 + j) + f k))) from hq1]
                        refine z_iadd hX dX2_fewestFrom_95 ?_
                        have hbA := ffG_bd (rec := ffF mm (mm - k - 1) (k + 1)) (f := f) (i := k) (M := mm) (fun f => (ffF_bd _ _ f).1) (Int.natCast_nonneg mm) j
                        have hbB := ffF_bd (m := mm) (mm - k - 1) (k + 1) (gU f (k + 1 + j) (f (k + 1 + j) + f k))
                        refine z_mmin hX ⟨by unfold rng; omega, by unfold rng; omega⟩ hl.1.symm q476 ⟨by show 1 ≤ c9 + 1; omega, by show 0 + 13 ≤ 40 + 40 * c9; omega⟩ ⟨Nat.le_of_ble_eq_true rfl, Nat.le_of_ble_eq_true rfl⟩ dX2_fewestFrom_96 ?_
                        refine lv_istore_n (lv' := [(3, .int (iI (min (ffG (ffF mm (mm - k - 1) (k + 1)) f k mm j) (1 + (ffF mm (mm - k - 1) (k + 1) (gU f (k + 1 + j) (f (k + 1 + j) + f k))))))), (1, .ref pv), (2, .int (iI (↑k))), (4, .int (iI (↑(k + 1 + j))))]) hx hb dX2_fewestFrom_99 rfl hl (by decide) rfl (fun ls hl => ?_)
                        refine W.eq (g2 := F0 m 100 ls []) rfl ?_
                        refine lv_aload_n hx hb dX2_fewestFrom_100 rfl (lv_at hl 1 rfl) ?_
                        refine lv_iload hx hb dX2_fewestFrom_101 (lv_at hl 3 rfl) ?_
                        refine lv_dup2_11 hx hb dX2_fewestFrom_103 rfl rfl ?_
                        refine n_ald hX hK hP 0 rfl ((k + 1 + j)) (⟨rfl, by omega⟩) (by omega) dX2_fewestFrom_104 ?_
                        refine z_top (y := f (k + 1 + j) + f k) (gU_eq) ?_
                        refine lv_aload_n hx hb dX2_fewestFrom_105 rfl (lv_at hl 1 rfl) ?_
                        refine lv_iload_n hx hb dX2_fewestFrom_106 rfl (lv_at hl 2 rfl) ?_
                        refine n_ald hX hK hP 0 rfl k (⟨rfl, by omega⟩) (by omega) dX2_fewestFrom_107 ?_
                        refine z_top (y := f k) (gU_ne (by omega)) ?_
                        refine z_isub hX dX2_fewestFrom_108 ?_
                        refine n_ast hX hK hP hD hS 0 rfl (v := (f (k + 1 + j) + f k) - (f k)) ((k + 1 + j)) (⟨rfl, by omega⟩) (by omega) dX2_fewestFrom_109 (fun H locs hP hD hS => ?_)
                        have hP : va_P D vwCl [enI cA pv mm (gU (gU f (k + 1 + j) (f (k + 1 + j) + f k)) ((k + 1 + j)) ((f (k + 1 + j) + f k) - (f k)))] H := hP
                        have hD : va_D _ [enI cA pv mm (gU (gU f (k + 1 + j) (f (k + 1 + j) + f k)) ((k + 1 + j)) ((f (k + 1 + j) + f k) - (f k)))] := hD
                        rw [show (gU (gU f (k + 1 + j) (f (k + 1 + j) + f k)) ((k + 1 + j)) ((f (k + 1 + j) + f k) - (f k))) = f from gU_back] at hP hD
                        refine z_iinc (y := ↑(k + 1 + (j + 1))) (lv' := [(4, .int (iI (↑(k + 1 + (j + 1))))), (3, .int (iI (min (ffG (ffF mm (mm - k - 1) (k + 1)) f k mm j) (1 + (ffF mm (mm - k - 1) (k + 1) (gU f (k + 1 + j) (f (k + 1 + j) + f k))))))), (1, .ref pv), (2, .int (iI (↑k)))]) hX dX2_fewestFrom_110 hl (k := 3) rfl (by omega) (by decide) rfl (fun ls hl => ?_)
                        refine lv_goto (tgt := 36) hx hb dX2_fewestFrom_113 (by decide) ?_
                        rw [show min (ffG (ffF mm (mm - k - 1) (k + 1)) f k mm j) (1 + (ffF mm (mm - k - 1) (k + 1) (gU f (k + 1 + j) (f (k + 1 + j) + f k)))) = ffG (ffF mm (mm - k - 1) (k + 1)) f k mm (j + 1) from (if_pos ⟨by omega, c_73⟩).symm] at hl
                        exact ih36 (j + 1) (by omega) (by omega) _ _ _ hP hD hS (lv_sub hl [2, 3, 1, 0] rfl)
          exact L36 (mm + 1) (0) (by omega) (by omega) _ _ _ hP hD hS (lv_sub hl [2, 3, 1, 0] rfl)
        · skip
          refine z_iconst hX dX2_fewestFrom_26 ?_
          exact n_iret hX hP hS (⟨by rw [hsk, show mm - k = 0 by omega]; rfl, rfl⟩) dX2_fewestFrom_27
      · skip
        refine lv_aload_n hx hb dX2_fewestFrom_8 rfl (lv_at hl 0 rfl) ?_
        refine lv_iload_n hx hb dX2_fewestFrom_9 rfl (lv_at hl 1 rfl) ?_
        refine n_ald hX hK hP 0 rfl k (⟨rfl, by omega⟩) (by omega) dX2_fewestFrom_10 ?_
        refine z_if_ne (tgt := 20) hX (by have := hfb k; omega) dX2_fewestFrom_11 (by decide) (fun c_11 => ?_) (fun c_11 => ?_)
        · skip
          refine lv_iload_n hx hb dX2_fewestFrom_20 rfl (lv_at hl 1 rfl) ?_
          refine lv_aload_n hx hb dX2_fewestFrom_21 rfl (lv_at hl 0 rfl) ?_
          refine va_alen hX.1 hX.2.1 hK hP 0 0 rfl ty_0 (v := iI ((mm : Nat) : Int)) rfl dX2_fewestFrom_22 ?_
          refine W.eq (g2 := F0 m 23 ls [.int (iI (↑mm)), .int (iI (↑k))]) rfl ?_
          refine z_icmp_ne (tgt := 28) hX (by omega) dX2_fewestFrom_23 (by decide) (fun c_23 => ?_) (fun c_23 => ?_)
          · skip
            refine lv_aload_n hx hb dX2_fewestFrom_28 rfl (lv_at hl 0 rfl) ?_
            refine va_alen hX.1 hX.2.1 hK hP 0 0 rfl ty_0 (v := iI ((mm : Nat) : Int)) rfl dX2_fewestFrom_29 ?_
            refine z_top (y := ffG (ffF mm (mm - k - 1) (k + 1)) f k mm 0) (rfl) ?_
            refine lv_istore_n (lv' := [(3, .int (iI (ffG (ffF mm (mm - k - 1) (k + 1)) f k mm 0))), (1, .ref pv), (2, .int (iI (↑k)))]) hx hb dX2_fewestFrom_30 rfl hl (by decide) rfl (fun ls hl => ?_)
            refine lv_iload_n hx hb dX2_fewestFrom_31 rfl (lv_at hl 2 rfl) ?_
            refine z_iconst hX dX2_fewestFrom_32 ?_
            refine z_iadd hX dX2_fewestFrom_33 ?_
            refine z_top (y := ↑(k + 1 + 0)) (by omega) ?_
            refine lv_istore (lv' := [(4, .int (iI (↑(k + 1 + 0)))), (3, .int (iI (ffG (ffF mm (mm - k - 1) (k + 1)) f k mm 0))), (1, .ref pv), (2, .int (iI (↑k)))]) hx hb dX2_fewestFrom_34 hl (by decide) rfl (fun ls hl => ?_)
            have L36 : ∀ (n : Nat) (j : Nat), (mm < k + 1 + j + n) → (k + 1 + j ≤ mm) → ∀ (H : Heap) (locs : List Loc) (ls : Array Slot), va_P D vwCl [enI cA pv mm f] H → va_D (wA (wL [enI cA pv mm f]) sz) [enI cA pv mm f] → va_S (wA (wL [enI cA pv mm f]) sz) s.heap H locs → lv_has ls 5 [(1, .ref pv), (2, .int (iI (↑k))), (3, .int (iI (ffG (ffF mm (mm - k - 1) (k + 1)) f k mm j))), (4, .int (iI (↑(k + 1 + j))))] → W p l e (headSpec (ws_ yX2_fewestFrom cX2_fewestFrom 5 (some .int)) { frames := c9 + 1, cells := 0, slots := 0, locals := 40 + 40 * c9 }).room s m ([.int (iI (↑i)), .ref pv] : List Value).toArray below meth c H locs 0 0 (MQ below (nQi D (fun r ws => r = iI (ffF mm c9 i f) ∧ ws = [enI cA pv mm f]) (wA (wL [enI cA pv mm f]) sz)) ([.int (iI (↑i)), .ref pv] : List Value).toArray s 0 0 (wA (wL [enI cA pv mm f]) sz)) (F0 m 36 ls []) := by
              intro n
              induction n with
              | zero =>
                intro j hf hj H locs ls hP hD hS hl
                exact absurd hf (by omega)
              | succ n ih36 =>
                intro j hf hj H locs ls hP hD hS hl
                refine lv_iload hx hb dX2_fewestFrom_36 (lv_at hl 3 rfl) ?_
                refine lv_aload_n hx hb dX2_fewestFrom_38 rfl (lv_at hl 0 rfl) ?_
                refine W.eq (g2 := F0 m 39 ls [.ref pv, .int (iI (↑(k + 1 + j)))]) rfl ?_
                refine va_alen hX.1 hX.2.1 hK hP 0 0 rfl ty_0 (v := iI ((mm : Nat) : Int)) rfl dX2_fewestFrom_39 ?_
                refine z_icmp_ge (tgt := 116) hX (by omega) dX2_fewestFrom_40 (by decide) (fun c_40 => ?_) (fun c_40 => ?_)
                · skip
                  refine lv_iload_n hx hb dX2_fewestFrom_116 rfl (lv_at hl 2 rfl) ?_
                  exact n_iret hX hP hS (⟨by rw [hsk, show mm - k = (mm - k - 1) + 1 by omega, ffF_n (by omega), show mm - k - 1 + 1 - 1 = mm - k - 1 by omega, show j = mm - k - 1 by omega], rfl⟩) dX2_fewestFrom_117
                · skip
                  refine lv_aload_n hx hb dX2_fewestFrom_43 rfl (lv_at hl 0 rfl) ?_
                  refine lv_iload_n hx hb dX2_fewestFrom_44 rfl (lv_at hl 1 rfl) ?_
                  refine n_ald hX hK hP 0 rfl k (⟨rfl, by omega⟩) (by omega) dX2_fewestFrom_45 ?_
                  refine z_if_le (tgt := 53) hX (by have := hfb k; omega) dX2_fewestFrom_46 (by decide) (fun c_46 => ?_) (fun c_46 => ?_)
                  · skip
                    refine z_iconst hX dX2_fewestFrom_53 ?_
                    refine lv_aload_n hx hb dX2_fewestFrom_54 rfl (lv_at hl 0 rfl) ?_
                    refine W.eq (g2 := F0 m 55 ls [.ref pv, .int (iI (0))]) rfl ?_
                    refine lv_iload hx hb dX2_fewestFrom_55 (lv_at hl 3 rfl) ?_
                    refine n_ald hX hK hP 0 rfl ((k + 1 + j)) (⟨rfl, by omega⟩) (by omega) dX2_fewestFrom_57 ?_
                    refine z_if_le (tgt := 65) hX (by have := hfb (k + 1 + j); omega) dX2_fewestFrom_58 (by decide) (fun c_58 => ?_) (fun c_58 => ?_)
                    · skip
                      refine z_iconst hX dX2_fewestFrom_65 ?_
                      refine z_icmp_eq (tgt := 110) hX (by decide) dX2_fewestFrom_66 (by decide) (fun c_66 => ?_) (fun c_66 => ?_)
                      · skip
                        refine z_iinc (y := ↑(k + 1 + (j + 1))) (lv' := [(4, .int (iI (↑(k + 1 + (j + 1))))), (1, .ref pv), (2, .int (iI (↑k))), (3, .int (iI (ffG (ffF mm (mm - k - 1) (k + 1)) f k mm j)))]) hX dX2_fewestFrom_110 hl (k := 3) rfl (by omega) (by decide) rfl (fun ls hl => ?_)
                        refine lv_goto (tgt := 36) hx hb dX2_fewestFrom_113 (by decide) ?_
                        rw [show ffG (ffF mm (mm - k - 1) (k + 1)) f k mm j = ffG (ffF mm (mm - k - 1) (k + 1)) f k mm (j + 1) from (if_neg (fun q9 => by first | exact q9.2 c_73 | exact q9.1 (by omega))).symm] at hl
                        exact ih36 (j + 1) (by omega) (by omega) _ _ _ hP hD hS (lv_sub hl [1, 2, 3, 0] rfl)
                      · skip
                        refine lv_aload_n hx hb dX2_fewestFrom_69 rfl (lv_at hl 0 rfl) ?_
                        refine lv_iload hx hb dX2_fewestFrom_70 (lv_at hl 3 rfl) ?_
                        refine n_ald hX hK hP 0 rfl ((k + 1 + j)) (⟨rfl, by omega⟩) (by omega) dX2_fewestFrom_72 ?_
                        refine W.eq (g2 := F0 m 73 ls [.int (iI (f ((k + 1 + j))))]) rfl ?_
                        refine z_if_eq (tgt := 110) hX (by have := hfb (k + 1 + j); omega) dX2_fewestFrom_73 (by decide) (fun c_73 => ?_) (fun c_73 => ?_)
                        · skip
                          refine z_iinc (y := ↑(k + 1 + (j + 1))) (lv' := [(4, .int (iI (↑(k + 1 + (j + 1))))), (1, .ref pv), (2, .int (iI (↑k))), (3, .int (iI (ffG (ffF mm (mm - k - 1) (k + 1)) f k mm j)))]) hX dX2_fewestFrom_110 hl (k := 3) rfl (by omega) (by decide) rfl (fun ls hl => ?_)
                          refine lv_goto (tgt := 36) hx hb dX2_fewestFrom_113 (by decide) ?_
                          rw [show ffG (ffF mm (mm - k - 1) (k + 1)) f k mm j = ffG (ffF mm (mm - k - 1) (k + 1)) f k mm (j + 1) from (if_neg (fun q9 => by first | exact q9.2 c_73 | exact q9.1 (by omega))).symm] at hl
                          exact ih36 (j + 1) (by omega) (by omega) _ _ _ hP hD hS (lv_sub hl [1, 2, 3, 0] rfl)
                        · skip
                          refine lv_aload_n hx hb dX2_fewestFrom_76 rfl (lv_at hl 0 rfl) ?_
                          refine lv_iload hx hb dX2_fewestFrom_77 (lv_at hl 3 rfl) ?_
                          refine lv_dup2_11 hx hb dX2_fewestFrom_79 rfl rfl ?_
                          refine n_ald hX hK hP 0 rfl ((k + 1 + j)) (⟨rfl, by omega⟩) (by omega) dX2_fewestFrom_80 ?_
                          refine z_top (y := f (k + 1 + j)) (rfl) ?_
                          refine lv_aload_n hx hb dX2_fewestFrom_81 rfl (lv_at hl 0 rfl) ?_
                          refine lv_iload_n hx hb dX2_fewestFrom_82 rfl (lv_at hl 1 rfl) ?_
                          refine n_ald hX hK hP 0 rfl k (⟨rfl, by omega⟩) (by omega) dX2_fewestFrom_83 ?_
                          refine z_top (y := f k) (rfl) ?_
                          refine W.eq (g2 := F0 m 84 ls [.int (iI (f k)), .int (iI (f (k + 1 + j))), .int (iI (↑(k + 1 + j))), .ref pv]) rfl ?_
                          refine z_iadd hX dX2_fewestFrom_84 ?_
                          refine n_ast hX hK hP hD hS 0 rfl (v := (f (k + 1 + j)) + (f k)) ((k + 1 + j)) (⟨rfl, by omega⟩) (by omega) dX2_fewestFrom_85 (fun H locs hP hD hS => ?_)
                          have hP : va_P D vwCl [enI cA pv mm (gU f ((k + 1 + j)) ((f (k + 1 + j)) + (f k)))] H := hP
                          have hD : va_D _ [enI cA pv mm (gU f ((k + 1 + j)) ((f (k + 1 + j)) + (f k)))] := hD
                          rw [show (gU f ((k + 1 + j)) ((f (k + 1 + j)) + (f k))) = gU f (k + 1 + j) (f (k + 1 + j) + f k) from rfl] at hP hD
                          refine lv_iload_n hx hb dX2_fewestFrom_86 rfl (lv_at hl 2 rfl) ?_
                          refine z_iconst hX dX2_fewestFrom_87 ?_
                          refine lv_iload_n hx hb dX2_fewestFrom_88 rfl (lv_at hl 1 rfl) ?_
                          refine z_iconst hX dX2_fewestFrom_89 ?_
                          refine z_iadd hX dX2_fewestFrom_90 ?_
                          refine lv_aload_n hx hb dX2_fewestFrom_91 rfl (lv_at hl 0 rfl) ?_
                          have hb2 : ∀ q, -(2 * b) ≤ (gU f (k + 1 + j) (f (k + 1 + j) + f k)) q ∧ (gU f (k + 1 + j) (f (k + 1 + j) + f k)) q ≤ 2 * b := fun q => by
                            unfold gU
                            have h1 := hfb (k + 1 + j)
                            have h2 := hfb k
                            have h3 := hfb q
                            split <;> omega
                          have hpw : 2 * b * 2 ^ (mm - k - 1) ≤ 1000000000 := by
                            have h1 : 2 ^ (mm - k - 1 + 1) ≤ 2 ^ c9 := Nat.pow_le_pow_right (by decide) (by omega)
                            have h2 : b * (2 ^ (mm - k - 1 + 1) : Nat) ≤ b * (2 ^ c9 : Nat) := Int.mul_le_mul_of_nonneg_left (by exact_mod_cast h1) hb0
                            have h3 : 2 * b * 2 ^ (mm - k - 1) = b * (2 ^ (mm - k - 1 + 1) : Nat) := by
                              rw [Nat.pow_succ]; push_cast; rw [Int.mul_comm 2 b, Int.mul_assoc, Int.mul_comm (2 : Int)]
                            have h4 : (b * (2 ^ c9 : Nat) : Int) ≤ 1000000000 := by push_cast; exact hbw
                            omega
                          have hP9 : va_P D vwCl ([enI cA pv mm (gU f (k + 1 + j) (f (k + 1 + j) + f k))] ++ []) H := hP
                          have hD9 : va_D _ ([enI cA pv mm (gU f (k + 1 + j) (f (k + 1 + j) + f k))] ++ []) := hD
                          refine l_calli hP9 hD9 hA hS (va_runS (As := [.int (iI ((↑k) + 1)), .ref pv]) (rest := [.int (iI (1)), .int (iI (ffG (ffF mm (mm - k - 1) (k + 1)) f k mm j))]) hX.fix (ih (mm - k - 1) (by omega) (k + 1) (gU f (k + 1 + j) (f (k + 1 + j) + f k)) (2 * b) _ _ (by omega) (by omega) (by omega) hb2 hpw) (va_cwS 2 hX.hts (lw_S q906 q907 q81 q908) rfl rfl rfl (by decide +kernel) ⟨by show mm - k - 1 + 1 + 1 ≤ c9 + 1; omega, by show 8 + (5 + 11) + (40 + 40 * (mm - k - 1)) ≤ 40 + 40 * c9; omega⟩) (l_preS hZ hK (D_l hD9) hA hE (P_l hP9) (fun k q h => by cases h) (fun k q h => by cases h) hS) rfl rfl hl.1 rfl (lv_room (Nat.le_of_ble_eq_true rfl)) dX2_fewestFrom_92 ⟨Nat.le_of_ble_eq_true rfl, Nat.le_of_ble_eq_true rfl⟩) (fun r w1 h => by obtain ⟨-, rfl⟩ := h; exact (D_l hD9).self) (fun r w1 H locs hq hP hD hS => ?_)
                          obtain ⟨hq1, rfl⟩ := hq
                          have hP : va_P D vwCl [enI cA pv mm (gU f (k + 1 + j) (f (k + 1 + j) + f k))] H := hP
                          have hD : va_D _ [enI cA pv mm (gU f (k + 1 + j) (f (k + 1 + j) + f k))] := hD
                          rw [show r = iI (ffF mm (mm - k - 1) (k + 1) (gU f (k + 1 + j) (f (k + 1 + j) + f k))) from hq1]
                          refine z_iadd hX dX2_fewestFrom_95 ?_
                          refine W.eq (g2 := F0 m 96 ls [.int (iI (1 + (ffF mm (mm - k - 1) (k + 1) (gU f (k + 1 + j) (f (k + 1 + j) + f k))))), .int (iI (ffG (ffF mm (mm - k - 1) (k + 1)) f k mm j))]) rfl ?_
                          have hbA := ffG_bd (rec := ffF mm (mm - k - 1) (k + 1)) (f := f) (i := k) (M := mm) (fun f => (ffF_bd _ _ f).1) (Int.natCast_nonneg mm) j
                          have hbB := ffF_bd (m := mm) (mm - k - 1) (k + 1) (gU f (k + 1 + j) (f (k + 1 + j) + f k))
                          refine z_mmin hX ⟨by unfold rng; omega, by unfold rng; omega⟩ hl.1.symm q476 ⟨by show 1 ≤ c9 + 1; omega, by show 0 + 13 ≤ 40 + 40 * c9; omega⟩ ⟨Nat.le_of_ble_eq_true rfl, Nat.le_of_ble_eq_true rfl⟩ dX2_fewestFrom_96 ?_
                          refine lv_istore_n (lv' := [(3, .int (iI (min (ffG (ffF mm (mm - k - 1) (k + 1)) f k mm j) (1 + (ffF mm (mm - k - 1) (k + 1) (gU f (k + 1 + j) (f (k + 1 + j) + f k))))))), (1, .ref pv), (2, .int (iI (↑k))), (4, .int (iI (↑(k + 1 + j))))]) hx hb dX2_fewestFrom_99 rfl hl (by decide) rfl (fun ls hl => ?_)
                          refine lv_aload_n hx hb dX2_fewestFrom_100 rfl (lv_at hl 1 rfl) ?_
                          refine lv_iload hx hb dX2_fewestFrom_101 (lv_at hl 3 rfl) ?_
                          refine lv_dup2_11 hx hb dX2_fewestFrom_103 rfl rfl ?_
                          refine n_ald hX hK hP 0 rfl ((k + 1 + j)) (⟨rfl, by omega⟩) (by omega) dX2_fewestFrom_104 ?_
                          refine z_top (y := f (k + 1 + j) + f k) (gU_eq) ?_
                          refine lv_aload_n hx hb dX2_fewestFrom_105 rfl (lv_at hl 1 rfl) ?_
                          refine lv_iload_n hx hb dX2_fewestFrom_106 rfl (lv_at hl 2 rfl) ?_
                          refine n_ald hX hK hP 0 rfl k (⟨rfl, by omega⟩) (by omega) dX2_fewestFrom_107 ?_
                          refine z_top (y := f k) (gU_ne (by omega)) ?_
                          refine z_isub hX dX2_fewestFrom_108 ?_
                          refine W.eq (g2 := F0 m 109 ls [.int (iI ((f (k + 1 + j) + f k) - (f k))), .int (iI (↑(k + 1 + j))), .ref pv]) rfl ?_
                          refine n_ast hX hK hP hD hS 0 rfl (v := (f (k + 1 + j) + f k) - (f k)) ((k + 1 + j)) (⟨rfl, by omega⟩) (by omega) dX2_fewestFrom_109 (fun H locs hP hD hS => ?_)
                          have hP : va_P D vwCl [enI cA pv mm (gU (gU f (k + 1 + j) (f (k + 1 + j) + f k)) ((k + 1 + j)) ((f (k + 1 + j) + f k) - (f k)))] H := hP
                          have hD : va_D _ [enI cA pv mm (gU (gU f (k + 1 + j) (f (k + 1 + j) + f k)) ((k + 1 + j)) ((f (k + 1 + j) + f k) - (f k)))] := hD
                          rw [show (gU (gU f (k + 1 + j) (f (k + 1 + j) + f k)) ((k + 1 + j)) ((f (k + 1 + j) + f k) - (f k))) = f from gU_back] at hP hD
                          refine z_iinc (y := ↑(k + 1 + (j + 1))) (lv' := [(4, .int (iI (↑(k + 1 + (j + 1))))), (3, .int (iI (min (ffG (ffF mm (mm - k - 1) (k + 1)) f k mm j) (1 + (ffF mm (mm - k - 1) (k + 1) (gU f (k + 1 + j) (f (k + 1 + j) + f k))))))), (1, .ref pv), (2, .int (iI (↑k)))]) hX dX2_fewestFrom_110 hl (k := 3) rfl (by omega) (by decide) rfl (fun ls hl => ?_)
                          refine lv_goto (tgt := 36) hx hb dX2_fewestFrom_113 (by decide) ?_
                          rw [show min (ffG (ffF mm (mm - k - 1) (k + 1)) f k mm j) (1 + (ffF mm (mm - k - 1) (k + 1) (gU f (k + 1 + j) (f (k + 1 + j) + f k)))) = ffG (ffF mm (mm - k - 1) (k + 1)) f k mm (j + 1) from (if_pos ⟨by omega, c_73⟩).symm] at hl
                          exact ih36 (j + 1) (by omega) (by omega) _ _ _ hP hD hS (lv_sub hl [2, 3, 1, 0] rfl)
                    · skip
                      refine z_iconst hX dX2_fewestFrom_61 ?_
                      refine lv_goto (tgt := 66) hx hb dX2_fewestFrom_62 (by decide) ?_
                      refine z_icmp_eq (tgt := 110) hX (by decide) dX2_fewestFrom_66 (by decide) (fun c_66 => ?_) (fun c_66 => ?_)
                      · skip
                        refine z_iinc (y := ↑(k + 1 + (j + 1))) (lv' := [(4, .int (iI (↑(k + 1 + (j + 1))))), (1, .ref pv), (2, .int (iI (↑k))), (3, .int (iI (ffG (ffF mm (mm - k - 1) (k + 1)) f k mm j)))]) hX dX2_fewestFrom_110 hl (k := 3) rfl (by omega) (by decide) rfl (fun ls hl => ?_)
                        refine lv_goto (tgt := 36) hx hb dX2_fewestFrom_113 (by decide) ?_
                        rw [show ffG (ffF mm (mm - k - 1) (k + 1)) f k mm j = ffG (ffF mm (mm - k - 1) (k + 1)) f k mm (j + 1) from (if_neg (fun q9 => by first | exact q9.2 c_73 | exact q9.1 (by omega))).symm] at hl
                        exact ih36 (j + 1) (by omega) (by omega) _ _ _ hP hD hS (lv_sub hl [1, 2, 3, 0] rfl)
                      · skip
                        refine lv_aload_n hx hb dX2_fewestFrom_69 rfl (lv_at hl 0 rfl) ?_
                        refine lv_iload hx hb dX2_fewestFrom_70 (lv_at hl 3 rfl) ?_
                        refine W.eq (g2 := F0 m 72 ls [.int (iI (↑(k + 1 + j))), .ref pv]) rfl ?_
                        refine n_ald hX hK hP 0 rfl ((k + 1 + j)) (⟨rfl, by omega⟩) (by omega) dX2_fewestFrom_72 ?_
                        refine z_if_eq (tgt := 110) hX (by have := hfb (k + 1 + j); omega) dX2_fewestFrom_73 (by decide) (fun c_73 => ?_) (fun c_73 => ?_)
                        · skip
                          refine z_iinc (y := ↑(k + 1 + (j + 1))) (lv' := [(4, .int (iI (↑(k + 1 + (j + 1))))), (1, .ref pv), (2, .int (iI (↑k))), (3, .int (iI (ffG (ffF mm (mm - k - 1) (k + 1)) f k mm j)))]) hX dX2_fewestFrom_110 hl (k := 3) rfl (by omega) (by decide) rfl (fun ls hl => ?_)
                          refine lv_goto (tgt := 36) hx hb dX2_fewestFrom_113 (by decide) ?_
                          rw [show ffG (ffF mm (mm - k - 1) (k + 1)) f k mm j = ffG (ffF mm (mm - k - 1) (k + 1)) f k mm (j + 1) from (if_neg (fun q9 => by first | exact q9.2 c_73 | exact q9.1 (by omega))).symm] at hl
                          exact ih36 (j + 1) (by omega) (by omega) _ _ _ hP hD hS (lv_sub hl [1, 2, 3, 0] rfl)
                        · skip
                          refine lv_aload_n hx hb dX2_fewestFrom_76 rfl (lv_at hl 0 rfl) ?_
                          refine lv_iload hx hb dX2_fewestFrom_77 (lv_at hl 3 rfl) ?_
                          refine lv_dup2_11 hx hb dX2_fewestFrom_79 rfl rfl ?_
                          refine n_ald hX hK hP 0 rfl ((k + 1 + j)) (⟨rfl, by omega⟩) (by omega) dX2_fewestFrom_80 ?_
                          refine z_top (y := f (k + 1 + j)) (rfl) ?_
                          refine lv_aload_n hx hb dX2_fewestFrom_81 rfl (lv_at hl 0 rfl) ?_
                          refine lv_iload_n hx hb dX2_fewestFrom_82 rfl (lv_at hl 1 rfl) ?_
                          refine W.eq (g2 := F0 m 83 ls [.int (iI (↑k)), .ref pv, .int (iI (f (k + 1 + j))), .int (iI (↑(k + 1 + j))), .ref pv]) rfl ?_
                          refine n_ald hX hK hP 0 rfl k (⟨rfl, by omega⟩) (by omega) dX2_fewestFrom_83 ?_
                          refine z_top (y := f k) (rfl) ?_
                          refine z_iadd hX dX2_fewestFrom_84 ?_
                          refine n_ast hX hK hP hD hS 0 rfl (v := (f (k + 1 + j)) + (f k)) ((k + 1 + j)) (⟨rfl, by omega⟩) (by omega) dX2_fewestFrom_85 (fun H locs hP hD hS => ?_)
                          have hP : va_P D vwCl [enI cA pv mm (gU f ((k + 1 + j)) ((f (k + 1 + j)) + (f k)))] H := hP
                          have hD : va_D _ [enI cA pv mm (gU f ((k + 1 + j)) ((f (k + 1 + j)) + (f k)))] := hD
                          rw [show (gU f ((k + 1 + j)) ((f (k + 1 + j)) + (f k))) = gU f (k + 1 + j) (f (k + 1 + j) + f k) from rfl] at hP hD
                          refine lv_iload_n hx hb dX2_fewestFrom_86 rfl (lv_at hl 2 rfl) ?_
                          refine z_iconst hX dX2_fewestFrom_87 ?_
                          refine lv_iload_n hx hb dX2_fewestFrom_88 rfl (lv_at hl 1 rfl) ?_
                          refine z_iconst hX dX2_fewestFrom_89 ?_
                          refine z_iadd hX dX2_fewestFrom_90 ?_
                          refine lv_aload_n hx hb dX2_fewestFrom_91 rfl (lv_at hl 0 rfl) ?_
                          have hb2 : ∀ q, -(2 * b) ≤ (gU f (k + 1 + j) (f (k + 1 + j) + f k)) q ∧ (gU f (k + 1 + j) (f (k + 1 + j) + f k)) q ≤ 2 * b := fun q => by
                            unfold gU
                            have h1 := hfb (k + 1 + j)
                            have h2 := hfb k
                            have h3 := hfb q
                            split <;> omega
                          have hpw : 2 * b * 2 ^ (mm - k - 1) ≤ 1000000000 := by
                            have h1 : 2 ^ (mm - k - 1 + 1) ≤ 2 ^ c9 := Nat.pow_le_pow_right (by decide) (by omega)
                            have h2 : b * (2 ^ (mm - k - 1 + 1) : Nat) ≤ b * (2 ^ c9 : Nat) := Int.mul_le_mul_of_nonneg_left (by exact_mod_cast h1) hb0
                            have h3 : 2 * b * 2 ^ (mm - k - 1) = b * (2 ^ (mm - k - 1 + 1) : Nat) := by
                              rw [Nat.pow_succ]; push_cast; rw [Int.mul_comm 2 b, Int.mul_assoc, Int.mul_comm (2 : Int)]
                            have h4 : (b * (2 ^ c9 : Nat) : Int) ≤ 1000000000 := by push_cast; exact hbw
                            omega
                          have hP9 : va_P D vwCl ([enI cA pv mm (gU f (k + 1 + j) (f (k + 1 + j) + f k))] ++ []) H := hP
                          have hD9 : va_D _ ([enI cA pv mm (gU f (k + 1 + j) (f (k + 1 + j) + f k))] ++ []) := hD
                          refine l_calli hP9 hD9 hA hS (va_runS (As := [.int (iI ((↑k) + 1)), .ref pv]) (rest := [.int (iI (1)), .int (iI (ffG (ffF mm (mm - k - 1) (k + 1)) f k mm j))]) hX.fix (ih (mm - k - 1) (by omega) (k + 1) (gU f (k + 1 + j) (f (k + 1 + j) + f k)) (2 * b) _ _ (by omega) (by omega) (by omega) hb2 hpw) (va_cwS 2 hX.hts (lw_S q906 q907 q81 q908) rfl rfl rfl (by decide +kernel) ⟨by show mm - k - 1 + 1 + 1 ≤ c9 + 1; omega, by show 8 + (5 + 11) + (40 + 40 * (mm - k - 1)) ≤ 40 + 40 * c9; omega⟩) (l_preS hZ hK (D_l hD9) hA hE (P_l hP9) (fun k q h => by cases h) (fun k q h => by cases h) hS) rfl rfl hl.1 rfl (lv_room (Nat.le_of_ble_eq_true rfl)) dX2_fewestFrom_92 ⟨Nat.le_of_ble_eq_true rfl, Nat.le_of_ble_eq_true rfl⟩) (fun r w1 h => by obtain ⟨-, rfl⟩ := h; exact (D_l hD9).self) (fun r w1 H locs hq hP hD hS => ?_)
                          obtain ⟨hq1, rfl⟩ := hq
                          have hP : va_P D vwCl [enI cA pv mm (gU f (k + 1 + j) (f (k + 1 + j) + f k))] H := hP
                          have hD : va_D _ [enI cA pv mm (gU f (k + 1 + j) (f (k + 1 + j) + f k))] := hD
                          rw [show r = iI (ffF mm (mm - k - 1) (k + 1) (gU f (k + 1 + j) (f (k + 1 + j) + f k))) from hq1]
                          refine W.eq (g2 := F0 m 95 ls [.int (iI (ffF mm (mm - k - 1) (k + 1) (gU f (k + 1 + j) (f (k + 1 + j) + f k)))), .int (iI (1)), .int (iI (ffG (ffF mm (mm - k - 1) (k + 1)) f k mm j))]) rfl ?_
                          refine z_iadd hX dX2_fewestFrom_95 ?_
                          have hbA := ffG_bd (rec := ffF mm (mm - k - 1) (k + 1)) (f := f) (i := k) (M := mm) (fun f => (ffF_bd _ _ f).1) (Int.natCast_nonneg mm) j
                          have hbB := ffF_bd (m := mm) (mm - k - 1) (k + 1) (gU f (k + 1 + j) (f (k + 1 + j) + f k))
                          refine z_mmin hX ⟨by unfold rng; omega, by unfold rng; omega⟩ hl.1.symm q476 ⟨by show 1 ≤ c9 + 1; omega, by show 0 + 13 ≤ 40 + 40 * c9; omega⟩ ⟨Nat.le_of_ble_eq_true rfl, Nat.le_of_ble_eq_true rfl⟩ dX2_fewestFrom_96 ?_
                          refine lv_istore_n (lv' := [(3, .int (iI (min (ffG (ffF mm (mm - k - 1) (k + 1)) f k mm j) (1 + (ffF mm (mm - k - 1) (k + 1) (gU f (k + 1 + j) (f (k + 1 + j) + f k))))))), (1, .ref pv), (2, .int (iI (↑k))), (4, .int (iI (↑(k + 1 + j))))]) hx hb dX2_fewestFrom_99 rfl hl (by decide) rfl (fun ls hl => ?_)
                          refine lv_aload_n hx hb dX2_fewestFrom_100 rfl (lv_at hl 1 rfl) ?_
                          refine lv_iload hx hb dX2_fewestFrom_101 (lv_at hl 3 rfl) ?_
                          refine lv_dup2_11 hx hb dX2_fewestFrom_103 rfl rfl ?_
                          refine n_ald hX hK hP 0 rfl ((k + 1 + j)) (⟨rfl, by omega⟩) (by omega) dX2_fewestFrom_104 ?_
                          refine z_top (y := f (k + 1 + j) + f k) (gU_eq) ?_
                          refine lv_aload_n hx hb dX2_fewestFrom_105 rfl (lv_at hl 1 rfl) ?_
                          refine lv_iload_n hx hb dX2_fewestFrom_106 rfl (lv_at hl 2 rfl) ?_
                          refine n_ald hX hK hP 0 rfl k (⟨rfl, by omega⟩) (by omega) dX2_fewestFrom_107 ?_
                          refine z_top (y := f k) (gU_ne (by omega)) ?_
                          refine W.eq (g2 := F0 m 108 ls [.int (iI (f k)), .int (iI (f (k + 1 + j) + f k)), .int (iI (↑(k + 1 + j))), .ref pv]) rfl ?_
                          refine z_isub hX dX2_fewestFrom_108 ?_
                          refine n_ast hX hK hP hD hS 0 rfl (v := (f (k + 1 + j) + f k) - (f k)) ((k + 1 + j)) (⟨rfl, by omega⟩) (by omega) dX2_fewestFrom_109 (fun H locs hP hD hS => ?_)
                          have hP : va_P D vwCl [enI cA pv mm (gU (gU f (k + 1 + j) (f (k + 1 + j) + f k)) ((k + 1 + j)) ((f (k + 1 + j) + f k) - (f k)))] H := hP
                          have hD : va_D _ [enI cA pv mm (gU (gU f (k + 1 + j) (f (k + 1 + j) + f k)) ((k + 1 + j)) ((f (k + 1 + j) + f k) - (f k)))] := hD
                          rw [show (gU (gU f (k + 1 + j) (f (k + 1 + j) + f k)) ((k + 1 + j)) ((f (k + 1 + j) + f k) - (f k))) = f from gU_back] at hP hD
                          refine z_iinc (y := ↑(k + 1 + (j + 1))) (lv' := [(4, .int (iI (↑(k + 1 + (j + 1))))), (3, .int (iI (min (ffG (ffF mm (mm - k - 1) (k + 1)) f k mm j) (1 + (ffF mm (mm - k - 1) (k + 1) (gU f (k + 1 + j) (f (k + 1 + j) + f k))))))), (1, .ref pv), (2, .int (iI (↑k)))]) hX dX2_fewestFrom_110 hl (k := 3) rfl (by omega) (by decide) rfl (fun ls hl => ?_)
                          refine lv_goto (tgt := 36) hx hb dX2_fewestFrom_113 (by decide) ?_
                          rw [show min (ffG (ffF mm (mm - k - 1) (k + 1)) f k mm j) (1 + (ffF mm (mm - k - 1) (k + 1) (gU f (k + 1 + j) (f (k + 1 + j) + f k)))) = ffG (ffF mm (mm - k - 1) (k + 1)) f k mm (j + 1) from (if_pos ⟨by omega, c_73⟩).symm] at hl
                          exact ih36 (j + 1) (by omega) (by omega) _ _ _ hP hD hS (lv_sub hl [2, 3, 1, 0] rfl)
                  · skip
                    refine z_iconst hX dX2_fewestFrom_49 ?_
                    refine lv_goto (tgt := 54) hx hb dX2_fewestFrom_50 (by decide) ?_
                    refine lv_aload_n hx hb dX2_fewestFrom_54 rfl (lv_at hl 0 rfl) ?_
                    refine lv_iload hx hb dX2_fewestFrom_55 (lv_at hl 3 rfl) ?_
                    refine n_ald hX hK hP 0 rfl ((k + 1 + j)) (⟨rfl, by omega⟩) (by omega) dX2_fewestFrom_57 ?_
                    refine z_if_le (tgt := 65) hX (by have := hfb (k + 1 + j); omega) dX2_fewestFrom_58 (by decide) (fun c_58 => ?_) (fun c_58 => ?_)
                    · skip
                      refine W.eq (g2 := F0 m 65 ls [.int (iI (1))]) rfl ?_
                      refine z_iconst hX dX2_fewestFrom_65 ?_
                      refine z_icmp_eq (tgt := 110) hX (by decide) dX2_fewestFrom_66 (by decide) (fun c_66 => ?_) (fun c_66 => ?_)
                      · skip
                        refine z_iinc (y := ↑(k + 1 + (j + 1))) (lv' := [(4, .int (iI (↑(k + 1 + (j + 1))))), (1, .ref pv), (2, .int (iI (↑k))), (3, .int (iI (ffG (ffF mm (mm - k - 1) (k + 1)) f k mm j)))]) hX dX2_fewestFrom_110 hl (k := 3) rfl (by omega) (by decide) rfl (fun ls hl => ?_)
                        refine lv_goto (tgt := 36) hx hb dX2_fewestFrom_113 (by decide) ?_
                        rw [show ffG (ffF mm (mm - k - 1) (k + 1)) f k mm j = ffG (ffF mm (mm - k - 1) (k + 1)) f k mm (j + 1) from (if_neg (fun q9 => by first | exact q9.2 c_73 | exact q9.1 (by omega))).symm] at hl
                        exact ih36 (j + 1) (by omega) (by omega) _ _ _ hP hD hS (lv_sub hl [1, 2, 3, 0] rfl)
                      · skip
                        refine lv_aload_n hx hb dX2_fewestFrom_69 rfl (lv_at hl 0 rfl) ?_
                        refine lv_iload hx hb dX2_fewestFrom_70 (lv_at hl 3 rfl) ?_
                        refine n_ald hX hK hP 0 rfl ((k + 1 + j)) (⟨rfl, by omega⟩) (by omega) dX2_fewestFrom_72 ?_
                        refine z_if_eq (tgt := 110) hX (by have := hfb (k + 1 + j); omega) dX2_fewestFrom_73 (by decide) (fun c_73 => ?_) (fun c_73 => ?_)
                        · skip
                          refine z_iinc (y := ↑(k + 1 + (j + 1))) (lv' := [(4, .int (iI (↑(k + 1 + (j + 1))))), (1, .ref pv), (2, .int (iI (↑k))), (3, .int (iI (ffG (ffF mm (mm - k - 1) (k + 1)) f k mm j)))]) hX dX2_fewestFrom_110 hl (k := 3) rfl (by omega) (by decide) rfl (fun ls hl => ?_)
                          refine lv_goto (tgt := 36) hx hb dX2_fewestFrom_113 (by decide) ?_
                          rw [show ffG (ffF mm (mm - k - 1) (k + 1)) f k mm j = ffG (ffF mm (mm - k - 1) (k + 1)) f k mm (j + 1) from (if_neg (fun q9 => by first | exact q9.2 c_73 | exact q9.1 (by omega))).symm] at hl
                          exact ih36 (j + 1) (by omega) (by omega) _ _ _ hP hD hS (lv_sub hl [1, 2, 3, 0] rfl)
                        · skip
                          refine W.eq (g2 := F0 m 76 ls []) rfl ?_
                          refine lv_aload_n hx hb dX2_fewestFrom_76 rfl (lv_at hl 0 rfl) ?_
                          refine lv_iload hx hb dX2_fewestFrom_77 (lv_at hl 3 rfl) ?_
                          refine lv_dup2_11 hx hb dX2_fewestFrom_79 rfl rfl ?_
                          refine n_ald hX hK hP 0 rfl ((k + 1 + j)) (⟨rfl, by omega⟩) (by omega) dX2_fewestFrom_80 ?_
                          refine z_top (y := f (k + 1 + j)) (rfl) ?_
                          refine lv_aload_n hx hb dX2_fewestFrom_81 rfl (lv_at hl 0 rfl) ?_
                          refine lv_iload_n hx hb dX2_fewestFrom_82 rfl (lv_at hl 1 rfl) ?_
                          refine n_ald hX hK hP 0 rfl k (⟨rfl, by omega⟩) (by omega) dX2_fewestFrom_83 ?_
                          refine z_top (y := f k) (rfl) ?_
                          refine z_iadd hX dX2_fewestFrom_84 ?_
                          refine n_ast hX hK hP hD hS 0 rfl (v := (f (k + 1 + j)) + (f k)) ((k + 1 + j)) (⟨rfl, by omega⟩) (by omega) dX2_fewestFrom_85 (fun H locs hP hD hS => ?_)
                          have hP : va_P D vwCl [enI cA pv mm (gU f ((k + 1 + j)) ((f (k + 1 + j)) + (f k)))] H := hP
                          have hD : va_D _ [enI cA pv mm (gU f ((k + 1 + j)) ((f (k + 1 + j)) + (f k)))] := hD
                          rw [show (gU f ((k + 1 + j)) ((f (k + 1 + j)) + (f k))) = gU f (k + 1 + j) (f (k + 1 + j) + f k) from rfl] at hP hD
                          refine lv_iload_n hx hb dX2_fewestFrom_86 rfl (lv_at hl 2 rfl) ?_
                          refine W.eq (g2 := F0 m 87 ls [.int (iI (ffG (ffF mm (mm - k - 1) (k + 1)) f k mm j))]) rfl ?_
                          refine z_iconst hX dX2_fewestFrom_87 ?_
                          refine lv_iload_n hx hb dX2_fewestFrom_88 rfl (lv_at hl 1 rfl) ?_
                          refine z_iconst hX dX2_fewestFrom_89 ?_
                          refine z_iadd hX dX2_fewestFrom_90 ?_
                          refine lv_aload_n hx hb dX2_fewestFrom_91 rfl (lv_at hl 0 rfl) ?_
                          have hb2 : ∀ q, -(2 * b) ≤ (gU f (k + 1 + j) (f (k + 1 + j) + f k)) q ∧ (gU f (k + 1 + j) (f (k + 1 + j) + f k)) q ≤ 2 * b := fun q => by
                            unfold gU
                            have h1 := hfb (k + 1 + j)
                            have h2 := hfb k
                            have h3 := hfb q
                            split <;> omega
                          have hpw : 2 * b * 2 ^ (mm - k - 1) ≤ 1000000000 := by
                            have h1 : 2 ^ (mm - k - 1 + 1) ≤ 2 ^ c9 := Nat.pow_le_pow_right (by decide) (by omega)
                            have h2 : b * (2 ^ (mm - k - 1 + 1) : Nat) ≤ b * (2 ^ c9 : Nat) := Int.mul_le_mul_of_nonneg_left (by exact_mod_cast h1) hb0
                            have h3 : 2 * b * 2 ^ (mm - k - 1) = b * (2 ^ (mm - k - 1 + 1) : Nat) := by
                              rw [Nat.pow_succ]; push_cast; rw [Int.mul_comm 2 b, Int.mul_assoc, Int.mul_comm (2 : Int)]
                            have h4 : (b * (2 ^ c9 : Nat) : Int) ≤ 1000000000 := by push_cast; exact hbw
                            omega
                          have hP9 : va_P D vwCl ([enI cA pv mm (gU f (k + 1 + j) (f (k + 1 + j) + f k))] ++ []) H := hP
                          have hD9 : va_D _ ([enI cA pv mm (gU f (k + 1 + j) (f (k + 1 + j) + f k))] ++ []) := hD
                          refine l_calli hP9 hD9 hA hS (va_runS (As := [.int (iI ((↑k) + 1)), .ref pv]) (rest := [.int (iI (1)), .int (iI (ffG (ffF mm (mm - k - 1) (k + 1)) f k mm j))]) hX.fix (ih (mm - k - 1) (by omega) (k + 1) (gU f (k + 1 + j) (f (k + 1 + j) + f k)) (2 * b) _ _ (by omega) (by omega) (by omega) hb2 hpw) (va_cwS 2 hX.hts (lw_S q906 q907 q81 q908) rfl rfl rfl (by decide +kernel) ⟨by show mm - k - 1 + 1 + 1 ≤ c9 + 1; omega, by show 8 + (5 + 11) + (40 + 40 * (mm - k - 1)) ≤ 40 + 40 * c9; omega⟩) (l_preS hZ hK (D_l hD9) hA hE (P_l hP9) (fun k q h => by cases h) (fun k q h => by cases h) hS) rfl rfl hl.1 rfl (lv_room (Nat.le_of_ble_eq_true rfl)) dX2_fewestFrom_92 ⟨Nat.le_of_ble_eq_true rfl, Nat.le_of_ble_eq_true rfl⟩) (fun r w1 h => by obtain ⟨-, rfl⟩ := h; exact (D_l hD9).self) (fun r w1 H locs hq hP hD hS => ?_)
                          obtain ⟨hq1, rfl⟩ := hq
                          have hP : va_P D vwCl [enI cA pv mm (gU f (k + 1 + j) (f (k + 1 + j) + f k))] H := hP
                          have hD : va_D _ [enI cA pv mm (gU f (k + 1 + j) (f (k + 1 + j) + f k))] := hD
                          rw [show r = iI (ffF mm (mm - k - 1) (k + 1) (gU f (k + 1 + j) (f (k + 1 + j) + f k))) from hq1]
                          refine z_iadd hX dX2_fewestFrom_95 ?_
                          have hbA := ffG_bd (rec := ffF mm (mm - k - 1) (k + 1)) (f := f) (i := k) (M := mm) (fun f => (ffF_bd _ _ f).1) (Int.natCast_nonneg mm) j
                          have hbB := ffF_bd (m := mm) (mm - k - 1) (k + 1) (gU f (k + 1 + j) (f (k + 1 + j) + f k))
                          refine z_mmin hX ⟨by unfold rng; omega, by unfold rng; omega⟩ hl.1.symm q476 ⟨by show 1 ≤ c9 + 1; omega, by show 0 + 13 ≤ 40 + 40 * c9; omega⟩ ⟨Nat.le_of_ble_eq_true rfl, Nat.le_of_ble_eq_true rfl⟩ dX2_fewestFrom_96 ?_
                          refine lv_istore_n (lv' := [(3, .int (iI (min (ffG (ffF mm (mm - k - 1) (k + 1)) f k mm j) (1 + (ffF mm (mm - k - 1) (k + 1) (gU f (k + 1 + j) (f (k + 1 + j) + f k))))))), (1, .ref pv), (2, .int (iI (↑k))), (4, .int (iI (↑(k + 1 + j))))]) hx hb dX2_fewestFrom_99 rfl hl (by decide) rfl (fun ls hl => ?_)
                          refine lv_aload_n hx hb dX2_fewestFrom_100 rfl (lv_at hl 1 rfl) ?_
                          refine W.eq (g2 := F0 m 101 ls [.ref pv]) rfl ?_
                          refine lv_iload hx hb dX2_fewestFrom_101 (lv_at hl 3 rfl) ?_
                          refine lv_dup2_11 hx hb dX2_fewestFrom_103 rfl rfl ?_
                          refine n_ald hX hK hP 0 rfl ((k + 1 + j)) (⟨rfl, by omega⟩) (by omega) dX2_fewestFrom_104 ?_
                          refine z_top (y := f (k + 1 + j) + f k) (gU_eq) ?_
                          refine lv_aload_n hx hb dX2_fewestFrom_105 rfl (lv_at hl 1 rfl) ?_
                          refine lv_iload_n hx hb dX2_fewestFrom_106 rfl (lv_at hl 2 rfl) ?_
                          refine n_ald hX hK hP 0 rfl k (⟨rfl, by omega⟩) (by omega) dX2_fewestFrom_107 ?_
                          refine z_top (y := f k) (gU_ne (by omega)) ?_
                          refine z_isub hX dX2_fewestFrom_108 ?_
                          refine n_ast hX hK hP hD hS 0 rfl (v := (f (k + 1 + j) + f k) - (f k)) ((k + 1 + j)) (⟨rfl, by omega⟩) (by omega) dX2_fewestFrom_109 (fun H locs hP hD hS => ?_)
                          have hP : va_P D vwCl [enI cA pv mm (gU (gU f (k + 1 + j) (f (k + 1 + j) + f k)) ((k + 1 + j)) ((f (k + 1 + j) + f k) - (f k)))] H := hP
                          have hD : va_D _ [enI cA pv mm (gU (gU f (k + 1 + j) (f (k + 1 + j) + f k)) ((k + 1 + j)) ((f (k + 1 + j) + f k) - (f k)))] := hD
                          rw [show (gU (gU f (k + 1 + j) (f (k + 1 + j) + f k)) ((k + 1 + j)) ((f (k + 1 + j) + f k) - (f k))) = f from gU_back] at hP hD
                          refine z_iinc (y := ↑(k + 1 + (j + 1))) (lv' := [(4, .int (iI (↑(k + 1 + (j + 1))))), (3, .int (iI (min (ffG (ffF mm (mm - k - 1) (k + 1)) f k mm j) (1 + (ffF mm (mm - k - 1) (k + 1) (gU f (k + 1 + j) (f (k + 1 + j) + f k))))))), (1, .ref pv), (2, .int (iI (↑k)))]) hX dX2_fewestFrom_110 hl (k := 3) rfl (by omega) (by decide) rfl (fun ls hl => ?_)
                          refine lv_goto (tgt := 36) hx hb dX2_fewestFrom_113 (by decide) ?_
                          rw [show min (ffG (ffF mm (mm - k - 1) (k + 1)) f k mm j) (1 + (ffF mm (mm - k - 1) (k + 1) (gU f (k + 1 + j) (f (k + 1 + j) + f k)))) = ffG (ffF mm (mm - k - 1) (k + 1)) f k mm (j + 1) from (if_pos ⟨by omega, c_73⟩).symm] at hl
                          exact ih36 (j + 1) (by omega) (by omega) _ _ _ hP hD hS (lv_sub hl [2, 3, 1, 0] rfl)
                    · skip
                      refine W.eq (g2 := F0 m 61 ls [.int (iI (1))]) rfl ?_
                      refine z_iconst hX dX2_fewestFrom_61 ?_
                      refine lv_goto (tgt := 66) hx hb dX2_fewestFrom_62 (by decide) ?_
                      refine z_icmp_eq (tgt := 110) hX (by decide) dX2_fewestFrom_66 (by decide) (fun c_66 => ?_) (fun c_66 => ?_)
                      · skip
                        refine z_iinc (y := ↑(k + 1 + (j + 1))) (lv' := [(4, .int (iI (↑(k + 1 + (j + 1))))), (1, .ref pv), (2, .int (iI (↑k))), (3, .int (iI (ffG (ffF mm (mm - k - 1) (k + 1)) f k mm j)))]) hX dX2_fewestFrom_110 hl (k := 3) rfl (by omega) (by decide) rfl (fun ls hl => ?_)
                        refine lv_goto (tgt := 36) hx hb dX2_fewestFrom_113 (by decide) ?_
                        rw [show ffG (ffF mm (mm - k - 1) (k + 1)) f k mm j = ffG (ffF mm (mm - k - 1) (k + 1)) f k mm (j + 1) from (if_neg (fun q9 => by first | exact q9.2 c_73 | exact q9.1 (by omega))).symm] at hl
                        exact ih36 (j + 1) (by omega) (by omega) _ _ _ hP hD hS (lv_sub hl [1, 2, 3, 0] rfl)
                      · skip
                        refine lv_aload_n hx hb dX2_fewestFrom_69 rfl (lv_at hl 0 rfl) ?_
                        refine lv_iload hx hb dX2_fewestFrom_70 (lv_at hl 3 rfl) ?_
                        refine n_ald hX hK hP 0 rfl ((k + 1 + j)) (⟨rfl, by omega⟩) (by omega) dX2_fewestFrom_72 ?_
                        refine z_if_eq (tgt := 110) hX (by have := hfb (k + 1 + j); omega) dX2_fewestFrom_73 (by decide) (fun c_73 => ?_) (fun c_73 => ?_)
                        · skip
                          refine z_iinc (y := ↑(k + 1 + (j + 1))) (lv' := [(4, .int (iI (↑(k + 1 + (j + 1))))), (1, .ref pv), (2, .int (iI (↑k))), (3, .int (iI (ffG (ffF mm (mm - k - 1) (k + 1)) f k mm j)))]) hX dX2_fewestFrom_110 hl (k := 3) rfl (by omega) (by decide) rfl (fun ls hl => ?_)
                          refine lv_goto (tgt := 36) hx hb dX2_fewestFrom_113 (by decide) ?_
                          rw [show ffG (ffF mm (mm - k - 1) (k + 1)) f k mm j = ffG (ffF mm (mm - k - 1) (k + 1)) f k mm (j + 1) from (if_neg (fun q9 => by first | exact q9.2 c_73 | exact q9.1 (by omega))).symm] at hl
                          exact ih36 (j + 1) (by omega) (by omega) _ _ _ hP hD hS (lv_sub hl [1, 2, 3, 0] rfl)
                        · skip
                          refine lv_aload_n hx hb dX2_fewestFrom_76 rfl (lv_at hl 0 rfl) ?_
                          refine lv_iload hx hb dX2_fewestFrom_77 (lv_at hl 3 rfl) ?_
                          refine lv_dup2_11 hx hb dX2_fewestFrom_79 rfl rfl ?_
                          refine n_ald hX hK hP 0 rfl ((k + 1 + j)) (⟨rfl, by omega⟩) (by omega) dX2_fewestFrom_80 ?_
                          refine z_top (y := f (k + 1 + j)) (rfl) ?_
                          refine lv_aload_n hx hb dX2_fewestFrom_81 rfl (lv_at hl 0 rfl) ?_
                          refine lv_iload_n hx hb dX2_fewestFrom_82 rfl (lv_at hl 1 rfl) ?_
                          refine n_ald hX hK hP 0 rfl k (⟨rfl, by omega⟩) (by omega) dX2_fewestFrom_83 ?_
                          refine z_top (y := f k) (rfl) ?_
                          refine z_iadd hX dX2_fewestFrom_84 ?_
                          refine n_ast hX hK hP hD hS 0 rfl (v := (f (k + 1 + j)) + (f k)) ((k + 1 + j)) (⟨rfl, by omega⟩) (by omega) dX2_fewestFrom_85 (fun H locs hP hD hS => ?_)
                          have hP : va_P D vwCl [enI cA pv mm (gU f ((k + 1 + j)) ((f (k + 1 + j)) + (f k)))] H := hP
                          have hD : va_D _ [enI cA pv mm (gU f ((k + 1 + j)) ((f (k + 1 + j)) + (f k)))] := hD
                          rw [show (gU f ((k + 1 + j)) ((f (k + 1 + j)) + (f k))) = gU f (k + 1 + j) (f (k + 1 + j) + f k) from rfl] at hP hD
                          refine W.eq (g2 := F0 m 86 ls []) rfl ?_
                          refine lv_iload_n hx hb dX2_fewestFrom_86 rfl (lv_at hl 2 rfl) ?_
                          refine z_iconst hX dX2_fewestFrom_87 ?_
                          refine lv_iload_n hx hb dX2_fewestFrom_88 rfl (lv_at hl 1 rfl) ?_
                          refine z_iconst hX dX2_fewestFrom_89 ?_
                          refine z_iadd hX dX2_fewestFrom_90 ?_
                          refine lv_aload_n hx hb dX2_fewestFrom_91 rfl (lv_at hl 0 rfl) ?_
                          have hb2 : ∀ q, -(2 * b) ≤ (gU f (k + 1 + j) (f (k + 1 + j) + f k)) q ∧ (gU f (k + 1 + j) (f (k + 1 + j) + f k)) q ≤ 2 * b := fun q => by
                            unfold gU
                            have h1 := hfb (k + 1 + j)
                            have h2 := hfb k
                            have h3 := hfb q
                            split <;> omega
                          have hpw : 2 * b * 2 ^ (mm - k - 1) ≤ 1000000000 := by
                            have h1 : 2 ^ (mm - k - 1 + 1) ≤ 2 ^ c9 := Nat.pow_le_pow_right (by decide) (by omega)
                            have h2 : b * (2 ^ (mm - k - 1 + 1) : Nat) ≤ b * (2 ^ c9 : Nat) := Int.mul_le_mul_of_nonneg_left (by exact_mod_cast h1) hb0
                            have h3 : 2 * b * 2 ^ (mm - k - 1) = b * (2 ^ (mm - k - 1 + 1) : Nat) := by
                              rw [Nat.pow_succ]; push_cast; rw [Int.mul_comm 2 b, Int.mul_assoc, Int.mul_comm (2 : Int)]
                            have h4 : (b * (2 ^ c9 : Nat) : Int) ≤ 1000000000 := by push_cast; exact hbw
                            omega
                          have hP9 : va_P D vwCl ([enI cA pv mm (gU f (k + 1 + j) (f (k + 1 + j) + f k))] ++ []) H := hP
                          have hD9 : va_D _ ([enI cA pv mm (gU f (k + 1 + j) (f (k + 1 + j) + f k))] ++ []) := hD
                          refine l_calli hP9 hD9 hA hS (va_runS (As := [.int (iI ((↑k) + 1)), .ref pv]) (rest := [.int (iI (1)), .int (iI (ffG (ffF mm (mm - k - 1) (k + 1)) f k mm j))]) hX.fix (ih (mm - k - 1) (by omega) (k + 1) (gU f (k + 1 + j) (f (k + 1 + j) + f k)) (2 * b) _ _ (by omega) (by omega) (by omega) hb2 hpw) (va_cwS 2 hX.hts (lw_S q906 q907 q81 q908) rfl rfl rfl (by decide +kernel) ⟨by show mm - k - 1 + 1 + 1 ≤ c9 + 1; omega, by show 8 + (5 + 11) + (40 + 40 * (mm - k - 1)) ≤ 40 + 40 * c9; omega⟩) (l_preS hZ hK (D_l hD9) hA hE (P_l hP9) (fun k q h => by cases h) (fun k q h => by cases h) hS) rfl rfl hl.1 rfl (lv_room (Nat.le_of_ble_eq_true rfl)) dX2_fewestFrom_92 ⟨Nat.le_of_ble_eq_true rfl, Nat.le_of_ble_eq_true rfl⟩) (fun r w1 h => by obtain ⟨-, rfl⟩ := h; exact (D_l hD9).self) (fun r w1 H locs hq hP hD hS => ?_)
                          obtain ⟨hq1, rfl⟩ := hq
                          have hP : va_P D vwCl [enI cA pv mm (gU f (k + 1 + j) (f (k + 1 + j) + f k))] H := hP
                          have hD : va_D _ [enI cA pv mm (gU f (k + 1 + j) (f (k + 1 + j) + f k))] := hD
                          rw [show r = iI (ffF mm (mm - k - 1) (k + 1) (gU f (k + 1 + j) (f (k + 1 + j) + f k))) from hq1]
                          refine z_iadd hX dX2_fewestFrom_95 ?_
                          have hbA := ffG_bd (rec := ffF mm (mm - k - 1) (k + 1)) (f := f) (i := k) (M := mm) (fun f => (ffF_bd _ _ f).1) (Int.natCast_nonneg mm) j
                          have hbB := ffF_bd (m := mm) (mm - k - 1) (k + 1) (gU f (k + 1 + j) (f (k + 1 + j) + f k))
                          refine z_mmin hX ⟨by unfold rng; omega, by unfold rng; omega⟩ hl.1.symm q476 ⟨by show 1 ≤ c9 + 1; omega, by show 0 + 13 ≤ 40 + 40 * c9; omega⟩ ⟨Nat.le_of_ble_eq_true rfl, Nat.le_of_ble_eq_true rfl⟩ dX2_fewestFrom_96 ?_
                          refine lv_istore_n (lv' := [(3, .int (iI (min (ffG (ffF mm (mm - k - 1) (k + 1)) f k mm j) (1 + (ffF mm (mm - k - 1) (k + 1) (gU f (k + 1 + j) (f (k + 1 + j) + f k))))))), (1, .ref pv), (2, .int (iI (↑k))), (4, .int (iI (↑(k + 1 + j))))]) hx hb dX2_fewestFrom_99 rfl hl (by decide) rfl (fun ls hl => ?_)
                          refine W.eq (g2 := F0 m 100 ls []) rfl ?_
                          refine lv_aload_n hx hb dX2_fewestFrom_100 rfl (lv_at hl 1 rfl) ?_
                          refine lv_iload hx hb dX2_fewestFrom_101 (lv_at hl 3 rfl) ?_
                          refine lv_dup2_11 hx hb dX2_fewestFrom_103 rfl rfl ?_
                          refine n_ald hX hK hP 0 rfl ((k + 1 + j)) (⟨rfl, by omega⟩) (by omega) dX2_fewestFrom_104 ?_
                          refine z_top (y := f (k + 1 + j) + f k) (gU_eq) ?_
                          refine lv_aload_n hx hb dX2_fewestFrom_105 rfl (lv_at hl 1 rfl) ?_
                          refine lv_iload_n hx hb dX2_fewestFrom_106 rfl (lv_at hl 2 rfl) ?_
                          refine n_ald hX hK hP 0 rfl k (⟨rfl, by omega⟩) (by omega) dX2_fewestFrom_107 ?_
                          refine z_top (y := f k) (gU_ne (by omega)) ?_
                          refine z_isub hX dX2_fewestFrom_108 ?_
                          refine n_ast hX hK hP hD hS 0 rfl (v := (f (k + 1 + j) + f k) - (f k)) ((k + 1 + j)) (⟨rfl, by omega⟩) (by omega) dX2_fewestFrom_109 (fun H locs hP hD hS => ?_)
                          have hP : va_P D vwCl [enI cA pv mm (gU (gU f (k + 1 + j) (f (k + 1 + j) + f k)) ((k + 1 + j)) ((f (k + 1 + j) + f k) - (f k)))] H := hP
                          have hD : va_D _ [enI cA pv mm (gU (gU f (k + 1 + j) (f (k + 1 + j) + f k)) ((k + 1 + j)) ((f (k + 1 + j) + f k) - (f k)))] := hD
                          rw [show (gU (gU f (k + 1 + j) (f (k + 1 + j) + f k)) ((k + 1 + j)) ((f (k + 1 + j) + f k) - (f k))) = f from gU_back] at hP hD
                          refine z_iinc (y := ↑(k + 1 + (j + 1))) (lv' := [(4, .int (iI (↑(k + 1 + (j + 1))))), (3, .int (iI (min (ffG (ffF mm (mm - k - 1) (k + 1)) f k mm j) (1 + (ffF mm (mm - k - 1) (k + 1) (gU f (k + 1 + j) (f (k + 1 + j) + f k))))))), (1, .ref pv), (2, .int (iI (↑k)))]) hX dX2_fewestFrom_110 hl (k := 3) rfl (by omega) (by decide) rfl (fun ls hl => ?_)
                          refine lv_goto (tgt := 36) hx hb dX2_fewestFrom_113 (by decide) ?_
                          rw [show min (ffG (ffF mm (mm - k - 1) (k + 1)) f k mm j) (1 + (ffF mm (mm - k - 1) (k + 1) (gU f (k + 1 + j) (f (k + 1 + j) + f k)))) = ffG (ffF mm (mm - k - 1) (k + 1)) f k mm (j + 1) from (if_pos ⟨by omega, c_73⟩).symm] at hl
                          exact ih36 (j + 1) (by omega) (by omega) _ _ _ hP hD hS (lv_sub hl [2, 3, 1, 0] rfl)
            exact L36 (mm + 1) (0) (by omega) (by omega) _ _ _ hP hD hS (lv_sub hl [2, 3, 1, 0] rfl)
          · skip
            refine z_iconst hX dX2_fewestFrom_26 ?_
            exact n_iret hX hP hS (⟨by rw [hsk, show mm - k = 0 by omega]; rfl, rfl⟩) dX2_fewestFrom_27
        · skip
          refine z_iinc (y := ↑(k + 1)) (lv' := [(2, .int (iI (↑(k + 1)))), (1, .ref pv)]) hX dX2_fewestFrom_14 hl (k := 1) rfl (by omega) (by decide) rfl (fun ls hl => ?_)
          refine lv_goto (tgt := 2) hx hb dX2_fewestFrom_17 (by decide) ?_
          exact ih2 (k + 1) (by omega) (by omega) (by rw [hsk, show mm - k = (mm - (k + 1)) + 1 by omega]; exact ffF_z (by omega)) _ _ _ hP hD hS (lv_sub hl [1, 0] rfl)
  exact L2 (mm + 1) (i) (by omega) (by omega) (by rw [show mm - i = c9 by omega]) _ _ _ hP hD hS (lv_sub hl [2, 0] rfl)
theorem c_X2_fewestFrom {l : Launch} {D : va_G} {Z : zZ} {cA : Nat → ClassId} (hZ : zOk Z) (hfl : l.stackTraces = false) (hz : ∀ A U H, Z A U H → zT9 A U H) {pv : Nat} (mm : Nat) (hm7 : mm ≤ 7) : ∀ (c : Nat) (i : Nat) (f : Nat → Int) (b E1 : Int) (sz : Nat), E1 = (i : Int) → i + c = mm → 0 ≤ b → (∀ k, -b ≤ f k ∧ f k ≤ b) → b * 2 ^ c ≤ 1000000000 → Met l yX2_fewestFrom (ws_ yX2_fewestFrom cX2_fewestFrom 5 (some .int)) { frames := c + 1, cells := 0, slots := 0, locals := 40 + 40 * c } (wPc D vwCl (tyL cA) Z (wL [enI cA pv mm f]) [] [.int (iI E1), .ref pv] sz zO) (nQi D (fun r ws => r = iI (ffF mm c i f) ∧ ws = [enI cA pv mm f]) (wA (wL [enI cA pv mm f]) sz)) 0 0 (wA (wL [enI cA pv mm f]) sz) := by
  intro c
  induction c using Nat.strongRecOn with
  | _ c ih => exact fun i f b E1 sz h1 h2 h3 h4 h5 => c_X2_fewestFrom_s hZ hfl hz sz mm hm7 c ih i f b E1 h1 h2 h3 h4 h5
