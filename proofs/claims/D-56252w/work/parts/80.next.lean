/-! the next cycle -/
set_option maxRecDepth 100000
theorem pW_D {A : Nat → Prop} {cA : Nat → ClassId} {q : Nat} {f : Nat → Int} (h : va_D A [enI cA q 7 f]) : ∀ y, va_D A (pW q cA y) := fun y => h.set (p := 0) (a := q) (e := .inl (cA 0, 7, .inl (fun k => iI (y 0 k)))) rfl
/-- what the next cycle is: none, or one made -/
def ncP (g : Nat → Int) (n0 em : Nat) (cA : Nat → ClassId) (sz : Nat) (r : Option Nat) (ws : va_W) : Prop :=
  (lookF g n0 = none ∧ r = some em ∧ ws = [enO em 14 [.null]]) ∨ ∃ (q : List Nat) (op cy ar : Nat), lookF g n0 = some q ∧ r = some op ∧ ws = enO op 14 [.ref cy] :: cyW cy ar cA q (smF g q q.length) ∧ ∀ e ∈ ws, sz ≤ e.1
theorem rng_smF {g : Nat → Int} {q : List Nat} {k : Nat} (h : 0 ≤ smF g q k) : rng (smF g q k) := by
  have := smF_999 (g := g) (q := q) k
  unfold rng; omega
set_option maxHeartbeats 4000000 in
theorem c_X2_nextCycle {l : Launch} {D : va_G} {Z : zZ} {cA : Nat → ClassId} (hZ : zOk Z) (hfl : l.stackTraces = false) (hz : ∀ A U H, Z A U H → zT9 A U H) (sz : Nat) {a : Nat → Nat} (σ : zT) {em : Nat} (hem : ∀ A U H, Z A U H → zOp D em A U H) (n0 : Nat) (hn : σ 0 0 = n0 ∧ n0 ≤ 7) (B : Int) (hgo : gOk (σ 0) B) : Met l yX2_nextCycle (ws_ yX2_nextCycle cX2_nextCycle 4 (some (.object "java/util/Optional"))) { frames := 9, cells := 4, slots := 17, locals := 260 } (wPc D vwCl (tyL cA) Z (wL []) (hW a cA σ) [.ref (a 0)] sz zO) (nQq D (ncP (σ 0) n0 em cA sz) (wA (wL []) sz)) 4 17 (wA (wL []) sz) := by
  refine l_met (cc := cX2_nextCycle) (maxL := 4) (ret := some (.object "java/util/Optional")) (own := RX2) (by decide) rfl rfl (Nat.le_of_ble_eq_true rfl) ?_
  intro p e s m below meth c hX hnm hsz hK hP hD hA hE hS hR hN ls hl
  have hx := hX.1
  have hb := hX.2.1
  have hz0 := hz _ _ _ hE
  have hl : lv_has ls 4 [(0, .ref (a 0))] := hl
  refine z_bipush hX dX2_nextCycle_0 (by decide) ?_
  refine z_newa hX hK hP hD hS hA .int 0 (ty := .int) rfl (q165) rfl (7, .inl (fun _ => iI 0)) 7 (fun _ => rfl) (rfl) (Nat.le_of_ble_eq_true rfl) (Nat.le_of_ble_eq_true rfl) (Nat.le_of_ble_eq_true rfl) (Nat.le_of_ble_eq_true rfl) dX2_nextCycle_2 (fun qp H hP hD hS => ?_)
  have hP : va_P D vwCl [enI cA qp 7 (fun _ => 0)] H := hP
  have hD : va_D _ [enI cA qp 7 (fun _ => 0)] := hD
  refine lv_astore_n (lv' := [(1, .ref qp), (0, .ref (a 0))]) hx hb dX2_nextCycle_4 rfl hl (by decide) rfl (fun ls hl => ?_)
  refine z_iconst hX dX2_nextCycle_5 ?_
  refine z_top (y := ↑(2 : Nat)) (rfl) ?_
  refine lv_istore_n (lv' := [(2, .int (iI (↑(2 : Nat)))), (1, .ref qp), (0, .ref (a 0))]) hx hb dX2_nextCycle_6 rfl hl (by decide) rfl (fun ls hl => ?_)
  have L7 : ∀ (n : Nat) (s1 : Nat) (c1 : Nat → Int), (n0 + 2 < s1 + n) → (2 ≤ s1 ∧ s1 ≤ n0 + 2) → (lookF (σ 0) n0 = tryF (lkS (σ 0) n0) s1 (n0 + 1 - s1)) → ∀ (H : Heap) (locs : List Loc) (ls : Array Slot), va_P D vwCl [enI cA qp 7 c1] H → va_D (wA (wL []) sz) [enI cA qp 7 c1] → va_S (wA (wL []) sz) s.heap H locs → lv_has ls 4 [(0, .ref (a 0)), (1, .ref qp), (2, .int (iI (↑s1)))] → W p l e (headSpec (ws_ yX2_nextCycle cX2_nextCycle 4 (some (.object "java/util/Optional"))) { frames := 9, cells := 4, slots := 17, locals := 260 }).room s m ([.ref (a 0)] : List Value).toArray below meth c H locs 1 7 (MQ below (nQq D (ncP (σ 0) n0 em cA sz) (wA (wL []) sz)) ([.ref (a 0)] : List Value).toArray s 4 17 (wA (wL []) sz)) (F0 m 7 ls []) := by
    intro n
    induction n with
    | zero =>
      intro s1 c1 hf hs1 hF H locs ls hP hD hS hl
      exact absurd hf (by omega)
    | succ n ih7 =>
      intro s1 c1 hf hs1 hF H locs ls hP hD hS hl
      refine lv_iload_n hx hb dX2_nextCycle_7 rfl (lv_at hl 2 rfl) ?_
      refine lv_aload_n hx hb dX2_nextCycle_8 rfl (lv_at hl 0 rfl) ?_
      refine h_get hX hK (hR _ _ hS) 3 (by decide) q172 rfl dX2_nextCycle_9 ?_
      refine z_icmp_gt (tgt := 70) hX (by omega) dX2_nextCycle_12 (by decide) (fun c_12 => ?_) (fun c_12 => ?_)
      · skip
        refine W.eq (g2 := F0 m 70 ls []) rfl ?_
        have hz8 : sz ≤ _ := Nat.le_trans (Nat.le_of_eq hsz.symm) hS.1
        refine l_callQ hP hA hS (va_runS (As := []) (rest := []) hX.fix (c_J14_empty hZ hfl hz _ hem) (va_cwS 0 hX.hts (lw_S q639 q640 q101 q641) rfl rfl rfl (by decide +kernel) ⟨Nat.le_of_ble_eq_true rfl, Nat.le_of_ble_eq_true rfl⟩) (r_preS hZ hK hA hE (fun k q h => by cases h) hS) rfl rfl hl.1 rfl (lv_room (Nat.le_of_ble_eq_true rfl)) dX2_nextCycle_70 ⟨Nat.le_of_ble_eq_true rfl, Nat.le_of_ble_eq_true rfl⟩) (fun r9 w1 H locs hq hP1 hP hz9 hS => ?_)
        obtain ⟨rfl, rfl⟩ := hq
        refine W.eq (g2 := F0 m 73 ls [.ref em]) rfl ?_
        have hP := hP1
        refine W.widen (k := 4) (n := 17) (Nat.le_of_ble_eq_true rfl) (Nat.le_of_ble_eq_true rfl) ?_
        exact n_aret hX (Or.inl ⟨_, rfl⟩) hP hS (Or.inl ⟨by rw [hF, show n0 + 1 - s1 = 0 from by omega]; rfl, rfl, rfl⟩) dX2_nextCycle_73
      · skip
        refine z_iconst hX dX2_nextCycle_15 ?_
        refine z_top (y := ↑(0 : Nat)) (rfl) ?_
        refine lv_istore_n (lv' := [(3, .int (iI (↑(0 : Nat)))), (0, .ref (a 0)), (1, .ref qp), (2, .int (iI (↑s1)))]) hx hb dX2_nextCycle_16 rfl hl (by decide) rfl (fun ls hl => ?_)
        have L17 : ∀ (n : Nat) (f1 : Nat) (c2 : Nat → Int), (n0 < f1 + n) → (f1 ≤ n0) → (lkS (σ 0) n0 s1 = tryF (lkI (σ 0) n0 s1) f1 (n0 - f1)) → ∀ (H : Heap) (locs : List Loc) (ls : Array Slot), va_P D vwCl [enI cA qp 7 c2] H → va_D (wA (wL []) sz) [enI cA qp 7 c2] → va_S (wA (wL []) sz) s.heap H locs → lv_has ls 4 [(0, .ref (a 0)), (1, .ref qp), (2, .int (iI (↑s1))), (3, .int (iI (↑f1)))] → W p l e (headSpec (ws_ yX2_nextCycle cX2_nextCycle 4 (some (.object "java/util/Optional"))) { frames := 9, cells := 4, slots := 17, locals := 260 }).room s m ([.ref (a 0)] : List Value).toArray below meth c H locs 1 7 (MQ below (nQq D (ncP (σ 0) n0 em cA sz) (wA (wL []) sz)) ([.ref (a 0)] : List Value).toArray s 4 17 (wA (wL []) sz)) (F0 m 17 ls []) := by
          intro n
          induction n with
          | zero =>
            intro f1 c2 hf hf1 hI H locs ls hP hD hS hl
            exact absurd hf (by omega)
          | succ n ih17 =>
            intro f1 c2 hf hf1 hI H locs ls hP hD hS hl
            refine lv_iload_n hx hb dX2_nextCycle_17 rfl (lv_at hl 3 rfl) ?_
            refine lv_aload_n hx hb dX2_nextCycle_18 rfl (lv_at hl 0 rfl) ?_
            refine h_get hX hK (hR _ _ hS) 3 (by decide) q172 rfl dX2_nextCycle_19 ?_
            refine z_icmp_ge (tgt := 64) hX (by omega) dX2_nextCycle_22 (by decide) (fun c_22 => ?_) (fun c_22 => ?_)
            · skip
              refine z_iinc (y := ↑(s1 + 1)) (lv' := [(2, .int (iI (↑(s1 + 1)))), (0, .ref (a 0)), (1, .ref qp), (3, .int (iI (↑f1)))]) hX dX2_nextCycle_64 hl (k := 2) rfl (by omega) (by decide) rfl (fun ls hl => ?_)
              refine lv_goto (tgt := 7) hx hb dX2_nextCycle_67 (by decide) ?_
              exact ih7 (s1 + 1) (c2) (by omega) (by omega) (by rw [hF, show n0 + 1 - s1 = (n0 + 1 - (s1 + 1)) + 1 from by omega, tryF_none (hI.trans (by rw [show n0 - f1 = 0 from by omega]; rfl))]) _ _ _ hP hD hS (lv_sub hl [1, 2, 0] rfl)
            · skip
              refine W.eq (g2 := F0 m 25 ls []) rfl ?_
              refine lv_aload_n hx hb dX2_nextCycle_25 rfl (lv_at hl 1 rfl) ?_
              refine z_iconst hX dX2_nextCycle_26 ?_
              refine lv_iload_n hx hb dX2_nextCycle_27 rfl (lv_at hl 3 rfl) ?_
              refine n_ast hX hK hP hD hS 0 rfl (v := ↑f1) 0 (by decide) (by omega) dX2_nextCycle_28 (fun H locs hP hD hS => ?_)
              have hP : va_P D vwCl [enI cA qp 7 (gU c2 0 (↑f1))] H := hP
              have hD : va_D _ [enI cA qp 7 (gU c2 0 (↑f1))] := hD
              rw [show (gU c2 0 (↑f1)) = gU c2 0 ↑f1 from rfl] at hP hD
              refine lv_aload_n hx hb dX2_nextCycle_29 rfl (lv_at hl 0 rfl) ?_
              refine lv_aload_n hx hb dX2_nextCycle_30 rfl (lv_at hl 1 rfl) ?_
              refine z_iconst hX dX2_nextCycle_31 ?_
              refine lv_iload_n hx hb dX2_nextCycle_32 rfl (lv_at hl 2 rfl) ?_
              have hP8 : va_P D vwCl (pW qp cA (sA zO 0 (gU c2 0 ↑f1))) H := hP
              have hD8 := pW_D hD
              refine w_calli hD8 hA hS (va_runV (As := [.ref qp, .int (iI (1)), .int (iI (↑s1))]) (rest := []) hX.fix (c_X2_isClosed hZ σ (s1 - 1) n0 B hn hgo (sA zO 0 (gU c2 0 ↑f1)) _ [f1] _ _ (by simp) (by simp; omega) (by simp; omega) (pOk_1 (by omega)) (by rw [sA_j]; exact agr_1)) (cwV 3 hX.hts (lw_V q597 q599 qs9 q81 q600) rfl rfl rfl (by decide +kernel) ⟨by show (s1 - 1) + 1 + 1 ≤ 9; omega, by show 8 + (6 + 11) + (26 + 26 * (s1 - 1)) ≤ 260; omega⟩) (w_preVW hZ hK hD8 hA hE hP8 (hR _ _ hS) (fun k q h z => hN k q h (wA_sub hD8 hA hS.1 _ z)) hS (va_recv hK (hR _ _ hS) (ci := 1) (q0 := 0) vw_X2 hW_0)) rfl rfl hl.1 rfl (lv_room (Nat.le_of_ble_eq_true rfl)) dX2_nextCycle_33 ⟨Nat.le_of_ble_eq_true rfl, Nat.le_of_ble_eq_true rfl⟩) (fun r9 y H locs hq hP hS => ?_)
              obtain ⟨z, rfl, c3, hy2, hq⟩ := hq
              rw [hy2, sA_sA] at hP
              have hz01 : z = 0 ∨ z = 1 := by
                rcases hq with ⟨q, h1, h2, h3⟩ | h
                · exact Or.inr h2
                · exact Or.inl h.2.1
              have hP : va_P D vwCl [enI cA qp 7 c3] H := hP
              have hD : va_D _ [enI cA qp 7 c3] := pW_D hD (sA zO 0 c3)
              refine z_if_eq (tgt := 58) hX (by omega) dX2_nextCycle_36 (by decide) (fun c_36 => ?_) (fun c_36 => ?_)
              · skip
                have hN9 : lkI (σ 0) n0 s1 f1 = none := by
                  rcases hq with ⟨q, h1, h2, h3⟩ | h
                  · exact absurd c_36 (by omega)
                  · exact h.1
                refine W.eq (g2 := F0 m 58 ls []) rfl ?_
                refine z_iinc (y := ↑(f1 + 1)) (lv' := [(3, .int (iI (↑(f1 + 1)))), (0, .ref (a 0)), (1, .ref qp), (2, .int (iI (↑s1)))]) hX dX2_nextCycle_58 hl (k := 3) rfl (by omega) (by decide) rfl (fun ls hl => ?_)
                refine lv_goto (tgt := 17) hx hb dX2_nextCycle_61 (by decide) ?_
                exact ih17 (f1 + 1) (c3) (by omega) (by omega) (by rw [hI, show n0 - f1 = (n0 - (f1 + 1)) + 1 from by omega, tryF_none hN9]) _ _ _ hP hD hS (lv_sub hl [1, 2, 3, 0] rfl)
              · skip
                obtain ⟨q, hSo⟩ : ∃ q, fnd (σ 0) n0 (s1 - 1) [f1] = some q ∧ agr c3 q := by
                  rcases hq with ⟨q, h1, h2, h3⟩ | h
                  · exact ⟨q, h1, h3⟩
                  · exact absurd h.2.1 c_36
                have hlen : q.length = 1 + (s1 - 1) := (fnd_ok _ _ _ (pOk_1 (by omega)) hSo.1).2.1
                have hL : lookF (σ 0) n0 = some q := by rw [hF, show n0 + 1 - s1 = (n0 - s1) + 1 from by omega, tryF_some (hI.trans (by rw [show n0 - f1 = (n0 - f1 - 1) + 1 from by omega]; exact tryF_some hSo.1))]
                refine va_new (C := RX7) (T := TX7) (N := 2) (ci := 6) (fs := [.null, .int (iI (0))]) hx hb hX.hts in_X7 tyX7 tyX7_ok hX.ow (hX.hts _ q604) (hX.hts _ q605) (hX.hts _ q100) hK hP hD hS hA vw_X7 (by decide) (Nat.le_of_ble_eq_true rfl) (Nat.le_of_ble_eq_true rfl) dX2_nextCycle_39 (fun cy H hP hD hS => ?_)
                have hP : va_P D vwCl [enI cA qp 7 c3, enO cy 6 [.null, .int (iI (0))]] H := hP
                have hD : va_D _ [enI cA qp 7 c3, enO cy 6 [.null, .int (iI (0))]] := hD
                refine lv_dup hx hb dX2_nextCycle_42 rfl ?_
                refine lv_aload_n hx hb dX2_nextCycle_43 rfl (lv_at hl 1 rfl) ?_
                refine lv_iload_n hx hb dX2_nextCycle_44 rfl (lv_at hl 2 rfl) ?_
                refine lv_aload_n hx hb dX2_nextCycle_45 rfl (lv_at hl 0 rfl) ?_
                refine lv_aload_n hx hb dX2_nextCycle_46 rfl (lv_at hl 1 rfl) ?_
                refine lv_iload_n hx hb dX2_nextCycle_47 rfl (lv_at hl 2 rfl) ?_
                have hR9 : va_P D vwCl (hW a cA σ ++ pW qp cA (sA zO 0 c3)) H := va_P.app (hR _ _ hS) (hP.sub [0] rfl)
                refine r_calli (w := wL [enI cA qp 7 c3, enO cy 6 [.null, .int (iI (0))]]) (x := zO) hA hP hS (va_runV (As := [.ref qp, .int (iI (↑s1))]) (rest := [.int (iI (↑s1)), .ref qp, .ref cy, .ref cy]) hX.fix (c_X2_amountOf hZ _ σ (sA zO 0 c3) n0 hn B hgo q (lookF_ok hL) (by rw [sA_j]; exact hSo.2) _ (by omega)) (cwV 2 hX.hts (lw_V q606 q608 qs10 q81 q609) rfl rfl rfl (by decide +kernel) ⟨Nat.le_of_ble_eq_true rfl, Nat.le_of_ble_eq_true rfl⟩) (r_preV hZ hK hA hE hR9 hS (va_recv hK (hR _ _ hS) (ci := 1) (q0 := 0) vw_X2 hW_0)) rfl rfl hl.1 rfl (lv_room (Nat.le_of_ble_eq_true rfl)) dX2_nextCycle_48 ⟨Nat.le_of_ble_eq_true rfl, Nat.le_of_ble_eq_true rfl⟩) (fun r y H locs hq hP hS => ?_)
                rw [show r = iI (smF (σ 0) q q.length) from hq]
                refine W.eq (g2 := F0 m 51 ls [.int (iI (smF (σ 0) q q.length)), .int (iI (↑s1)), .ref qp, .ref cy, .ref cy]) rfl ?_
                have hP : va_P D vwCl [enO cy 6 [.null, .int (iI (0))], enI cA qp 7 c3] H := hP.sub [1, 0] rfl
                have hD : va_D _ [enO cy 6 [.null, .int (iI (0))], enI cA qp 7 c3] := hD.sub [1, 0] rfl rfl
                have hP9 : va_P D vwCl ([enO cy 6 [.null, .int (iI (0))]] ++ [enI cA qp 7 c3]) H := hP
                have hD9 : va_D _ ([enO cy 6 [.null, .int (iI (0))]] ++ [enI cA qp 7 c3]) := hD
                refine l_callv hP9 hD9 hA hS (va_runI (As := [.ref qp, .int (iI (↑s1)), .int (iI (smF (σ 0) q q.length))]) (rest := [.ref cy]) hX.fix (c_X7_init hZ hfl hz _ (sA zO 0 c3) q (by have := (lookF_ok hL).2.1; omega) (by rw [sA_j]; exact hSo.2) (smF (σ 0) q q.length) _ (by omega)) (cwI 3 hX.hts (lw_meth q612) rfl rfl rfl (hX.hts _ q100) (hX.hts _ q610) (hX.hts _ q611) rfl (by decide +kernel) ⟨Nat.le_of_ble_eq_true rfl, Nat.le_of_ble_eq_true rfl⟩) (l_preS hZ hK (D_l hD9) hA hE (P_l hP9) (P_r hP9) (n_in hP9 hD9 (fun q h => h)) hS) rfl rfl hl.1 rfl (lv_room (Nat.le_of_ble_eq_true rfl)) dX2_nextCycle_51 ⟨Nat.le_of_ble_eq_true rfl, Nat.le_of_ble_eq_true rfl⟩) (fun w1 h => by obtain ⟨_, rfl, h⟩ := h; exact h) (fun w1 H locs hq hP hD hS => ?_)
                obtain ⟨ar, rfl, -⟩ := hq
                have hP : va_P D vwCl [enO cy 6 [.ref ar, .int (iI (smF (σ 0) q q.length))], enI cA ar (q.length) (fun k => (qk q k : Int)), enI cA qp 7 c3] H := hP
                have hD : va_D _ [enO cy 6 [.ref ar, .int (iI (smF (σ 0) q q.length))], enI cA ar (q.length) (fun k => (qk q k : Int)), enI cA qp 7 c3] := hD
                have hz8 : sz ≤ _ := Nat.le_trans (Nat.le_of_eq hsz.symm) hS.1
                refine l_callQ hP hA hS (va_runS (As := [.ref cy]) (rest := []) hX.fix (c_J14_of hZ hfl hz _ cy) (va_cwS 1 hX.hts (lw_S q623 q624 q101 q625) rfl rfl rfl (by decide +kernel) ⟨Nat.le_of_ble_eq_true rfl, Nat.le_of_ble_eq_true rfl⟩) (r_preS hZ hK hA hE (fun k q h => by cases h) hS) rfl rfl hl.1 rfl (lv_room (Nat.le_of_ble_eq_true rfl)) dX2_nextCycle_54 ⟨Nat.le_of_ble_eq_true rfl, Nat.le_of_ble_eq_true rfl⟩) (fun r9 w1 H locs hq hP1 hP hz9 hS => ?_)
                obtain ⟨op, rfl, rfl, hd1⟩ := hq
                refine W.eq (g2 := F0 m 57 ls [.ref op]) rfl ?_
                have hP := va_P.app hP1 (hP.sub [0, 1] rfl)
                exact n_aret hX (Or.inl ⟨_, rfl⟩) hP hS (Or.inr ⟨q, op, cy, ar, hL, rfl, rfl, fun e he => by
                  have h1 := wL_nil (hd1.2 0 _ rfl)
                  have h2 := wL_nil (hD.2 0 _ rfl)
                  have h3 := wL_nil (hD.2 1 _ rfl)
                  rcases List.mem_cons.mp he with rfl | he
                  · exact Nat.le_trans hz8 h1
                  · rcases List.mem_cons.mp he with rfl | he
                    · exact h2
                    · rcases List.mem_cons.mp he with rfl | he
                      · exact h3
                      · cases he⟩) dX2_nextCycle_57
        exact L17 (n0 + 1) (0) (c1) (by omega) (by omega) (rfl) _ _ _ hP hD hS (lv_sub hl [1, 2, 3, 0] rfl)
  exact L7 (n0 + 2) (2) (fun _ => 0) (by omega) (by omega) (lookF_e) _ _ _ hP hD hS (lv_sub hl [2, 1, 0] rfl)
