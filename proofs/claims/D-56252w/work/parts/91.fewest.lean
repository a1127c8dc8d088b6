/-! the fewest payments -/
set_option maxRecDepth 100000
section
variable {p : Program} {l : Launch} {e : Env} {R : Room} {s : State} {m : MethodId} {args : Array Value} {below : List Frame} {meth : Method} {c : Code} {H : Heap} {locs : List Loc} {cells slots : Nat} {Q : State → Prop}
variable {cc : ByteArray} {pc : Nat} {ls : Array Slot} {rest st0 : List Value} {D : va_G} {A : Nat → Prop} {nL : Nat} {ret : Option FieldType} {own : String} {ws : va_W}
theorem l_calli {L0 G : va_W} {P : Int32 → va_W → Prop} {mc ms : Nat} {av : Array Value} (hP : va_P D vwCl (L0 ++ G) H) (hD : va_D A (L0 ++ G)) (hA : ∀ q, s.heap.size ≤ q → A q) (hS : va_S A s.heap H locs) (hr : va_Run p l e R s m args below meth c H locs cells slots mc ms (F0 m pc ls st0) rest (nQi D P (wA (wL L0) H.size) av) (wA (wL L0) H.size)) (hPd : ∀ r w1, P r w1 → va_D (wA (wL L0) H.size) w1)
    (kk : ∀ (r : Int32) (w1 : va_W) (H1 : Heap) (locs1 : List Loc), P r w1 → va_P D vwCl (w1 ++ G) H1 → va_D A (w1 ++ G) → va_S A s.heap H1 locs1 → W p l e R s m args below meth c H1 locs1 (cells + mc) (slots + ms) Q (F0 m (pc + 3) ls (.int r :: rest))) : W p l e R s m args below meth c H locs cells slots Q (F0 m pc ls st0) :=
  va_calli hr hS (fun q _ h => l_sub (D_l hD) hA hS q h) (l_sub (D_l hD) hA hS) (fun r w1 t H1 locs1 ht _ hp hb _ hk hS1 => by
    obtain ⟨h1, h2⟩ := l_after hP hD hA hS (hPd r w1 hp) (by rw [← ht]; exact hb) hk
    exact kk r w1 H1 locs1 hp h1 h2 hS1)
theorem n_iret {P : Int32 → va_W → Prop} {sz : Nat} {w : zT → va_W} {v : Int32} (hX : zX p s m args meth c cc own nL (some .int)) (hP : va_P D vwCl ws H) (hS : va_S (wA w sz) s.heap H locs) (hq : P v ws) (hdg : decode cc pc = .ok (.ireturn, 1)) : W p l e R s m args below meth c H locs cells slots (MQ below (nQi D P (wA w sz)) args s cells slots (wA w sz)) (F0 m pc ls [.int v]) :=
  W.iret hX.1 hX.2.1 hX.2.2.2.2.2.1 (fun t ht _ => ⟨⟨_, ws, rfl, hq, by subst ht; exact hP⟩, hS.F ht⟩) hS.2.2 hdg hX.2.2.2.2.2.2
end
set_option maxHeartbeats 4000000 in
theorem c_X2_fewestPayments {l : Launch} {D : va_G} {Z : zZ} {cA : Nat → ClassId} (hZ : zOk Z) (hfl : l.stackTraces = false) (hz : ∀ A U H, Z A U H → zT9 A U H) (sz : Nat) {a : Nat → Nat} (σ : zT) (n0 : Nat) (hn : σ 0 0 = n0 ∧ n0 ≤ 7) (B : Int) (hgo : gOk (σ 0) B)  : Met l yX2_fewestPayments (ws_ yX2_fewestPayments cX2_fewestPayments 6 (some .int)) { frames := 3, cells := 3, slots := 142, locals := 68 } (wPc D vwCl (tyL cA) Z (wL []) (hW a cA σ) [.ref (a 0)] sz zO) (nQi D (fun r ws => r = iI (fpF (lg (posL (σ 0) n0)) (posL (σ 0) n0).length) ∧ ws = []) (wA (wL []) sz)) 3 142 (wA (wL []) sz) := by
  refine l_met (cc := cX2_fewestPayments) (maxL := 6) (ret := some .int) (own := RX2) (by decide) rfl rfl (Nat.le_of_ble_eq_true rfl) ?_
  intro p e s m below meth c hX hnm hsz hK hP hD hA hE hS hR hN ls hl
  have hx := hX.1
  have hb := hX.2.1
  have hz0 := hz _ _ _ hE
  have hl : lv_has ls 6 [(0, .ref (a 0))] := hl
  have hml : (posL (σ 0) n0).length ≤ n0 := posL_len n0
  have hfb := lg_bd hgo hn.2
  have h2m : 2 ^ (posL (σ 0) n0).length ≤ 128 := Nat.pow_le_pow_right (by decide) (show (posL (σ 0) n0).length ≤ 7 by omega)
  have h2p : 0 < 2 ^ (posL (σ 0) n0).length := Nat.two_pow_pos _
  refine lv_aload_n hx hb dX2_fewestPayments_0 rfl (lv_at hl 0 rfl) ?_
  have hz8 : sz ≤ _ := Nat.le_trans (Nat.le_of_eq hsz.symm) hS.1
  refine l_callq (L0 := []) (G := []) hP hD hA hS (va_runV (As := []) (rest := []) hX.fix (c_X2_positions hZ hfl hz _ σ n0 hn B hgo) (cwV 0 hX.hts (lw_V q888 q890 qs18 q81 q891) rfl rfl rfl (by decide +kernel) ⟨Nat.le_of_ble_eq_true rfl, Nat.le_of_ble_eq_true rfl⟩) (r_preV hZ hK hA hE (hR _ _ hS) hS (va_recv hK (hR _ _ hS) (ci := 1) (q0 := 0) vw_X2 hW_0)) rfl rfl hl.1 rfl (lv_room (Nat.le_of_ble_eq_true rfl)) dX2_fewestPayments_1 ⟨Nat.le_of_ble_eq_true rfl, Nat.le_of_ble_eq_true rfl⟩) (fun r w1 h => by obtain ⟨_, _, rfl, h⟩ := h; exact h) (fun r9 w1 H locs hq hP hD hS => ?_)
  obtain ⟨pv, rfl, rfl, -⟩ := hq
  have hP : va_P D vwCl [enI cA pv ((posL (σ 0) n0).length) (lg (posL (σ 0) n0))] H := hP
  have hD : va_D _ [enI cA pv ((posL (σ 0) n0).length) (lg (posL (σ 0) n0))] := hD
  refine W.eq (g2 := F0 m 4 ls [.ref pv]) rfl ?_
  refine lv_astore_n (lv' := [(1, .ref pv), (0, .ref (a 0))]) hx hb dX2_fewestPayments_4 rfl hl (by decide) rfl (fun ls hl => ?_)
  refine z_iconst hX dX2_fewestPayments_5 ?_
  refine lv_aload_n hx hb dX2_fewestPayments_6 rfl (lv_at hl 0 rfl) ?_
  refine va_alen hX.1 hX.2.1 hK hP 0 0 rfl ty_0 (v := iI (((posL (σ 0) n0).length : Nat) : Int)) rfl dX2_fewestPayments_7 ?_
  refine z_ishl1 hX (posL (σ 0) n0).length ((by omega)) dX2_fewestPayments_8 ?_
  refine z_newa hX hK hP hD hS hA .int 0 (ty := .int) rfl (q165) rfl (2 ^ (posL (σ 0) n0).length, .inl (fun _ => iI 0)) (2 ^ (posL (σ 0) n0).length) (fun _ => rfl) (rfl) (by omega) (by show 2 ^ (posL (σ 0) n0).length * 4 ≤ 536870912; omega) (Nat.le_of_ble_eq_true rfl) (by show 14 + 2 ^ (posL (σ 0) n0).length ≤ 142; omega) dX2_fewestPayments_9 (fun gr H hP hD hS => ?_)
  have hP : va_P D vwCl [enI cA pv ((posL (σ 0) n0).length) (lg (posL (σ 0) n0)), enI cA gr (2 ^ (posL (σ 0) n0).length) (fun _ => 0)] H := hP
  have hD : va_D _ [enI cA pv ((posL (σ 0) n0).length) (lg (posL (σ 0) n0)), enI cA gr (2 ^ (posL (σ 0) n0).length) (fun _ => 0)] := hD
  refine lv_astore_n (lv' := [(2, .ref gr), (1, .ref pv), (0, .ref (a 0))]) hx hb dX2_fewestPayments_11 rfl hl (by decide) rfl (fun ls hl => ?_)
  refine W.eq (g2 := F0 m 12 ls []) rfl ?_
  refine z_iconst hX dX2_fewestPayments_12 ?_
  refine z_top (y := ↑(0 + 1)) (rfl) ?_
  refine lv_istore_n (lv' := [(3, .int (iI (↑(0 + 1)))), (2, .ref gr), (1, .ref pv), (0, .ref (a 0))]) hx hb dX2_fewestPayments_13 rfl hl (by decide) rfl (fun ls hl => ?_)
  have L14 : ∀ (n : Nat) (t : Nat), (2 ^ (posL (σ 0) n0).length < t + n) → (t + 1 ≤ 2 ^ (posL (σ 0) n0).length) → ∀ (H : Heap) (locs : List Loc) (ls : Array Slot), va_P D vwCl [enI cA pv ((posL (σ 0) n0).length) (lg (posL (σ 0) n0)), enI cA gr (2 ^ (posL (σ 0) n0).length) (gpT (lg (posL (σ 0) n0)) (posL (σ 0) n0).length t)] H → va_D (wA (wL []) sz) [enI cA pv ((posL (σ 0) n0).length) (lg (posL (σ 0) n0)), enI cA gr (2 ^ (posL (σ 0) n0).length) (gpT (lg (posL (σ 0) n0)) (posL (σ 0) n0).length t)] → va_S (wA (wL []) sz) s.heap H locs → lv_has ls 6 [(0, .ref (a 0)), (1, .ref pv), (2, .ref gr), (3, .int (iI (↑(t + 1))))] → W p l e (headSpec (ws_ yX2_fewestPayments cX2_fewestPayments 6 (some .int)) { frames := 3, cells := 3, slots := 142, locals := 68 }).room s m ([.ref (a 0)] : List Value).toArray below meth c H locs 3 (14 + 2 ^ (posL (σ 0) n0).length) (MQ below (nQi D (fun r ws => r = iI (fpF (lg (posL (σ 0) n0)) (posL (σ 0) n0).length) ∧ ws = []) (wA (wL []) sz)) ([.ref (a 0)] : List Value).toArray s 3 142 (wA (wL []) sz)) (F0 m 14 ls []) := by
    intro n
    induction n with
    | zero =>
      intro t hf ht H locs ls hP hD hS hl
      exact absurd hf (by omega)
    | succ n ih14 =>
      intro t hf ht H locs ls hP hD hS hl
      refine lv_iload_n hx hb dX2_fewestPayments_14 rfl (lv_at hl 3 rfl) ?_
      refine lv_aload_n hx hb dX2_fewestPayments_15 rfl (lv_at hl 2 rfl) ?_
      refine va_alen hX.1 hX.2.1 hK hP 1 0 rfl ty_0 (v := iI ((2 ^ (posL (σ 0) n0).length : Nat) : Int)) rfl dX2_fewestPayments_16 ?_
      refine z_icmp_ge (tgt := 96) hX (by omega) dX2_fewestPayments_17 (by decide) (fun c_17 => ?_) (fun c_17 => ?_)
      · skip
        obtain rfl : t = 2 ^ (posL (σ 0) n0).length - 1 := by omega
        refine lv_aload_n hx hb dX2_fewestPayments_96 rfl (lv_at hl 1 rfl) ?_
        refine va_alen hX.1 hX.2.1 hK hP 0 0 rfl ty_0 (v := iI (((posL (σ 0) n0).length : Nat) : Int)) rfl dX2_fewestPayments_97 ?_
        refine lv_aload_n hx hb dX2_fewestPayments_98 rfl (lv_at hl 2 rfl) ?_
        refine lv_aload_n hx hb dX2_fewestPayments_99 rfl (lv_at hl 2 rfl) ?_
        refine W.eq (g2 := F0 m 100 ls [.ref gr, .ref gr, .int (iI (↑((posL (σ 0) n0).length)))]) rfl ?_
        refine va_alen hX.1 hX.2.1 hK hP 1 0 rfl ty_0 (v := iI ((2 ^ (posL (σ 0) n0).length : Nat) : Int)) rfl dX2_fewestPayments_100 ?_
        refine z_iconst hX dX2_fewestPayments_101 ?_
        refine z_isub hX dX2_fewestPayments_102 ?_
        refine n_ald hX hK hP 1 rfl ((2 ^ (posL (σ 0) n0).length - 1)) (⟨by omega, by omega⟩) (by omega) dX2_fewestPayments_103 ?_
        refine z_isub hX dX2_fewestPayments_104 ?_
        have hP : va_P D vwCl [] H := hP.sub [] rfl
        refine W.widen (k := 3) (n := 142) (Nat.le_of_ble_eq_true rfl) (by omega) ?_
        exact n_iret hX hP hS (⟨rfl, rfl⟩) dX2_fewestPayments_105
      · skip
        refine z_iconst hX dX2_fewestPayments_20 ?_
        refine z_top (y := pmF (gpT (lg (posL (σ 0) n0)) (posL (σ 0) n0).length t) (t + 1) 0) (rfl) ?_
        refine lv_istore (lv' := [(4, .int (iI (pmF (gpT (lg (posL (σ 0) n0)) (posL (σ 0) n0).length t) (t + 1) 0))), (0, .ref (a 0)), (1, .ref pv), (2, .ref gr), (3, .int (iI (↑(t + 1))))]) hx hb dX2_fewestPayments_21 hl (by decide) rfl (fun ls hl => ?_)
        refine z_iconst hX dX2_fewestPayments_23 ?_
        refine z_top (y := ↑(0 : Nat)) (rfl) ?_
        refine lv_istore (lv' := [(5, .int (iI (↑(0 : Nat)))), (4, .int (iI (pmF (gpT (lg (posL (σ 0) n0)) (posL (σ 0) n0).length t) (t + 1) 0))), (0, .ref (a 0)), (1, .ref pv), (2, .ref gr), (3, .int (iI (↑(t + 1))))]) hx hb dX2_fewestPayments_24 hl (by decide) rfl (fun ls hl => ?_)
        have L26 : ∀ (n : Nat) (k : Nat), ((posL (σ 0) n0).length < k + n) → (k ≤ (posL (σ 0) n0).length) → ∀ (H : Heap) (locs : List Loc) (ls : Array Slot), va_P D vwCl [enI cA pv ((posL (σ 0) n0).length) (lg (posL (σ 0) n0)), enI cA gr (2 ^ (posL (σ 0) n0).length) (gpT (lg (posL (σ 0) n0)) (posL (σ 0) n0).length t)] H → va_D (wA (wL []) sz) [enI cA pv ((posL (σ 0) n0).length) (lg (posL (σ 0) n0)), enI cA gr (2 ^ (posL (σ 0) n0).length) (gpT (lg (posL (σ 0) n0)) (posL (σ 0) n0).length t)] → va_S (wA (wL []) sz) s.heap H locs → lv_has ls 6 [(0, .ref (a 0)), (1, .ref pv), (2, .ref gr), (3, .int (iI (↑(t + 1)))), (4, .int (iI (pmF (gpT (lg (posL (σ 0) n0)) (posL (σ 0) n0).length t) (t + 1) k))), (5, .int (iI (↑k)))] → W p l e (headSpec (ws_ yX2_fewestPayments cX2_fewestPayments 6 (some .int)) { frames := 3, cells := 3, slots := 142, locals := 68 }).room s m ([.ref (a 0)] : List Value).toArray below meth c H locs 3 (14 + 2 ^ (posL (σ 0) n0).length) (MQ below (nQi D (fun r ws => r = iI (fpF (lg (posL (σ 0) n0)) (posL (σ 0) n0).length) ∧ ws = []) (wA (wL []) sz)) ([.ref (a 0)] : List Value).toArray s 3 142 (wA (wL []) sz)) (F0 m 26 ls []) := by
          intro n
          induction n with
          | zero =>
            intro k hf hk H locs ls hP hD hS hl
            exact absurd hf (by omega)
          | succ n ih26 =>
            intro k hf hk H locs ls hP hD hS hl
            refine W.eq (g2 := F0 m 26 ls []) rfl ?_
            refine lv_iload hx hb dX2_fewestPayments_26 (lv_at hl 5 rfl) ?_
            refine lv_aload_n hx hb dX2_fewestPayments_28 rfl (lv_at hl 1 rfl) ?_
            refine va_alen hX.1 hX.2.1 hK hP 0 0 rfl ty_0 (v := iI (((posL (σ 0) n0).length : Nat) : Int)) rfl dX2_fewestPayments_29 ?_
            refine z_icmp_ge (tgt := 71) hX (by omega) dX2_fewestPayments_30 (by decide) (fun c_30 => ?_) (fun c_30 => ?_)
            · skip
              obtain rfl : k = (posL (σ 0) n0).length := by omega
              refine lv_aload_n hx hb dX2_fewestPayments_71 rfl (lv_at hl 2 rfl) ?_
              refine lv_iload_n hx hb dX2_fewestPayments_72 rfl (lv_at hl 3 rfl) ?_
              refine lv_iload hx hb dX2_fewestPayments_73 (lv_at hl 4 rfl) ?_
              refine lv_aload_n hx hb dX2_fewestPayments_75 rfl (lv_at hl 1 rfl) ?_
              refine lv_iload_n hx hb dX2_fewestPayments_76 rfl (lv_at hl 3 rfl) ?_
              refine r_calli (w := wL [enI cA pv ((posL (σ 0) n0).length) (lg (posL (σ 0) n0)), enI cA gr (2 ^ (posL (σ 0) n0).length) (gpT (lg (posL (σ 0) n0)) (posL (σ 0) n0).length t)]) (x := zO) hA hP hS (va_runS (As := [.ref pv, .int (iI (↑(t + 1)))]) (rest := [.int (iI (pmF (gpT (lg (posL (σ 0) n0)) (posL (σ 0) n0).length t) (t + 1) (posL (σ 0) n0).length)), .int (iI (↑(t + 1))), .ref gr]) hX.fix (c_X2_sumOf hZ hfl hz _ (posL (σ 0) n0).length (lg (posL (σ 0) n0)) (by omega) (t + 1) (by omega) _ rfl) (va_cwS 2 hX.hts (lw_S q895 q896 q81 q897) rfl rfl rfl (by decide +kernel) ⟨Nat.le_of_ble_eq_true rfl, Nat.le_of_ble_eq_true rfl⟩) (r_preS hZ hK hA hE (hP.sub [0] rfl : va_P D vwCl [enI cA pv ((posL (σ 0) n0).length) (lg (posL (σ 0) n0))] _) hS) rfl rfl hl.1 rfl (lv_room (Nat.le_of_ble_eq_true rfl)) dX2_fewestPayments_77 ⟨Nat.le_of_ble_eq_true rfl, by show 14 + 2 ^ (posL (σ 0) n0).length + 0 ≤ 142; omega⟩) (fun r y H locs hq hP hS => ?_)
              rw [show r = iI (ssF (lg (posL (σ 0) n0)) (t + 1) (posL (σ 0) n0).length) from hq]
              refine W.eq (g2 := F0 m 80 ls [.int (iI (ssF (lg (posL (σ 0) n0)) (t + 1) (posL (σ 0) n0).length)), .int (iI (pmF (gpT (lg (posL (σ 0) n0)) (posL (σ 0) n0).length t) (t + 1) (posL (σ 0) n0).length)), .int (iI (↑(t + 1))), .ref gr]) rfl ?_
              refine z_if_ne (tgt := 87) hX (by have := ssF_bd (f := (lg (posL (σ 0) n0))) (s := t + 1) hfb (posL (σ 0) n0).length; omega) dX2_fewestPayments_80 (by decide) (fun c_80 => ?_) (fun c_80 => ?_)
              · skip
                refine z_iconst hX dX2_fewestPayments_87 ?_
                refine z_iadd hX dX2_fewestPayments_88 ?_
                refine z_top (y := pmF (gpT (lg (posL (σ 0) n0)) (posL (σ 0) n0).length t) (t + 1) (posL (σ 0) n0).length + bI (ssF (lg (posL (σ 0) n0)) (t + 1) (posL (σ 0) n0).length = 0)) (by rw [bI_f (by omega)]) ?_
                refine n_ast hX hK hP hD hS 1 rfl (v := pmF (gpT (lg (posL (σ 0) n0)) (posL (σ 0) n0).length t) (t + 1) (posL (σ 0) n0).length + bI (ssF (lg (posL (σ 0) n0)) (t + 1) (posL (σ 0) n0).length = 0)) ((t + 1)) (⟨rfl, by omega⟩) (by omega) dX2_fewestPayments_89 (fun H locs hP hD hS => ?_)
                have hP : va_P D vwCl [enI cA pv ((posL (σ 0) n0).length) (lg (posL (σ 0) n0)), enI cA gr (2 ^ (posL (σ 0) n0).length) (gU (gpT (lg (posL (σ 0) n0)) (posL (σ 0) n0).length t) ((t + 1)) (pmF (gpT (lg (posL (σ 0) n0)) (posL (σ 0) n0).length t) (t + 1) (posL (σ 0) n0).length + bI (ssF (lg (posL (σ 0) n0)) (t + 1) (posL (σ 0) n0).length = 0)))] H := hP
                have hD : va_D _ [enI cA pv ((posL (σ 0) n0).length) (lg (posL (σ 0) n0)), enI cA gr (2 ^ (posL (σ 0) n0).length) (gU (gpT (lg (posL (σ 0) n0)) (posL (σ 0) n0).length t) ((t + 1)) (pmF (gpT (lg (posL (σ 0) n0)) (posL (σ 0) n0).length t) (t + 1) (posL (σ 0) n0).length + bI (ssF (lg (posL (σ 0) n0)) (t + 1) (posL (σ 0) n0).length = 0)))] := hD
                rw [show (gU (gpT (lg (posL (σ 0) n0)) (posL (σ 0) n0).length t) ((t + 1)) (pmF (gpT (lg (posL (σ 0) n0)) (posL (σ 0) n0).length t) (t + 1) (posL (σ 0) n0).length + bI (ssF (lg (posL (σ 0) n0)) (t + 1) (posL (σ 0) n0).length = 0))) = gpT (lg (posL (σ 0) n0)) (posL (σ 0) n0).length (t + 1) from rfl] at hP hD
                refine z_iinc (y := ↑(t + 1 + 1)) (lv' := [(3, .int (iI (↑(t + 1 + 1)))), (0, .ref (a 0)), (1, .ref pv), (2, .ref gr), (4, .int (iI (pmF (gpT (lg (posL (σ 0) n0)) (posL (σ 0) n0).length t) (t + 1) (posL (σ 0) n0).length))), (5, .int (iI (↑(posL (σ 0) n0).length)))]) hX dX2_fewestPayments_90 hl (k := 3) rfl (by omega) (by decide) rfl (fun ls hl => ?_)
                refine lv_goto (tgt := 14) hx hb dX2_fewestPayments_93 (by decide) ?_
                exact ih14 (t + 1) (by omega) (by omega) _ _ _ hP hD hS (lv_sub hl [1, 2, 3, 0] rfl)
              · skip
                refine z_iconst hX dX2_fewestPayments_83 ?_
                refine lv_goto (tgt := 88) hx hb dX2_fewestPayments_84 (by decide) ?_
                refine z_iadd hX dX2_fewestPayments_88 ?_
                refine z_top (y := pmF (gpT (lg (posL (σ 0) n0)) (posL (σ 0) n0).length t) (t + 1) (posL (σ 0) n0).length + bI (ssF (lg (posL (σ 0) n0)) (t + 1) (posL (σ 0) n0).length = 0)) (by rw [bI_t (by omega)]) ?_
                refine n_ast hX hK hP hD hS 1 rfl (v := pmF (gpT (lg (posL (σ 0) n0)) (posL (σ 0) n0).length t) (t + 1) (posL (σ 0) n0).length + bI (ssF (lg (posL (σ 0) n0)) (t + 1) (posL (σ 0) n0).length = 0)) ((t + 1)) (⟨rfl, by omega⟩) (by omega) dX2_fewestPayments_89 (fun H locs hP hD hS => ?_)
                have hP : va_P D vwCl [enI cA pv ((posL (σ 0) n0).length) (lg (posL (σ 0) n0)), enI cA gr (2 ^ (posL (σ 0) n0).length) (gU (gpT (lg (posL (σ 0) n0)) (posL (σ 0) n0).length t) ((t + 1)) (pmF (gpT (lg (posL (σ 0) n0)) (posL (σ 0) n0).length t) (t + 1) (posL (σ 0) n0).length + bI (ssF (lg (posL (σ 0) n0)) (t + 1) (posL (σ 0) n0).length = 0)))] H := hP
                have hD : va_D _ [enI cA pv ((posL (σ 0) n0).length) (lg (posL (σ 0) n0)), enI cA gr (2 ^ (posL (σ 0) n0).length) (gU (gpT (lg (posL (σ 0) n0)) (posL (σ 0) n0).length t) ((t + 1)) (pmF (gpT (lg (posL (σ 0) n0)) (posL (σ 0) n0).length t) (t + 1) (posL (σ 0) n0).length + bI (ssF (lg (posL (σ 0) n0)) (t + 1) (posL (σ 0) n0).length = 0)))] := hD
                rw [show (gU (gpT (lg (posL (σ 0) n0)) (posL (σ 0) n0).length t) ((t + 1)) (pmF (gpT (lg (posL (σ 0) n0)) (posL (σ 0) n0).length t) (t + 1) (posL (σ 0) n0).length + bI (ssF (lg (posL (σ 0) n0)) (t + 1) (posL (σ 0) n0).length = 0))) = gpT (lg (posL (σ 0) n0)) (posL (σ 0) n0).length (t + 1) from rfl] at hP hD
                refine W.eq (g2 := F0 m 90 ls []) rfl ?_
                refine z_iinc (y := ↑(t + 1 + 1)) (lv' := [(3, .int (iI (↑(t + 1 + 1)))), (0, .ref (a 0)), (1, .ref pv), (2, .ref gr), (4, .int (iI (pmF (gpT (lg (posL (σ 0) n0)) (posL (σ 0) n0).length t) (t + 1) (posL (σ 0) n0).length))), (5, .int (iI (↑(posL (σ 0) n0).length)))]) hX dX2_fewestPayments_90 hl (k := 3) rfl (by omega) (by decide) rfl (fun ls hl => ?_)
                refine lv_goto (tgt := 14) hx hb dX2_fewestPayments_93 (by decide) ?_
                exact ih14 (t + 1) (by omega) (by omega) _ _ _ hP hD hS (lv_sub hl [1, 2, 3, 0] rfl)
            · skip
              refine lv_iload_n hx hb dX2_fewestPayments_33 rfl (lv_at hl 3 rfl) ?_
              refine lv_iload hx hb dX2_fewestPayments_34 (lv_at hl 5 rfl) ?_
              refine z_ibit hX ((t + 1)) k (by omega) (by omega) dX2_fewestPayments_36 ?_
              refine z_iconst hX dX2_fewestPayments_37 ?_
              refine z_iand1 hX (((t + 1) / 2 ^ k)) ((Nat.lt_of_le_of_lt (Nat.div_le_self _ _) (by omega))) dX2_fewestPayments_38 ?_
              refine z_iconst hX dX2_fewestPayments_39 ?_
              refine z_icmp_ne (tgt := 61) hX (by omega) dX2_fewestPayments_40 (by decide) (fun c_40 => ?_) (fun c_40 => ?_)
              · skip
                refine lv_iload hx hb dX2_fewestPayments_61 (lv_at hl 4 rfl) ?_
                refine z_top (y := pmF (gpT (lg (posL (σ 0) n0)) (posL (σ 0) n0).length t) (t + 1) (k + 1)) (by show _ = if _ then _ else _; rw [if_neg (by omega)]) ?_
                refine W.eq (g2 := F0 m 63 ls [.int (iI (pmF (gpT (lg (posL (σ 0) n0)) (posL (σ 0) n0).length t) (t + 1) (k + 1)))]) rfl ?_
                refine lv_istore (lv' := [(4, .int (iI (pmF (gpT (lg (posL (σ 0) n0)) (posL (σ 0) n0).length t) (t + 1) (k + 1)))), (0, .ref (a 0)), (1, .ref pv), (2, .ref gr), (3, .int (iI (↑(t + 1)))), (5, .int (iI (↑k)))]) hx hb dX2_fewestPayments_63 hl (by decide) rfl (fun ls hl => ?_)
                refine z_iinc (y := ↑(k + 1)) (lv' := [(5, .int (iI (↑(k + 1)))), (4, .int (iI (pmF (gpT (lg (posL (σ 0) n0)) (posL (σ 0) n0).length t) (t + 1) (k + 1)))), (0, .ref (a 0)), (1, .ref pv), (2, .ref gr), (3, .int (iI (↑(t + 1))))]) hX dX2_fewestPayments_65 hl (k := 5) rfl (by omega) (by decide) rfl (fun ls hl => ?_)
                refine lv_goto (tgt := 26) hx hb dX2_fewestPayments_68 (by decide) ?_
                exact ih26 (k + 1) (by omega) (by omega) _ _ _ hP hD hS (lv_sub hl [2, 3, 4, 5, 1, 0] rfl)
              · skip
                refine lv_iload hx hb dX2_fewestPayments_43 (lv_at hl 4 rfl) ?_
                refine lv_aload_n hx hb dX2_fewestPayments_45 rfl (lv_at hl 2 rfl) ?_
                have hg9 := gpT_bd (f := (lg (posL (σ 0) n0))) (m := (posL (σ 0) n0).length) (by omega) t (by omega)
                have hp9 := pmF_bd (tab := gpT (lg (posL (σ 0) n0)) (posL (σ 0) n0).length t) (s := t + 1) (M := t) (by omega) (by omega) (fun j _ => hg9 j) k (by omega)
                have hg8 := hg9 ((t + 1) ^^^ 2 ^ k)
                refine lv_iload_n hx hb dX2_fewestPayments_46 rfl (lv_at hl 3 rfl) ?_
                refine z_iconst hX dX2_fewestPayments_47 ?_
                refine lv_iload hx hb dX2_fewestPayments_48 (lv_at hl 5 rfl) ?_
                refine z_ishl1 hX k ((by omega)) dX2_fewestPayments_50 ?_
                refine z_clr hX ((t + 1)) k (by omega) (by omega) (by omega) dX2_fewestPayments_51 dX2_fewestPayments_52 dX2_fewestPayments_53 ?_
                refine n_ald hX hK hP 1 rfl (((t + 1) ^^^ 2 ^ k)) (⟨rfl, by have := xor_lt (s := t + 1) (k := k) (by omega) (by omega) (by omega); omega⟩) (by omega) dX2_fewestPayments_54 ?_
                refine W.eq (g2 := F0 m 55 ls [.int (iI ((gpT (lg (posL (σ 0) n0)) (posL (σ 0) n0).length t) (((t + 1) ^^^ 2 ^ k)))), .int (iI (pmF (gpT (lg (posL (σ 0) n0)) (posL (σ 0) n0).length t) (t + 1) k))]) rfl ?_
                refine z_mmax hX ⟨by unfold rng; omega, by unfold rng; omega⟩ hl.1.symm q892 ⟨Nat.le_of_ble_eq_true rfl, Nat.le_of_ble_eq_true rfl⟩ ⟨Nat.le_of_ble_eq_true rfl, by show 14 + 2 ^ (posL (σ 0) n0).length ≤ 142; omega⟩ dX2_fewestPayments_55 ?_
                refine lv_goto (tgt := 63) hx hb dX2_fewestPayments_58 (by decide) ?_
                refine z_top (y := pmF (gpT (lg (posL (σ 0) n0)) (posL (σ 0) n0).length t) (t + 1) (k + 1)) (by show _ = if _ then _ else _; rw [if_pos (by omega)]) ?_
                refine lv_istore (lv' := [(4, .int (iI (pmF (gpT (lg (posL (σ 0) n0)) (posL (σ 0) n0).length t) (t + 1) (k + 1)))), (0, .ref (a 0)), (1, .ref pv), (2, .ref gr), (3, .int (iI (↑(t + 1)))), (5, .int (iI (↑k)))]) hx hb dX2_fewestPayments_63 hl (by decide) rfl (fun ls hl => ?_)
                refine z_iinc (y := ↑(k + 1)) (lv' := [(5, .int (iI (↑(k + 1)))), (4, .int (iI (pmF (gpT (lg (posL (σ 0) n0)) (posL (σ 0) n0).length t) (t + 1) (k + 1)))), (0, .ref (a 0)), (1, .ref pv), (2, .ref gr), (3, .int (iI (↑(t + 1))))]) hX dX2_fewestPayments_65 hl (k := 5) rfl (by omega) (by decide) rfl (fun ls hl => ?_)
                refine lv_goto (tgt := 26) hx hb dX2_fewestPayments_68 (by decide) ?_
                exact ih26 (k + 1) (by omega) (by omega) _ _ _ hP hD hS (lv_sub hl [2, 3, 4, 5, 1, 0] rfl)
        exact L26 ((posL (σ 0) n0).length + 1) (0) (by omega) (by omega) _ _ _ hP hD hS (lv_sub hl [2, 3, 4, 5, 1, 0] rfl)
  rw [show (fun _ => (0 : Int)) = gpT (lg (posL (σ 0) n0)) (posL (σ 0) n0).length 0 from rfl] at hP hD
  exact L14 (2 ^ (posL (σ 0) n0).length + 1) (0) (by omega) (by have := Nat.two_pow_pos (posL (σ 0) n0).length; omega) _ _ _ hP hD hS (lv_sub hl [3, 2, 1, 0] rfl)
