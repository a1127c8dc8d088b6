/-! the house nets a cycle -/
set_option maxRecDepth 100000
theorem ns_step {g : Nat → Int} {q : List Nat} {v : Int} {k : Nat} (h : 2 < 12 + 7 * qk q k + qk q ((k + 1) % q.length)) : gA (gA (gA (nsF g q v k) 2 (k * v)) (12 + 7 * qk q k + qk q ((k + 1) % q.length)) (-v)) 2 v = gA (nsF g q v (k + 1)) 2 (((k + 1 : Nat) : Int) * v) := by
  rw [gA_cm (k := 2) (by omega)]
  show gA (gA (nsF g q v (k + 1)) 2 (k * v)) 2 v = _
  generalize nsF g q v (k + 1) = f
  unfold gA
  rw [gU_uu, gU_eq]
  congr 1
  rw [Int.natCast_add, Int.add_mul]
  omega
theorem ns_0 {g : Nat → Int} {q : List Nat} {v : Int} : gA (nsF g q v 0) 2 ((0 : Nat) * v) = g := by
  unfold gA nsF
  rw [Int.natCast_zero, Int.zero_mul, Int.add_zero, gU_self]
set_option maxHeartbeats 4000000 in
theorem c_X2_net {l : Launch} {D : va_G} {Z : zZ} {cA : Nat → ClassId} (hZ : zOk Z) (hfl : l.stackTraces = false) (hz : ∀ A U H, Z A U H → zT9 A U H) (sz : Nat) {a : Nat → Nat} (σ : zT) {cy ar : Nat} {am : Int} (q : List Nat) (hq7 : 1 ≤ q.length ∧ q.length ≤ 7) (hqb : ∀ k, k < q.length → qk q k < 7) (ham : (-2147483648 ≤ am ∧ am ≤ 2147483647)) : Met l yX2_net (ws_ yX2_net cX2_net 3 (some .int)) { frames := 2, cells := 0, slots := 0, locals := 53 } (mPc (a 3) (wPc D vwCl (tyL cA) Z (hW a cA) (cyW cy ar cA q am) [.ref (a 0), .ref (cy)] sz σ)) (wQi D vwCl (hW a cA) (fun r y => r = iI am ∧ y = sA σ 0 (gA (nsF (σ 0) q am q.length) 2 (q.length * am))) sz) 0 0 (wA (hW a cA) sz) := by
  refine w_metRM (cc := cX2_net) (maxL := 3) (ret := some .int) (own := RX2) (by decide) rfl rfl hW_ok (Nat.le_of_ble_eq_true rfl) ?_
  intro p e s m below meth c hX hmf hsz hK hP hD hA hE hS hR hN ls hl
  have hx := hX.1
  have hb := hX.2.1
  have hz0 := hz _ _ _ hE
  have hl : lv_has ls 3 [(0, .ref (a 0)), (1, .ref cy)] := hl
  refine z_iconst hX dX2_net_0 ?_
  refine z_top (y := ↑(0 : Nat)) (rfl) ?_
  refine lv_istore_n (lv' := [(2, .int (iI (↑(0 : Nat)))), (0, .ref (a 0)), (1, .ref cy)]) hx hb dX2_net_1 rfl hl (by decide) rfl (fun ls hl => ?_)
  have L2 : ∀ (n : Nat) (k : Nat), (q.length < k + n) → (k ≤ q.length) → ∀ (H : Heap) (locs : List Loc) (ls : Array Slot), va_P D vwCl (hW a cA (sA σ 0 (gA (nsF (σ 0) q am k) 2 (k * am)))) H → va_S (wA (hW a cA) sz) s.heap H locs → lv_has ls 3 [(0, .ref (a 0)), (1, .ref cy), (2, .int (iI (↑k)))] → W p l e (headSpec (ws_ yX2_net cX2_net 3 (some .int)) { frames := 2, cells := 0, slots := 0, locals := 53 }).room s m ([.ref (a 0), .ref cy] : List Value).toArray below meth c H locs 0 0 (MQ below (wQi D vwCl (hW a cA) (fun r y => r = iI am ∧ y = sA σ 0 (gA (nsF (σ 0) q am q.length) 2 (q.length * am))) sz) ([.ref (a 0), .ref cy] : List Value).toArray s 0 0 (wA (hW a cA) sz)) (F0 m 2 ls []) := by
    intro n
    induction n with
    | zero =>
      intro k hf hk H locs ls hP hS hl
      exact absurd hf (by omega)
    | succ n ih2 =>
      intro k hf hk H locs ls hP hS hl
      refine lv_iload_n hx hb dX2_net_2 rfl (lv_at hl 2 rfl) ?_
      refine lv_aload_n hx hb dX2_net_3 rfl (lv_at hl 1 rfl) ?_
      refine r_calli hA hP hS (va_runV (As := []) (rest := [.int (iI (↑k))]) hX.fix (c_X7_size hZ _ q hq7) (cwV 0 hX.hts (lw_V q685 q686 q687 q100 q688) rfl rfl rfl (by decide +kernel) ⟨Nat.le_of_ble_eq_true rfl, Nat.le_of_ble_eq_true rfl⟩) (r_preV hZ hK hA hE (hR _ _ hS) hS (va_recv hK (hR _ _ hS) (ci := 6) (q0 := 0) vw_X7 rfl)) rfl rfl hl.1 rfl (lv_room (Nat.le_of_ble_eq_true rfl)) dX2_net_4 ⟨Nat.le_of_ble_eq_true rfl, Nat.le_of_ble_eq_true rfl⟩) (fun r y H locs hq hP hS => ?_)
      rw [show r = iI ((q.length : Nat)) from hq]
      refine z_icmp_ge (tgt := 34) hX (by omega) dX2_net_7 (by decide) (fun c_7 => ?_) (fun c_7 => ?_)
      · skip
        refine lv_aload_n hx hb dX2_net_34 rfl (lv_at hl 1 rfl) ?_
        refine va_getN hX.1 hX.2.1 hX.hts in_X7 hX.ow hK (hR _ _ hS) 0 rfl vw_X7 1 (by decide) (va_Nw.use rfl (hz0.1 _ q616 rfl)) (fun _ h => h) rfl dX2_net_35 ?_
        exact w_iret hX hP hS (⟨rfl, by rw [show k = q.length by omega]⟩) dX2_net_38
      · skip
        refine W.eq (g2 := F0 m 10 ls []) rfl ?_
        refine lv_aload_n hx hb dX2_net_10 rfl (lv_at hl 0 rfl) ?_
        refine lv_aload_n hx hb dX2_net_11 rfl (lv_at hl 1 rfl) ?_
        refine lv_iload_n hx hb dX2_net_12 rfl (lv_at hl 2 rfl) ?_
        refine r_calli hA hP hS (va_runV (As := [.int (iI (↑k))]) (rest := [.ref (a 0)]) hX.fix (c_X7_party hZ _ q hq7 k _ ⟨rfl, by omega⟩) (cwV 1 hX.hts (lw_V q689 q690 q691 q100 q692) rfl rfl rfl (by decide +kernel) ⟨Nat.le_of_ble_eq_true rfl, Nat.le_of_ble_eq_true rfl⟩) (r_preV hZ hK hA hE (hR _ _ hS) hS (va_recv hK (hR _ _ hS) (ci := 6) (q0 := 0) vw_X7 rfl)) rfl rfl hl.1 rfl (lv_room (Nat.le_of_ble_eq_true rfl)) dX2_net_13 ⟨Nat.le_of_ble_eq_true rfl, Nat.le_of_ble_eq_true rfl⟩) (fun r y H locs hq hP hS => ?_)
        rw [show r = iI ((qk q k : Nat)) from hq]
        refine lv_aload_n hx hb dX2_net_16 rfl (lv_at hl 1 rfl) ?_
        refine lv_iload_n hx hb dX2_net_17 rfl (lv_at hl 2 rfl) ?_
        refine r_calli hA hP hS (va_runV (As := [.int (iI (↑k))]) (rest := [.int (iI ((qk q k : Nat))), .ref (a 0)]) hX.fix (c_X7_after hZ _ q hq7 k _ ⟨rfl, by omega⟩) (cwV 1 hX.hts (lw_V q693 q694 q695 q100 q696) rfl rfl rfl (by decide +kernel) ⟨Nat.le_of_ble_eq_true rfl, Nat.le_of_ble_eq_true rfl⟩) (r_preV hZ hK hA hE (hR _ _ hS) hS (va_recv hK (hR _ _ hS) (ci := 6) (q0 := 0) vw_X7 rfl)) rfl rfl hl.1 rfl (lv_room (Nat.le_of_ble_eq_true rfl)) dX2_net_18 ⟨Nat.le_of_ble_eq_true rfl, Nat.le_of_ble_eq_true rfl⟩) (fun r y H locs hq hP hS => ?_)
        rw [show r = iI ((qk q ((k + 1) % q.length) : Nat)) from hq]
        refine lv_aload_n hx hb dX2_net_21 rfl (lv_at hl 1 rfl) ?_
        refine va_getN hX.1 hX.2.1 hX.hts in_X7 hX.ow hK (hR _ _ hS) 0 rfl vw_X7 1 (by decide) (va_Nw.use rfl (hz0.1 _ q616 rfl)) (fun _ h => h) rfl dX2_net_22 ?_
        refine W_mon hmf (fun hm9 => ?_)
        refine w_callv (Z := Z) hD hA hS (va_runV (As := [.int (iI ((qk q k : Nat))), .int (iI ((qk q ((k + 1) % q.length) : Nat))), .int (iI (am))]) (rest := []) hX.fix (c_X2_lessen hZ hfl hz _ (sA σ 0 (gA (nsF (σ 0) q am k) 2 (k * am))) (qk q k) (qk q ((k + 1) % q.length)) _ _ ⟨rfl, hqb k (by omega)⟩ ⟨rfl, hqb _ (Nat.mod_lt _ (by omega))⟩ am ham) (cwV 3 hX.hts (lw_V q479 q481 qs4 q81 q482) rfl rfl rfl (by decide +kernel) ⟨Nat.le_of_ble_eq_true rfl, Nat.le_of_ble_eq_true rfl⟩) (mPc_V (w_preV hZ hK hD hA hE hP hS (va_recv hK hP (ci := 1) (q0 := 0) vw_X2 hW_0)) hm9) rfl rfl hl.1 rfl (lv_room (Nat.le_of_ble_eq_true rfl)) dX2_net_25 ⟨Nat.le_of_ble_eq_true rfl, Nat.le_of_ble_eq_true rfl⟩) (fun y H locs hq hP hS => ?_)
        rw [show y = sA σ 0 (gA (nsF (σ 0) q am (k + 1)) 2 (((k + 1 : Nat) : Int) * am)) from hq.trans (sA_sA.trans (congrArg (sA σ 0) (ns_step (by omega))))] at hP
        refine W.eq (g2 := F0 m 28 ls []) rfl ?_
        refine z_iinc (y := ↑(k + 1)) (lv' := [(2, .int (iI (↑(k + 1)))), (0, .ref (a 0)), (1, .ref cy)]) hX dX2_net_28 hl (k := 2) rfl (by omega) (by decide) rfl (fun ls hl => ?_)
        refine lv_goto (tgt := 2) hx hb dX2_net_31 (by decide) ?_
        exact ih2 (k + 1) (by omega) (by omega) _ _ _ hP hS (lv_sub hl [1, 2, 0] rfl)
  rw [show σ = sA σ 0 (gA (nsF (σ 0) q am 0) 2 ((0 : Nat) * am)) by rw [ns_0, sA_self]] at hP
  exact L2 (q.length + 1) (0) (by omega) (by omega) _ _ _ hP hS (lv_sub hl [1, 2, 0] rfl)
