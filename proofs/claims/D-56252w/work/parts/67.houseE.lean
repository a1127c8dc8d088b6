/-! the house's smaller questions -/
set_option maxRecDepth 100000
section
variable {p : Program} {l : Launch} {e : Env} {R : Room} {s : State} {m : MethodId} {args : Array Value} {below : List Frame} {meth : Method} {c : Code} {H : Heap} {locs : List Loc} {cells slots : Nat} {Q : State → Prop}
variable {cc : ByteArray} {pc : Nat} {ls : Array Slot} {rest : List Value} {nL : Nat} {ret : Option FieldType} {own : String}
theorem z_mmin (hX : zX p s m args meth c cc own nL ret) {v u : Int} (hr : rng v ∧ rng u) (hs : nL = ls.size) {index : Nat} (hlink : Cond.methodLink own index { cls := "java/lang/Math", name := "min", desc := "(II)I" } ∈ lw_all) (hf : 1 ≤ R.frames ∧ (rest.map fun v => v.category).sum + 13 ≤ R.locals) (hc : cells ≤ R.cells ∧ slots ≤ R.slots) (hdg : decode cc pc = .ok (.invokestatic index, 3)) (kk : W p l e R s m args below meth c H locs cells slots Q (F0 m (pc + 3) ls (.int (iI (min v u)) :: rest))) : W p l e R s m args below meth c H locs cells slots Q (F0 m pc ls (.int (iI u) :: .int (iI v) :: rest)) := by
  refine va_mmin hX.1 hX.2.1 (by rw [hX.2.2.1, hs]) hX.ow (hX.hts _ hlink) (hX.hts _ q477) (hX.hts _ q98) (hX.hts _ q478) hf.1 hf.2 hc.1 hc.2 hdg ?_
  have h9 : (if iI u < iI v then iI u else iI v) = iI (min v u) := by
    by_cases h : u < v
    · rw [if_pos ((iI_lt hr.2 hr.1).mpr h), Int.min_eq_right (by omega)]
    · rw [if_neg (fun q => h ((iI_lt hr.2 hr.1).mp q)), Int.min_eq_left (by omega)]
  rw [h9]; exact kk
end
theorem eI_last {q : List Nat} (h : 1 ≤ q.length) : eI q (q.length - 1) = 12 + 7 * qk q (q.length - 1) + qk q 0 := by
  unfold eI; rw [show (q.length - 1 + 1) % q.length = 0 from by rw [show q.length - 1 + 1 = q.length from by omega, Nat.mod_self]]
theorem eI_k {q : List Nat} {k : Nat} (h : k + 1 < q.length) : eI q k = 12 + 7 * qk q k + qk q (k + 1) := by
  unfold eI; rw [Nat.mod_eq_of_lt h]
theorem smF_999' {g : Nat → Int} {q : List Nat} : ∀ k, smF g q k ≤ 999 := by
  intro k
  induction k with
  | zero => exact Int.le_refl _
  | succ k ih => show min _ _ ≤ _; omega
set_option maxHeartbeats 4000000 in
theorem c_X2_amountOf {l : Launch} {D : va_G} {Z : zZ} {cA : Nat → ClassId} (hZ : zOk Z) (sz : Nat) {a : Nat → Nat} {q : Nat} (σ χ : zT) (n0 : Nat) (hn : σ 0 0 = n0 ∧ n0 ≤ 7) (B : Int) (hgo : gOk (σ 0) B) (q0 : List Nat) (hq0 : cOk (σ 0) n0 q0) (hag : agr (χ 0) q0) (E1 : Int) (hE1 : E1 = ((q0.length : Nat) : Int)) : Met l yX2_amountOf (ws_ yX2_amountOf cX2_amountOf 5 (some .int)) { frames := 1, cells := 0, slots := 0, locals := 40 } (wPc D vwCl (tyL cA) Z w0 (hW a cA σ ++ pW q cA χ) [.ref (a 0), .ref q, .int (iI E1)] sz zO) (wQi D vwCl w0 (fun r _ => r = iI (smF (σ 0) q0 q0.length)) sz) 0 0 (wA w0 sz) := by
  obtain rfl := hE1
  refine w_met (cc := cX2_amountOf) (maxL := 5) (ret := some .int) (own := RX2) (by decide) rfl rfl w0_ok (Nat.le_of_ble_eq_true rfl) ?_
  intro p e s m below meth c hX hsz hK hP hD hA hE hS hR ls hl
  have hx := hX.1
  have hb := hX.2.1
  have hl : lv_has ls 5 [(0, .ref (a 0)), (1, .ref q), (2, .int (iI (↑(q0.length))))] := hl
  have hRW : ∀ H locs, va_S (wA w0 sz) s.heap H locs → va_P D vwCl (hW a cA σ) H := fun H locs h k z hz => hR H locs h k z (by rw [List.getElem?_append_left (List.getElem?_eq_some_iff.mp hz).1]; exact hz)
  have hRP := hR
  have hl2 := hq0.2.1
  have hl3 := hq0.2.2.1
  have hlp := hq0.1.2.1 (q0.length - 1) (by omega)
  have hfp := hq0.1.2.1 0 (by omega)
  have hdl := hgo.2.2.1 (qk q0 (q0.length - 1)) (qk q0 0) (by omega) (by omega)
  refine lv_aload_n hx hb dX2_amountOf_0 rfl (lv_at hl 0 rfl) ?_
  refine h_get hX hK (hRW _ _ hS) 0 (by decide) q166 rfl dX2_amountOf_1 ?_
  refine lv_aload_n hx hb dX2_amountOf_4 rfl (lv_at hl 1 rfl) ?_
  refine lv_iload_n hx hb dX2_amountOf_5 rfl (lv_at hl 2 rfl) ?_
  refine z_iconst hX dX2_amountOf_6 ?_
  refine z_isub hX dX2_amountOf_7 ?_
  refine w_iald (w := pW q cA) (x := χ) hX hK (fun k z h => hR _ _ hS (11 + k) z (by rw [List.getElem?_append_right (by show 11 ≤ _; omega)]; rw [show 11 + k - (hW a cA σ).length = k from by show 11 + k - 11 = k; omega]; exact h)) 0 0 rfl ty_0 ((q0.length - 1)) (by omega) (by decide) dX2_amountOf_8 ?_
  refine z_top (y := ↑(qk q0 (q0.length - 1))) (hag _ (by omega)) ?_
  refine h_row hX hK (hRW _ _ hS) ((qk q0 (q0.length - 1))) (⟨rfl, by omega⟩) dX2_amountOf_9 ?_
  refine lv_aload_n hx hb dX2_amountOf_10 rfl (lv_at hl 1 rfl) ?_
  refine W.eq (g2 := F0 m 11 ls [.ref q, .ref (a (4 + ((qk q0 (q0.length - 1)))))]) rfl ?_
  refine z_iconst hX dX2_amountOf_11 ?_
  refine w_iald (w := pW q cA) (x := χ) hX hK (fun k z h => hR _ _ hS (11 + k) z (by rw [List.getElem?_append_right (by show 11 ≤ _; omega)]; rw [show 11 + k - (hW a cA σ).length = k from by show 11 + k - 11 = k; omega]; exact h)) 0 0 rfl ty_0 0 (by decide) (by decide) dX2_amountOf_12 ?_
  refine z_top (y := ↑(qk q0 0)) (hag 0 (by omega)) ?_
  refine h_ldd hX hK (hRW _ _ hS) ((qk q0 (q0.length - 1))) ((qk q0 0)) (by omega) (⟨rfl, by omega⟩) dX2_amountOf_13 ?_
  refine z_top (y := min (σ 0 (12 + 7 * (qk q0 (q0.length - 1)) + qk q0 0)) (smF (σ 0) q0 0)) (by show _ = min _ 999; omega) ?_
  refine lv_istore_n (lv' := [(3, .int (iI (min (σ 0 (12 + 7 * (qk q0 (q0.length - 1)) + qk q0 0)) (smF (σ 0) q0 0)))), (0, .ref (a 0)), (1, .ref q), (2, .int (iI (↑(q0.length))))]) hx hb dX2_amountOf_14 rfl hl (by decide) rfl (fun ls hl => ?_)
  refine z_iconst hX dX2_amountOf_15 ?_
  refine z_top (y := ↑(0 + 1)) (rfl) ?_
  refine lv_istore (lv' := [(4, .int (iI (↑(0 + 1)))), (3, .int (iI (min (σ 0 (12 + 7 * (qk q0 (q0.length - 1)) + qk q0 0)) (smF (σ 0) q0 0)))), (0, .ref (a 0)), (1, .ref q), (2, .int (iI (↑(q0.length))))]) hx hb dX2_amountOf_16 hl (by decide) rfl (fun ls hl => ?_)
  have L18 : ∀ (n : Nat) (k : Nat), (q0.length < k + n) → (k + 1 ≤ q0.length) → ∀ (H : Heap) (locs : List Loc) (ls : Array Slot), va_P D vwCl (w0 zO) H → va_S (wA w0 sz) s.heap H locs → lv_has ls 5 [(0, .ref (a 0)), (1, .ref q), (2, .int (iI (↑(q0.length)))), (3, .int (iI (min (σ 0 (12 + 7 * (qk q0 (q0.length - 1)) + qk q0 0)) (smF (σ 0) q0 k)))), (4, .int (iI (↑(k + 1))))] → W p l e (headSpec (ws_ yX2_amountOf cX2_amountOf 5 (some .int)) { frames := 1, cells := 0, slots := 0, locals := 40 }).room s m ([.ref (a 0), .ref q, .int (iI (↑(q0.length)))] : List Value).toArray below meth c H locs 0 0 (MQ below (wQi D vwCl w0 (fun r _ => r = iI (smF (σ 0) q0 q0.length)) sz) ([.ref (a 0), .ref q, .int (iI (↑(q0.length)))] : List Value).toArray s 0 0 (wA w0 sz)) (F0 m 18 ls []) := by
    intro n
    induction n with
    | zero =>
      intro k hf hk H locs ls hP hS hl
      exact absurd hf (by omega)
    | succ n ih18 =>
      intro k hf hk H locs ls hP hS hl
      refine lv_iload hx hb dX2_amountOf_18 (lv_at hl 4 rfl) ?_
      refine lv_iload_n hx hb dX2_amountOf_20 rfl (lv_at hl 2 rfl) ?_
      refine z_icmp_ge (tgt := 51) hX (by omega) dX2_amountOf_21 (by decide) (fun c_21 => ?_) (fun c_21 => ?_)
      · skip
        refine lv_iload_n hx hb dX2_amountOf_51 rfl (lv_at hl 3 rfl) ?_
        refine W.eq (g2 := F0 m 52 ls [.int (iI (min (σ 0 (12 + 7 * (qk q0 (q0.length - 1)) + qk q0 0)) (smF (σ 0) q0 k)))]) rfl ?_
        exact w_iret hX hP hS (by show iI _ = iI _; obtain ⟨m9, hm9⟩ : ∃ m9, q0.length = m9 + 1 := ⟨q0.length - 1, by omega⟩; rw [show k = q0.length - 1 from by omega, show smF (σ 0) q0 q0.length = min (smF (σ 0) q0 (q0.length - 1)) (σ 0 (eI q0 (q0.length - 1))) from by rw [hm9]; rfl, eI_last (by omega), Int.min_comm]) dX2_amountOf_52
      · skip
        have hkp := hq0.1.2.1 k (by omega)
        have hkq := hq0.1.2.1 (k + 1) (by omega)
        have hdk := hgo.2.2.1 (qk q0 k) (qk q0 (k + 1)) (by omega) (by omega)
        have hs9 := smF_999' (g := σ 0) (q := q0) k
        have hs8 := (smF_pos (g := σ 0) (q := q0) k (fun j hj => cOk_edge hq0 (by omega)))
        refine lv_iload_n hx hb dX2_amountOf_24 rfl (lv_at hl 3 rfl) ?_
        refine lv_aload_n hx hb dX2_amountOf_25 rfl (lv_at hl 0 rfl) ?_
        refine h_get hX hK (hRW _ _ hS) 0 (by decide) q166 rfl dX2_amountOf_26 ?_
        refine lv_aload_n hx hb dX2_amountOf_29 rfl (lv_at hl 1 rfl) ?_
        refine lv_iload hx hb dX2_amountOf_30 (lv_at hl 4 rfl) ?_
        refine z_iconst hX dX2_amountOf_32 ?_
        refine z_isub hX dX2_amountOf_33 ?_
        refine w_iald (w := pW q cA) (x := χ) hX hK (fun k z h => hR _ _ hS (11 + k) z (by rw [List.getElem?_append_right (by show 11 ≤ _; omega)]; rw [show 11 + k - (hW a cA σ).length = k from by show 11 + k - 11 = k; omega]; exact h)) 0 0 rfl ty_0 k (by omega) (by decide) dX2_amountOf_34 ?_
        refine z_top (y := ↑(qk q0 k)) (hag k (by omega)) ?_
        refine h_row hX hK (hRW _ _ hS) ((qk q0 k)) (⟨rfl, by omega⟩) dX2_amountOf_35 ?_
        refine W.eq (g2 := F0 m 36 ls [.ref (a (4 + ((qk q0 k)))), .int (iI (min (σ 0 (12 + 7 * (qk q0 (q0.length - 1)) + qk q0 0)) (smF (σ 0) q0 k)))]) rfl ?_
        refine lv_aload_n hx hb dX2_amountOf_36 rfl (lv_at hl 1 rfl) ?_
        refine lv_iload hx hb dX2_amountOf_37 (lv_at hl 4 rfl) ?_
        refine w_iald (w := pW q cA) (x := χ) hX hK (fun k z h => hR _ _ hS (11 + k) z (by rw [List.getElem?_append_right (by show 11 ≤ _; omega)]; rw [show 11 + k - (hW a cA σ).length = k from by show 11 + k - 11 = k; omega]; exact h)) 0 0 rfl ty_0 ((k + 1)) (⟨rfl, by omega⟩) (by decide) dX2_amountOf_39 ?_
        refine z_top (y := ↑(qk q0 (k + 1))) (hag (k + 1) (by omega)) ?_
        refine h_ldd hX hK (hRW _ _ hS) ((qk q0 k)) ((qk q0 (k + 1))) (by omega) (⟨rfl, by omega⟩) dX2_amountOf_40 ?_
        refine z_mmin hX ⟨by unfold rng; omega, by unfold rng; omega⟩ hl.1.symm q476 ⟨Nat.le_of_ble_eq_true rfl, Nat.le_of_ble_eq_true rfl⟩ ⟨Nat.le_of_ble_eq_true rfl, Nat.le_of_ble_eq_true rfl⟩ dX2_amountOf_41 ?_
        refine z_top (y := min (σ 0 (12 + 7 * (qk q0 (q0.length - 1)) + qk q0 0)) (smF (σ 0) q0 (k + 1))) (by show min (min _ _) _ = min _ (min _ (σ 0 (eI q0 k))); rw [eI_k (by omega)]; omega) ?_
        refine lv_istore_n (lv' := [(3, .int (iI (min (σ 0 (12 + 7 * (qk q0 (q0.length - 1)) + qk q0 0)) (smF (σ 0) q0 (k + 1))))), (0, .ref (a 0)), (1, .ref q), (2, .int (iI (↑(q0.length)))), (4, .int (iI (↑(k + 1))))]) hx hb dX2_amountOf_44 rfl hl (by decide) rfl (fun ls hl => ?_)
        refine z_iinc (y := ↑(k + 1 + 1)) (lv' := [(4, .int (iI (↑(k + 1 + 1)))), (3, .int (iI (min (σ 0 (12 + 7 * (qk q0 (q0.length - 1)) + qk q0 0)) (smF (σ 0) q0 (k + 1))))), (0, .ref (a 0)), (1, .ref q), (2, .int (iI (↑(q0.length))))]) hX dX2_amountOf_45 hl (k := 4) rfl (by omega) (by decide) rfl (fun ls hl => ?_)
        refine lv_goto (tgt := 18) hx hb dX2_amountOf_48 (by decide) ?_
        exact ih18 (k + 1) (by omega) (by omega) _ _ _ hP hS (lv_sub hl [2, 3, 4, 1, 0] rfl)
  exact L18 (q0.length + 1) (0) (by omega) (by omega) _ _ _ hP hS (lv_sub hl [2, 3, 4, 1, 0] rfl)
