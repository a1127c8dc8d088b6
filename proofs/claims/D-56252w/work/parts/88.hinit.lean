/-! houses are made -/
set_option maxRecDepth 100000
def hAd (h q cs ac : Nat) : Nat → Nat := fun j => if j = 0 then h else if j = 1 then q else if j = 2 then cs else if j = 3 then ac else q + (j - 3)
theorem hrow_0 {cA : Nat → ClassId} {i : Nat} : hrow cA (fun _ _ => 0) i = (cA 0, 7, .inl (fun _ => iI 0)) := by
  unfold hrow
  congr 3
  funext k
  split <;> rfl
theorem hcsh_0 {cA : Nat → ClassId} : hcsh cA (fun _ _ => 0) = (cA 0, 7, .inl (fun _ => iI 0)) := by
  unfold hcsh
  congr 3
  funext k
  split <;> rfl
theorem hW_new {h q cs ac : Nat} {cA : Nat → ClassId} : hW (hAd h q cs ac) cA (fun _ _ => 0) = [enO h 1 [.ref q, .ref cs, .ref ac, .int (iI 0), .int (iI 0), .int (iI 0)], (q, .inl (cA 3, 7, .inr (.inr (.inr (.inr (fun k => some (q + 1 + k))))))), enI cA cs 7 (fun _ => 0), enO ac 2 [.int (iI 0), .int (iI 0), .long (lI 0), .int (iI 0), .int (iI 0)], enI cA (q + 1) 7 (fun _ => 0), enI cA (q + 2) 7 (fun _ => 0), enI cA (q + 3) 7 (fun _ => 0), enI cA (q + 4) 7 (fun _ => 0), enI cA (q + 5) 7 (fun _ => 0), enI cA (q + 6) 7 (fun _ => 0), enI cA (q + 7) 7 (fun _ => 0)] := by
  unfold hW
  rw [hrow_0, hrow_0, hrow_0, hrow_0, hrow_0, hrow_0, hrow_0, hcsh_0]
  have e : (fun k => some (hAd h q cs ac (4 + k))) = fun k => some (q + 1 + k) := by
    funext k
    unfold hAd
    rw [if_neg (by omega), if_neg (by omega), if_neg (by omega), if_neg (by omega)]
    congr 1
    omega
  rw [e]
  rfl
theorem mF3_hW {a : Nat → Nat} {cA : Nat → ClassId} {x : zT} {H : Heap} (h : mFr (a 3) H) : mF3 (hW a cA x) H := fun q hq => by
  have h3 : (hW a cA x)[3]? = some (a 3, .inr (2, hAc x)) := rfl
  cases hq.symm.trans h3
  exact h
theorem wD_all {A : Nat → Prop} {w : zT → va_W} (hwk : wOk w) {x : zT} (h : va_D A (w x)) : ∀ y, va_D A (w y) := by
  intro y
  have key : ∀ (k : Nat) (q : Nat × va_E), (w y)[k]? = some q → ∃ q2, (w x)[k]? = some q2 ∧ q2.1 = q.1 := by
    intro k q hk
    have h1 := congrArg (fun l => l[k]?) (hwk x y)
    simp only [List.getElem?_map, hk, Option.map_some] at h1
    cases h2 : (w x)[k]? with
    | none => rw [h2] at h1; cases h1
    | some q2 =>
      rw [h2] at h1
      exact ⟨q2, rfl, Option.some.inj h1⟩
  refine ⟨fun i j p q hi hj e => ?_, fun k q hk => ?_⟩
  · obtain ⟨p2, h1, h2⟩ := key i p hi
    obtain ⟨q2, h3, h4⟩ := key j q hj
    exact h.1 i j p2 q2 h1 h3 (by rw [h2, h4]; exact e)
  · obtain ⟨q2, h1, h2⟩ := key k q hk
    exact h2 ▸ h.2 k q2 h1
/-- copied so far: cash of c parties, d debts -/
def cpH (g : Nat → Int) (c d : Nat) : Nat → Int := fun k => if (5 ≤ k ∧ k < 5 + c) ∨ (12 ≤ k ∧ k < 12 + d) then g k else 0
theorem cpH_0 {g : Nat → Int} : cpH g 0 (7 * 0) = fun _ => 0 := by
  funext k
  exact if_neg (by omega)
theorem cpH_c {g : Nat → Int} {i d : Nat} (hi : i < 7) : gU (cpH g i d) (5 + i) (g (5 + i)) = cpH g (i + 1) d := by
  funext k
  unfold gU cpH
  by_cases e : k = 5 + i
  · rw [if_pos e, if_pos (by omega), e]
  · rw [if_neg e]
    by_cases h : (5 ≤ k ∧ k < 5 + i) ∨ (12 ≤ k ∧ k < 12 + d)
    · rw [if_pos h, if_pos (by omega)]
    · rw [if_neg h, if_neg (by omega)]
theorem cpH_d {g : Nat → Int} {c i j : Nat} (hc : c ≤ 7) : gU (cpH g c (7 * i + j)) (12 + 7 * i + j) (g (12 + 7 * i + j)) = cpH g c (7 * i + (j + 1)) := by
  funext k
  unfold gU cpH
  by_cases e : k = 12 + 7 * i + j
  · rw [if_pos e, if_pos (by omega), e]
  · rw [if_neg e]
    by_cases h : (5 ≤ k ∧ k < 5 + c) ∨ (12 ≤ k ∧ k < 12 + (7 * i + j))
    · rw [if_pos h, if_pos (by omega)]
    · rw [if_neg h, if_neg (by omega)]
/-- a house's world looks at its row alone -/
theorem hW_ext {a : Nat → Nat} {cA : Nat → ClassId} {x y : zT} (h0 : ∀ k, k < 61 → x 0 k = y 0 k) (h1 : ∀ k, k < 3 → x 1 k = y 1 k) : hW a cA x = hW a cA y := by
  have hr : ∀ i, i < 7 → hrow cA x i = hrow cA y i := fun i hi => by
    unfold hrow
    congr 3
    funext k
    by_cases hk : k < 7
    · rw [if_pos hk, if_pos hk, h0 _ (by omega)]
    · rw [if_neg hk, if_neg hk]
  have hc : hcsh cA x = hcsh cA y := by
    unfold hcsh
    congr 3
    funext k
    by_cases hk : k < 7
    · rw [if_pos hk, if_pos hk, h0 _ (by omega)]
    · rw [if_neg hk, if_neg hk]
  have hf : hF a x = hF a y := by unfold hF; rw [h0 0 (by decide), h0 4 (by decide), h0 1 (by decide)]
  have ha : hAc x = hAc y := by unfold hAc; rw [h1 0 (by decide), h1 1 (by decide), h0 2 (by decide), h1 2 (by decide), h0 3 (by decide)]
  unfold hW
  rw [hr 0 (by decide), hr 1 (by decide), hr 2 (by decide), hr 3 (by decide), hr 4 (by decide), hr 5 (by decide), hr 6 (by decide), hc, hf, ha]
theorem cp_end {a : Nat → Nat} {cA : Nat → ClassId} {σ : zT} : hW a cA (uA (uA (uA (takeX (sA zO 0 (cpH (σ 0) 7 (7 * 7))) σ) 0 0 (σ 0 0)) 0 4 (σ 0 4)) 0 1 (σ 0 1)) = hW a cA σ := by
  refine hW_ext (fun k hk => ?_) (fun k hk => ?_)
  · obtain h | h : k < 5 ∨ 5 ≤ k := by omega
    · obtain rfl | rfl | rfl | rfl | rfl : k = 0 ∨ k = 1 ∨ k = 2 ∨ k = 3 ∨ k = 4 := by omega
      all_goals rfl
    · rw [uA_nk (by omega), uA_nk (by omega), uA_nk (by omega)]
      unfold takeX
      rw [uA_nk (by omega), uA_nj (by decide), uA_nk (by omega), uA_nj (by decide), uA_nj (by decide), sA_j]
      exact if_pos (by omega)
  · obtain rfl | rfl | rfl : k = 0 ∨ k = 1 ∨ k = 2 := by omega
    all_goals rfl
set_option maxHeartbeats 4000000 in
theorem c_X3_init {l : Launch} {D : va_G} {Z : zZ} {cA : Nat → ClassId} (hZ : zOk Z) (hfl : l.stackTraces = false) (hz : ∀ A U H, Z A U H → zT9 A U H) (sz : Nat) {ac : Nat} : Met l yX3_init (ws_ yX3_init cX3_init 1 (none)) { frames := 1, cells := 0, slots := 0, locals := 20 } (wPc D vwCl (tyL cA) Z (wL [enO ac 2 [.int (iI (0)), .int (iI (0)), .long (lI 0), .int (iI (0)), .int (iI (0))]]) [] [.ref ac] sz zO) (nQv D (fun ws => ws = [enO ac 2 [.int (iI 0), .int (iI 0), .long (lI 0), .int (iI 0), .int (iI 0)]] ∧ va_D (wA (wL [enO ac 2 [.int (iI (0)), .int (iI (0)), .long (lI 0), .int (iI (0)), .int (iI (0))]]) sz) ws) (wA (wL [enO ac 2 [.int (iI (0)), .int (iI (0)), .long (lI 0), .int (iI (0)), .int (iI (0))]]) sz)) 0 0 (wA (wL [enO ac 2 [.int (iI (0)), .int (iI (0)), .long (lI 0), .int (iI (0)), .int (iI (0))]]) sz) := by
  refine l_met (cc := cX3_init) (maxL := 1) (ret := none) (own := RX3) (by decide) rfl rfl (Nat.le_of_ble_eq_true rfl) ?_
  intro p e s m below meth c hX hnm hsz hK hP hD hA hE hS hR hN ls hl
  have hx := hX.1
  have hb := hX.2.1
  have hz0 := hz _ _ _ hE
  have hl : lv_has ls 1 [(0, .ref ac)] := hl
  refine lv_aload_n hx hb dX3_init_0 rfl (lv_at hl 0 rfl) ?_
  refine W.objInit hx hb hX.ow (hX.hts _ q146) (hX.hts _ q131) (hX.hts _ q132) rfl (by rw [hX.2.2.1]; exact hl.1) rfl dX3_init_1 (Nat.le_of_ble_eq_true rfl) (Nat.le_of_ble_eq_true rfl) ?_
  exact n_vret hX hP hS (⟨rfl, hD⟩) dX3_init_4
set_option maxHeartbeats 4000000 in
theorem c_X2_init {l : Launch} {D : va_G} {Z : zZ} {cA : Nat → ClassId} (hZ : zOk Z) (hfl : l.stackTraces = false) (hz : ∀ A U H, Z A U H → zT9 A U H) (sz : Nat) {ho : Nat} : Met l yX2_init (ws_ yX2_init cX2_init 1 (none)) { frames := 2, cells := 10, slots := 68, locals := 40 } (wPc D vwCl (tyL cA) Z (wL [enO ho 1 [.null, .null, .null, .int (iI (0)), .int (iI (0)), .int (iI (0))]]) [] [.ref ho] sz zO) (nQvM D (fun ws => ∃ a, a 0 = ho ∧ ws = hW a cA (fun _ _ => 0) ∧ va_D (wA (wL [enO ho 1 [.null, .null, .null, .int (iI (0)), .int (iI (0)), .int (iI (0))]]) sz) ws) (wA (wL [enO ho 1 [.null, .null, .null, .int (iI (0)), .int (iI (0)), .int (iI (0))]]) sz)) 10 68 (wA (wL [enO ho 1 [.null, .null, .null, .int (iI (0)), .int (iI (0)), .int (iI (0))]]) sz) := by
  refine l_met (cc := cX2_init) (maxL := 1) (ret := none) (own := RX2) (by decide) rfl rfl (Nat.le_of_ble_eq_true rfl) ?_
  intro p e s m below meth c hX hnm hsz hK hP hD hA hE hS hR hN ls hl
  have hx := hX.1
  have hb := hX.2.1
  have hz0 := hz _ _ _ hE
  have hl : lv_has ls 1 [(0, .ref ho)] := hl
  refine lv_aload_n hx hb dX2_init_0 rfl (lv_at hl 0 rfl) ?_
  refine W.objInit hx hb hX.ow (hX.hts _ q138) (hX.hts _ q131) (hX.hts _ q132) rfl (by rw [hX.2.2.1]; exact hl.1) rfl dX2_init_1 (Nat.le_of_ble_eq_true rfl) (Nat.le_of_ble_eq_true rfl) ?_
  refine lv_aload_n hx hb dX2_init_4 rfl (lv_at hl 0 rfl) ?_
  refine z_bipush hX dX2_init_5 (by decide) ?_
  refine z_bipush hX dX2_init_7 (by decide) ?_
  refine z_multi hX hz0.2.2 hK hP hD hS hA q139 dX2_init_9 (Nat.le_of_ble_eq_true rfl) (Nat.le_of_ble_eq_true rfl) (fun qd H hP hD hS => ?_)
  have hP : va_P D vwCl [enO ho 1 [.null, .null, .null, .int (iI (0)), .int (iI (0)), .int (iI (0))], (qd, .inl (cA 3, 7, .inr (.inr (.inr (.inr (fun k => some (qd + 1 + k))))))), enI cA (qd + 1) 7 (fun _ => 0), enI cA (qd + 2) 7 (fun _ => 0), enI cA (qd + 3) 7 (fun _ => 0), enI cA (qd + 4) 7 (fun _ => 0), enI cA (qd + 5) 7 (fun _ => 0), enI cA (qd + 6) 7 (fun _ => 0), enI cA (qd + 7) 7 (fun _ => 0)] H := hP
  have hD : va_D _ [enO ho 1 [.null, .null, .null, .int (iI (0)), .int (iI (0)), .int (iI (0))], (qd, .inl (cA 3, 7, .inr (.inr (.inr (.inr (fun k => some (qd + 1 + k))))))), enI cA (qd + 1) 7 (fun _ => 0), enI cA (qd + 2) 7 (fun _ => 0), enI cA (qd + 3) 7 (fun _ => 0), enI cA (qd + 4) 7 (fun _ => 0), enI cA (qd + 5) 7 (fun _ => 0), enI cA (qd + 6) 7 (fun _ => 0), enI cA (qd + 7) 7 (fun _ => 0)] := hD
  refine va_putF (C := RX2) (T := TX2) (N := 6) (ci := 1) (v := .ref qd) (ty := tyX2 0) hx hb hX.hts in_X2 tyX2 tyX2_ok nmX2 hX.ow hK hP hD hS 0 rfl vw_X2 0 (by decide) (hX.hts _ q166) (fun _ h9 => h9) rfl hnm rfl (by decide +kernel) rfl rfl (Nat.le_of_ble_eq_true rfl) dX2_init_13 (fun H locs hP hD hS => ?_)
  have hP : va_P D vwCl [enO ho 1 [.ref qd, .null, .null, .int (iI (0)), .int (iI (0)), .int (iI (0))], (qd, .inl (cA 3, 7, .inr (.inr (.inr (.inr (fun k => some (qd + 1 + k))))))), enI cA (qd + 1) 7 (fun _ => 0), enI cA (qd + 2) 7 (fun _ => 0), enI cA (qd + 3) 7 (fun _ => 0), enI cA (qd + 4) 7 (fun _ => 0), enI cA (qd + 5) 7 (fun _ => 0), enI cA (qd + 6) 7 (fun _ => 0), enI cA (qd + 7) 7 (fun _ => 0)] H := hP
  have hD : va_D _ [enO ho 1 [.ref qd, .null, .null, .int (iI (0)), .int (iI (0)), .int (iI (0))], (qd, .inl (cA 3, 7, .inr (.inr (.inr (.inr (fun k => some (qd + 1 + k))))))), enI cA (qd + 1) 7 (fun _ => 0), enI cA (qd + 2) 7 (fun _ => 0), enI cA (qd + 3) 7 (fun _ => 0), enI cA (qd + 4) 7 (fun _ => 0), enI cA (qd + 5) 7 (fun _ => 0), enI cA (qd + 6) 7 (fun _ => 0), enI cA (qd + 7) 7 (fun _ => 0)] := hD
  refine lv_aload_n hx hb dX2_init_16 rfl (lv_at hl 0 rfl) ?_
  refine z_bipush hX dX2_init_17 (by decide) ?_
  refine W.eq (g2 := F0 m 19 ls [.int (iI (7)), .ref ho]) rfl ?_
  refine z_newa hX hK hP hD hS hA .int 0 (ty := .int) rfl (q165) rfl (7, .inl (fun _ => iI 0)) 7 (fun _ => rfl) (rfl) (Nat.le_of_ble_eq_true rfl) (Nat.le_of_ble_eq_true rfl) (Nat.le_of_ble_eq_true rfl) (Nat.le_of_ble_eq_true rfl) dX2_init_19 (fun cs H hP hD hS => ?_)
  have hP : va_P D vwCl [enO ho 1 [.ref qd, .null, .null, .int (iI (0)), .int (iI (0)), .int (iI (0))], (qd, .inl (cA 3, 7, .inr (.inr (.inr (.inr (fun k => some (qd + 1 + k))))))), enI cA (qd + 1) 7 (fun _ => 0), enI cA (qd + 2) 7 (fun _ => 0), enI cA (qd + 3) 7 (fun _ => 0), enI cA (qd + 4) 7 (fun _ => 0), enI cA (qd + 5) 7 (fun _ => 0), enI cA (qd + 6) 7 (fun _ => 0), enI cA (qd + 7) 7 (fun _ => 0), enI cA cs 7 (fun _ => 0)] H := hP
  have hD : va_D _ [enO ho 1 [.ref qd, .null, .null, .int (iI (0)), .int (iI (0)), .int (iI (0))], (qd, .inl (cA 3, 7, .inr (.inr (.inr (.inr (fun k => some (qd + 1 + k))))))), enI cA (qd + 1) 7 (fun _ => 0), enI cA (qd + 2) 7 (fun _ => 0), enI cA (qd + 3) 7 (fun _ => 0), enI cA (qd + 4) 7 (fun _ => 0), enI cA (qd + 5) 7 (fun _ => 0), enI cA (qd + 6) 7 (fun _ => 0), enI cA (qd + 7) 7 (fun _ => 0), enI cA cs 7 (fun _ => 0)] := hD
  refine va_putF (C := RX2) (T := TX2) (N := 6) (ci := 1) (v := .ref cs) (ty := tyX2 1) hx hb hX.hts in_X2 tyX2 tyX2_ok nmX2 hX.ow hK hP hD hS 0 rfl vw_X2 1 (by decide) (hX.hts _ q168) (fun _ h9 => h9) rfl hnm rfl (by decide +kernel) rfl rfl (Nat.le_of_ble_eq_true rfl) dX2_init_21 (fun H locs hP hD hS => ?_)
  have hP : va_P D vwCl [enO ho 1 [.ref qd, .ref cs, .null, .int (iI (0)), .int (iI (0)), .int (iI (0))], (qd, .inl (cA 3, 7, .inr (.inr (.inr (.inr (fun k => some (qd + 1 + k))))))), enI cA (qd + 1) 7 (fun _ => 0), enI cA (qd + 2) 7 (fun _ => 0), enI cA (qd + 3) 7 (fun _ => 0), enI cA (qd + 4) 7 (fun _ => 0), enI cA (qd + 5) 7 (fun _ => 0), enI cA (qd + 6) 7 (fun _ => 0), enI cA (qd + 7) 7 (fun _ => 0), enI cA cs 7 (fun _ => 0)] H := hP
  have hD : va_D _ [enO ho 1 [.ref qd, .ref cs, .null, .int (iI (0)), .int (iI (0)), .int (iI (0))], (qd, .inl (cA 3, 7, .inr (.inr (.inr (.inr (fun k => some (qd + 1 + k))))))), enI cA (qd + 1) 7 (fun _ => 0), enI cA (qd + 2) 7 (fun _ => 0), enI cA (qd + 3) 7 (fun _ => 0), enI cA (qd + 4) 7 (fun _ => 0), enI cA (qd + 5) 7 (fun _ => 0), enI cA (qd + 6) 7 (fun _ => 0), enI cA (qd + 7) 7 (fun _ => 0), enI cA cs 7 (fun _ => 0)] := hD
  refine lv_aload_n hx hb dX2_init_24 rfl (lv_at hl 0 rfl) ?_
  refine z_newM (C := RX3) (T := TX3) (N := 5) (ci := 2) (fs := [.int (iI (0)), .int (iI (0)), .long (lI 0), .int (iI (0)), .int (iI (0))]) hX in_X3 tyX3 tyX3_ok q141 q142 q82 hK hP hD hS hA vw_X3 (by decide) (Nat.le_of_ble_eq_true rfl) (Nat.le_of_ble_eq_true rfl) dX2_init_25 (fun ac H hP hD hS hmf0 => ?_)
  have hP : va_P D vwCl [enO ho 1 [.ref qd, .ref cs, .null, .int (iI (0)), .int (iI (0)), .int (iI (0))], (qd, .inl (cA 3, 7, .inr (.inr (.inr (.inr (fun k => some (qd + 1 + k))))))), enI cA (qd + 1) 7 (fun _ => 0), enI cA (qd + 2) 7 (fun _ => 0), enI cA (qd + 3) 7 (fun _ => 0), enI cA (qd + 4) 7 (fun _ => 0), enI cA (qd + 5) 7 (fun _ => 0), enI cA (qd + 6) 7 (fun _ => 0), enI cA (qd + 7) 7 (fun _ => 0), enI cA cs 7 (fun _ => 0), enO ac 2 [.int (iI (0)), .int (iI (0)), .long (lI 0), .int (iI (0)), .int (iI (0))]] H := hP
  have hD : va_D _ [enO ho 1 [.ref qd, .ref cs, .null, .int (iI (0)), .int (iI (0)), .int (iI (0))], (qd, .inl (cA 3, 7, .inr (.inr (.inr (.inr (fun k => some (qd + 1 + k))))))), enI cA (qd + 1) 7 (fun _ => 0), enI cA (qd + 2) 7 (fun _ => 0), enI cA (qd + 3) 7 (fun _ => 0), enI cA (qd + 4) 7 (fun _ => 0), enI cA (qd + 5) 7 (fun _ => 0), enI cA (qd + 6) 7 (fun _ => 0), enI cA (qd + 7) 7 (fun _ => 0), enI cA cs 7 (fun _ => 0), enO ac 2 [.int (iI (0)), .int (iI (0)), .long (lI 0), .int (iI (0)), .int (iI (0))]] := hD
  refine lv_dup hx hb dX2_init_28 rfl ?_
  refine W_reb (mc1 := 0) (ms1 := 0) ⟨Nat.le_of_ble_eq_true rfl, Nat.le_of_ble_eq_true rfl⟩ ⟨Nat.le_of_ble_eq_true rfl, Nat.le_of_ble_eq_true rfl⟩ hS.2.2 (fun s9 o t hh hq => ⟨hq.1, va_F_tr hS hh hq.2⟩) (fun s9 hh hvm => ?_)
  have hX := zX_reb hX hvm
  have hx := hX.1
  have hb := hX.2.1
  have hK : va_K D vwCl (tyL cA) s9 := va_K.moved (by rw [hvm]; exact Vm.Alike.refl _) hK
  have hE : Z (wA (wL [enO ho 1 [.null, .null, .null, .int (iI (0)), .int (iI (0)), .int (iI (0))]]) sz) s9 s9.heap := by rw [hh]; exact hZ.1 _ _ _ _ hvm (hZ.2.2.1 _ _ _ _ hE hS.2.1)
  have hz0 := hz _ _ _ hE
  have hA : ∀ q, s9.heap.size ≤ q → (wA (wL [enO ho 1 [.null, .null, .null, .int (iI (0)), .int (iI (0)), .int (iI (0))]]) sz) q := fun q h => hA q (by rw [hh] at h; have := hS.1; omega)
  have hR : ∀ H1 L1, va_S (wA (wL [enO ho 1 [.null, .null, .null, .int (iI (0)), .int (iI (0)), .int (iI (0))]]) sz) s9.heap H1 L1 → va_P D vwCl [] H1 := fun H1 L1 h => hR H1 L1 (va_S_tr hS hh h)
  have hmf : mFr ac s9.heap := by rw [hh]; exact hmf0
  have hS : va_S (wA (wL [enO ho 1 [.null, .null, .null, .int (iI (0)), .int (iI (0)), .int (iI (0))]]) sz) s9.heap H [] := by rw [hh]; exact va_S.rf
  have hP : va_P D vwCl [enO ac 2 [.int (iI (0)), .int (iI (0)), .long (lI 0), .int (iI (0)), .int (iI (0))], enO ho 1 [.ref qd, .ref cs, .null, .int (iI (0)), .int (iI (0)), .int (iI (0))], (qd, .inl (cA 3, 7, .inr (.inr (.inr (.inr (fun k => some (qd + 1 + k))))))), enI cA (qd + 1) 7 (fun _ => 0), enI cA (qd + 2) 7 (fun _ => 0), enI cA (qd + 3) 7 (fun _ => 0), enI cA (qd + 4) 7 (fun _ => 0), enI cA (qd + 5) 7 (fun _ => 0), enI cA (qd + 6) 7 (fun _ => 0), enI cA (qd + 7) 7 (fun _ => 0), enI cA cs 7 (fun _ => 0)] H := hP.sub [10, 0, 1, 2, 3, 4, 5, 6, 7, 8, 9] rfl
  have hD : va_D _ [enO ac 2 [.int (iI (0)), .int (iI (0)), .long (lI 0), .int (iI (0)), .int (iI (0))], enO ho 1 [.ref qd, .ref cs, .null, .int (iI (0)), .int (iI (0)), .int (iI (0))], (qd, .inl (cA 3, 7, .inr (.inr (.inr (.inr (fun k => some (qd + 1 + k))))))), enI cA (qd + 1) 7 (fun _ => 0), enI cA (qd + 2) 7 (fun _ => 0), enI cA (qd + 3) 7 (fun _ => 0), enI cA (qd + 4) 7 (fun _ => 0), enI cA (qd + 5) 7 (fun _ => 0), enI cA (qd + 6) 7 (fun _ => 0), enI cA (qd + 7) 7 (fun _ => 0), enI cA cs 7 (fun _ => 0)] := hD.sub [10, 0, 1, 2, 3, 4, 5, 6, 7, 8, 9] rfl rfl
  have hP9 : va_P D vwCl ([enO ac 2 [.int (iI (0)), .int (iI (0)), .long (lI 0), .int (iI (0)), .int (iI (0))]] ++ [enO ho 1 [.ref qd, .ref cs, .null, .int (iI (0)), .int (iI (0)), .int (iI (0))], (qd, .inl (cA 3, 7, .inr (.inr (.inr (.inr (fun k => some (qd + 1 + k))))))), enI cA (qd + 1) 7 (fun _ => 0), enI cA (qd + 2) 7 (fun _ => 0), enI cA (qd + 3) 7 (fun _ => 0), enI cA (qd + 4) 7 (fun _ => 0), enI cA (qd + 5) 7 (fun _ => 0), enI cA (qd + 6) 7 (fun _ => 0), enI cA (qd + 7) 7 (fun _ => 0), enI cA cs 7 (fun _ => 0)]) H := hP
  have hD9 : va_D _ ([enO ac 2 [.int (iI (0)), .int (iI (0)), .long (lI 0), .int (iI (0)), .int (iI (0))]] ++ [enO ho 1 [.ref qd, .ref cs, .null, .int (iI (0)), .int (iI (0)), .int (iI (0))], (qd, .inl (cA 3, 7, .inr (.inr (.inr (.inr (fun k => some (qd + 1 + k))))))), enI cA (qd + 1) 7 (fun _ => 0), enI cA (qd + 2) 7 (fun _ => 0), enI cA (qd + 3) 7 (fun _ => 0), enI cA (qd + 4) 7 (fun _ => 0), enI cA (qd + 5) 7 (fun _ => 0), enI cA (qd + 6) 7 (fun _ => 0), enI cA (qd + 7) 7 (fun _ => 0), enI cA cs 7 (fun _ => 0)]) := hD
  refine l_callv hP9 hD9 hA hS (va_runIN (As := []) (rest := [.ref ac, .ref ho]) hX.fix (c_X3_init hZ hfl hz _ ) ⟨va_cnB 0 hX.hts (lw_meth q145) rfl rfl rfl (hz0.1 _ q143 rfl) (hX.hts _ q82) (by decide +kernel) ⟨Nat.le_of_ble_eq_true rfl, Nat.le_of_ble_eq_true rfl⟩, rfl, hX.hts _ q144⟩ (l_preS hZ hK (D_l hD9) hA hE (P_l hP9) (fun k q h => by cases h) (fun k q h => by cases h) hS) rfl rfl hl.1 rfl (lv_room (Nat.le_of_ble_eq_true rfl)) dX2_init_29 ⟨Nat.le_of_ble_eq_true rfl, Nat.le_of_ble_eq_true rfl⟩) (fun w1 h => h.2) (fun w1 H locs hq hP hD hS => ?_)
  obtain ⟨rfl, -⟩ := hq
  have hP : va_P D vwCl [enO ac 2 [.int (iI (0)), .int (iI (0)), .long (lI 0), .int (iI (0)), .int (iI (0))], enO ho 1 [.ref qd, .ref cs, .null, .int (iI (0)), .int (iI (0)), .int (iI (0))], (qd, .inl (cA 3, 7, .inr (.inr (.inr (.inr (fun k => some (qd + 1 + k))))))), enI cA (qd + 1) 7 (fun _ => 0), enI cA (qd + 2) 7 (fun _ => 0), enI cA (qd + 3) 7 (fun _ => 0), enI cA (qd + 4) 7 (fun _ => 0), enI cA (qd + 5) 7 (fun _ => 0), enI cA (qd + 6) 7 (fun _ => 0), enI cA (qd + 7) 7 (fun _ => 0), enI cA cs 7 (fun _ => 0)] H := hP
  have hD : va_D _ [enO ac 2 [.int (iI (0)), .int (iI (0)), .long (lI 0), .int (iI (0)), .int (iI (0))], enO ho 1 [.ref qd, .ref cs, .null, .int (iI (0)), .int (iI (0)), .int (iI (0))], (qd, .inl (cA 3, 7, .inr (.inr (.inr (.inr (fun k => some (qd + 1 + k))))))), enI cA (qd + 1) 7 (fun _ => 0), enI cA (qd + 2) 7 (fun _ => 0), enI cA (qd + 3) 7 (fun _ => 0), enI cA (qd + 4) 7 (fun _ => 0), enI cA (qd + 5) 7 (fun _ => 0), enI cA (qd + 6) 7 (fun _ => 0), enI cA (qd + 7) 7 (fun _ => 0), enI cA cs 7 (fun _ => 0)] := hD
  refine va_putF (C := RX2) (T := TX2) (N := 6) (ci := 1) (v := .ref ac) (ty := tyX2 2) hx hb hX.hts in_X2 tyX2 tyX2_ok nmX2 hX.ow hK hP hD hS 1 rfl vw_X2 2 (by decide) (hX.hts _ q170) (fun _ h9 => h9) rfl hnm rfl (by decide +kernel) rfl rfl (Nat.le_of_ble_eq_true rfl) dX2_init_32 (fun H locs hP hD hS => ?_)
  have hP : va_P D vwCl [enO ac 2 [.int (iI (0)), .int (iI (0)), .long (lI 0), .int (iI (0)), .int (iI (0))], enO ho 1 [.ref qd, .ref cs, .ref ac, .int (iI (0)), .int (iI (0)), .int (iI (0))], (qd, .inl (cA 3, 7, .inr (.inr (.inr (.inr (fun k => some (qd + 1 + k))))))), enI cA (qd + 1) 7 (fun _ => 0), enI cA (qd + 2) 7 (fun _ => 0), enI cA (qd + 3) 7 (fun _ => 0), enI cA (qd + 4) 7 (fun _ => 0), enI cA (qd + 5) 7 (fun _ => 0), enI cA (qd + 6) 7 (fun _ => 0), enI cA (qd + 7) 7 (fun _ => 0), enI cA cs 7 (fun _ => 0)] H := hP
  have hD : va_D _ [enO ac 2 [.int (iI (0)), .int (iI (0)), .long (lI 0), .int (iI (0)), .int (iI (0))], enO ho 1 [.ref qd, .ref cs, .ref ac, .int (iI (0)), .int (iI (0)), .int (iI (0))], (qd, .inl (cA 3, 7, .inr (.inr (.inr (.inr (fun k => some (qd + 1 + k))))))), enI cA (qd + 1) 7 (fun _ => 0), enI cA (qd + 2) 7 (fun _ => 0), enI cA (qd + 3) 7 (fun _ => 0), enI cA (qd + 4) 7 (fun _ => 0), enI cA (qd + 5) 7 (fun _ => 0), enI cA (qd + 6) 7 (fun _ => 0), enI cA (qd + 7) 7 (fun _ => 0), enI cA cs 7 (fun _ => 0)] := hD
  have hP : va_P D vwCl (hW (hAd ho qd cs ac) cA (fun _ _ => 0)) H := by rw [hW_new]; exact hP.sub [1, 2, 10, 0, 3, 4, 5, 6, 7, 8, 9] rfl
  have hD : va_D (wA (wL [enO ho 1 [.null, .null, .null, .int (iI (0)), .int (iI (0)), .int (iI (0))]]) sz) (hW (hAd ho qd cs ac) cA (fun _ _ => 0)) := by rw [hW_new]; exact hD.sub [1, 2, 10, 0, 3, 4, 5, 6, 7, 8, 9] rfl rfl
  refine W_mon hmf (fun hm9 => ?_)
  exact n_vretM hX hP (mF3_hW hm9) hS (⟨_, rfl, rfl, hD⟩) dX2_init_35
set_option maxHeartbeats 4000000 in
theorem c_X2_init_2 {l : Launch} {D : va_G} {Z : zZ} {cA : Nat → ClassId} (hZ : zOk Z) (hfl : l.stackTraces = false) (hz : ∀ A U H, Z A U H → zT9 A U H) (sz : Nat) {ho : Nat} {b : Nat → Nat} (σ : zT) : Met l yX2_init_2 (ws_ yX2_init_2 cX2_init_2 4 (none)) { frames := 2, cells := 10, slots := 68, locals := 40 } (wPc D vwCl (tyL cA) Z (wL [enO ho 1 [.null, .null, .null, .int (iI (0)), .int (iI (0)), .int (iI (0))]]) (hW b cA σ) [.ref ho, .ref (b 0)] sz zO) (nQvM D (fun ws => ∃ a, a 0 = ho ∧ ws = hW a cA σ ∧ va_D (wA (wL [enO ho 1 [.null, .null, .null, .int (iI (0)), .int (iI (0)), .int (iI (0))]]) sz) ws) (wA (wL [enO ho 1 [.null, .null, .null, .int (iI (0)), .int (iI (0)), .int (iI (0))]]) sz)) 10 68 (wA (wL [enO ho 1 [.null, .null, .null, .int (iI (0)), .int (iI (0)), .int (iI (0))]]) sz) := by
  refine l_met (cc := cX2_init_2) (maxL := 4) (ret := none) (own := RX2) (by decide) rfl rfl (Nat.le_of_ble_eq_true rfl) ?_
  intro p e s m below meth c hX hnm hsz hK hP hD hA hE hS hR hN ls hl
  have hx := hX.1
  have hb := hX.2.1
  have hz0 := hz _ _ _ hE
  have hl : lv_has ls 4 [(0, .ref ho), (1, .ref (b 0))] := hl
  refine lv_aload_n hx hb dX2_init_2_0 rfl (lv_at hl 0 rfl) ?_
  refine W.objInit hx hb hX.ow (hX.hts _ q138) (hX.hts _ q131) (hX.hts _ q132) rfl (by rw [hX.2.2.1]; exact hl.1) rfl dX2_init_2_1 (Nat.le_of_ble_eq_true rfl) (Nat.le_of_ble_eq_true rfl) ?_
  refine lv_aload_n hx hb dX2_init_2_4 rfl (lv_at hl 0 rfl) ?_
  refine z_bipush hX dX2_init_2_5 (by decide) ?_
  refine z_bipush hX dX2_init_2_7 (by decide) ?_
  refine z_multi hX hz0.2.2 hK hP hD hS hA q139 dX2_init_2_9 (Nat.le_of_ble_eq_true rfl) (Nat.le_of_ble_eq_true rfl) (fun qd H hP hD hS => ?_)
  have hP : va_P D vwCl [enO ho 1 [.null, .null, .null, .int (iI (0)), .int (iI (0)), .int (iI (0))], (qd, .inl (cA 3, 7, .inr (.inr (.inr (.inr (fun k => some (qd + 1 + k))))))), enI cA (qd + 1) 7 (fun _ => 0), enI cA (qd + 2) 7 (fun _ => 0), enI cA (qd + 3) 7 (fun _ => 0), enI cA (qd + 4) 7 (fun _ => 0), enI cA (qd + 5) 7 (fun _ => 0), enI cA (qd + 6) 7 (fun _ => 0), enI cA (qd + 7) 7 (fun _ => 0)] H := hP
  have hD : va_D _ [enO ho 1 [.null, .null, .null, .int (iI (0)), .int (iI (0)), .int (iI (0))], (qd, .inl (cA 3, 7, .inr (.inr (.inr (.inr (fun k => some (qd + 1 + k))))))), enI cA (qd + 1) 7 (fun _ => 0), enI cA (qd + 2) 7 (fun _ => 0), enI cA (qd + 3) 7 (fun _ => 0), enI cA (qd + 4) 7 (fun _ => 0), enI cA (qd + 5) 7 (fun _ => 0), enI cA (qd + 6) 7 (fun _ => 0), enI cA (qd + 7) 7 (fun _ => 0)] := hD
  refine va_putF (C := RX2) (T := TX2) (N := 6) (ci := 1) (v := .ref qd) (ty := tyX2 0) hx hb hX.hts in_X2 tyX2 tyX2_ok nmX2 hX.ow hK hP hD hS 0 rfl vw_X2 0 (by decide) (hX.hts _ q166) (fun _ h9 => h9) rfl hnm rfl (by decide +kernel) rfl rfl (Nat.le_of_ble_eq_true rfl) dX2_init_2_13 (fun H locs hP hD hS => ?_)
  have hP : va_P D vwCl [enO ho 1 [.ref qd, .null, .null, .int (iI (0)), .int (iI (0)), .int (iI (0))], (qd, .inl (cA 3, 7, .inr (.inr (.inr (.inr (fun k => some (qd + 1 + k))))))), enI cA (qd + 1) 7 (fun _ => 0), enI cA (qd + 2) 7 (fun _ => 0), enI cA (qd + 3) 7 (fun _ => 0), enI cA (qd + 4) 7 (fun _ => 0), enI cA (qd + 5) 7 (fun _ => 0), enI cA (qd + 6) 7 (fun _ => 0), enI cA (qd + 7) 7 (fun _ => 0)] H := hP
  have hD : va_D _ [enO ho 1 [.ref qd, .null, .null, .int (iI (0)), .int (iI (0)), .int (iI (0))], (qd, .inl (cA 3, 7, .inr (.inr (.inr (.inr (fun k => some (qd + 1 + k))))))), enI cA (qd + 1) 7 (fun _ => 0), enI cA (qd + 2) 7 (fun _ => 0), enI cA (qd + 3) 7 (fun _ => 0), enI cA (qd + 4) 7 (fun _ => 0), enI cA (qd + 5) 7 (fun _ => 0), enI cA (qd + 6) 7 (fun _ => 0), enI cA (qd + 7) 7 (fun _ => 0)] := hD
  refine lv_aload_n hx hb dX2_init_2_16 rfl (lv_at hl 0 rfl) ?_
  refine z_bipush hX dX2_init_2_17 (by decide) ?_
  refine W.eq (g2 := F0 m 19 ls [.int (iI (7)), .ref ho]) rfl ?_
  refine z_newa hX hK hP hD hS hA .int 0 (ty := .int) rfl (q165) rfl (7, .inl (fun _ => iI 0)) 7 (fun _ => rfl) (rfl) (Nat.le_of_ble_eq_true rfl) (Nat.le_of_ble_eq_true rfl) (Nat.le_of_ble_eq_true rfl) (Nat.le_of_ble_eq_true rfl) dX2_init_2_19 (fun cs H hP hD hS => ?_)
  have hP : va_P D vwCl [enO ho 1 [.ref qd, .null, .null, .int (iI (0)), .int (iI (0)), .int (iI (0))], (qd, .inl (cA 3, 7, .inr (.inr (.inr (.inr (fun k => some (qd + 1 + k))))))), enI cA (qd + 1) 7 (fun _ => 0), enI cA (qd + 2) 7 (fun _ => 0), enI cA (qd + 3) 7 (fun _ => 0), enI cA (qd + 4) 7 (fun _ => 0), enI cA (qd + 5) 7 (fun _ => 0), enI cA (qd + 6) 7 (fun _ => 0), enI cA (qd + 7) 7 (fun _ => 0), enI cA cs 7 (fun _ => 0)] H := hP
  have hD : va_D _ [enO ho 1 [.ref qd, .null, .null, .int (iI (0)), .int (iI (0)), .int (iI (0))], (qd, .inl (cA 3, 7, .inr (.inr (.inr (.inr (fun k => some (qd + 1 + k))))))), enI cA (qd + 1) 7 (fun _ => 0), enI cA (qd + 2) 7 (fun _ => 0), enI cA (qd + 3) 7 (fun _ => 0), enI cA (qd + 4) 7 (fun _ => 0), enI cA (qd + 5) 7 (fun _ => 0), enI cA (qd + 6) 7 (fun _ => 0), enI cA (qd + 7) 7 (fun _ => 0), enI cA cs 7 (fun _ => 0)] := hD
  refine va_putF (C := RX2) (T := TX2) (N := 6) (ci := 1) (v := .ref cs) (ty := tyX2 1) hx hb hX.hts in_X2 tyX2 tyX2_ok nmX2 hX.ow hK hP hD hS 0 rfl vw_X2 1 (by decide) (hX.hts _ q168) (fun _ h9 => h9) rfl hnm rfl (by decide +kernel) rfl rfl (Nat.le_of_ble_eq_true rfl) dX2_init_2_21 (fun H locs hP hD hS => ?_)
  have hP : va_P D vwCl [enO ho 1 [.ref qd, .ref cs, .null, .int (iI (0)), .int (iI (0)), .int (iI (0))], (qd, .inl (cA 3, 7, .inr (.inr (.inr (.inr (fun k => some (qd + 1 + k))))))), enI cA (qd + 1) 7 (fun _ => 0), enI cA (qd + 2) 7 (fun _ => 0), enI cA (qd + 3) 7 (fun _ => 0), enI cA (qd + 4) 7 (fun _ => 0), enI cA (qd + 5) 7 (fun _ => 0), enI cA (qd + 6) 7 (fun _ => 0), enI cA (qd + 7) 7 (fun _ => 0), enI cA cs 7 (fun _ => 0)] H := hP
  have hD : va_D _ [enO ho 1 [.ref qd, .ref cs, .null, .int (iI (0)), .int (iI (0)), .int (iI (0))], (qd, .inl (cA 3, 7, .inr (.inr (.inr (.inr (fun k => some (qd + 1 + k))))))), enI cA (qd + 1) 7 (fun _ => 0), enI cA (qd + 2) 7 (fun _ => 0), enI cA (qd + 3) 7 (fun _ => 0), enI cA (qd + 4) 7 (fun _ => 0), enI cA (qd + 5) 7 (fun _ => 0), enI cA (qd + 6) 7 (fun _ => 0), enI cA (qd + 7) 7 (fun _ => 0), enI cA cs 7 (fun _ => 0)] := hD
  refine lv_aload_n hx hb dX2_init_2_24 rfl (lv_at hl 0 rfl) ?_
  refine z_newM (C := RX3) (T := TX3) (N := 5) (ci := 2) (fs := [.int (iI (0)), .int (iI (0)), .long (lI 0), .int (iI (0)), .int (iI (0))]) hX in_X3 tyX3 tyX3_ok q141 q142 q82 hK hP hD hS hA vw_X3 (by decide) (Nat.le_of_ble_eq_true rfl) (Nat.le_of_ble_eq_true rfl) dX2_init_2_25 (fun ac H hP hD hS hmf0 => ?_)
  have hP : va_P D vwCl [enO ho 1 [.ref qd, .ref cs, .null, .int (iI (0)), .int (iI (0)), .int (iI (0))], (qd, .inl (cA 3, 7, .inr (.inr (.inr (.inr (fun k => some (qd + 1 + k))))))), enI cA (qd + 1) 7 (fun _ => 0), enI cA (qd + 2) 7 (fun _ => 0), enI cA (qd + 3) 7 (fun _ => 0), enI cA (qd + 4) 7 (fun _ => 0), enI cA (qd + 5) 7 (fun _ => 0), enI cA (qd + 6) 7 (fun _ => 0), enI cA (qd + 7) 7 (fun _ => 0), enI cA cs 7 (fun _ => 0), enO ac 2 [.int (iI (0)), .int (iI (0)), .long (lI 0), .int (iI (0)), .int (iI (0))]] H := hP
  have hD : va_D _ [enO ho 1 [.ref qd, .ref cs, .null, .int (iI (0)), .int (iI (0)), .int (iI (0))], (qd, .inl (cA 3, 7, .inr (.inr (.inr (.inr (fun k => some (qd + 1 + k))))))), enI cA (qd + 1) 7 (fun _ => 0), enI cA (qd + 2) 7 (fun _ => 0), enI cA (qd + 3) 7 (fun _ => 0), enI cA (qd + 4) 7 (fun _ => 0), enI cA (qd + 5) 7 (fun _ => 0), enI cA (qd + 6) 7 (fun _ => 0), enI cA (qd + 7) 7 (fun _ => 0), enI cA cs 7 (fun _ => 0), enO ac 2 [.int (iI (0)), .int (iI (0)), .long (lI 0), .int (iI (0)), .int (iI (0))]] := hD
  refine lv_dup hx hb dX2_init_2_28 rfl ?_
  refine W_reb (mc1 := 0) (ms1 := 0) ⟨Nat.le_of_ble_eq_true rfl, Nat.le_of_ble_eq_true rfl⟩ ⟨Nat.le_of_ble_eq_true rfl, Nat.le_of_ble_eq_true rfl⟩ hS.2.2 (fun s9 o t hh hq => ⟨hq.1, va_F_tr hS hh hq.2⟩) (fun s9 hh hvm => ?_)
  have hX := zX_reb hX hvm
  have hx := hX.1
  have hb := hX.2.1
  have hK : va_K D vwCl (tyL cA) s9 := va_K.moved (by rw [hvm]; exact Vm.Alike.refl _) hK
  have hE : Z (wA (wL [enO ho 1 [.null, .null, .null, .int (iI (0)), .int (iI (0)), .int (iI (0))]]) sz) s9 s9.heap := by rw [hh]; exact hZ.1 _ _ _ _ hvm (hZ.2.2.1 _ _ _ _ hE hS.2.1)
  have hz0 := hz _ _ _ hE
  have hA : ∀ q, s9.heap.size ≤ q → (wA (wL [enO ho 1 [.null, .null, .null, .int (iI (0)), .int (iI (0)), .int (iI (0))]]) sz) q := fun q h => hA q (by rw [hh] at h; have := hS.1; omega)
  have hR : ∀ H1 L1, va_S (wA (wL [enO ho 1 [.null, .null, .null, .int (iI (0)), .int (iI (0)), .int (iI (0))]]) sz) s9.heap H1 L1 → va_P D vwCl (hW b cA σ) H1 := fun H1 L1 h => hR H1 L1 (va_S_tr hS hh h)
  have hmf : mFr ac s9.heap := by rw [hh]; exact hmf0
  have hS : va_S (wA (wL [enO ho 1 [.null, .null, .null, .int (iI (0)), .int (iI (0)), .int (iI (0))]]) sz) s9.heap H [] := by rw [hh]; exact va_S.rf
  have hP : va_P D vwCl [enO ac 2 [.int (iI (0)), .int (iI (0)), .long (lI 0), .int (iI (0)), .int (iI (0))], enO ho 1 [.ref qd, .ref cs, .null, .int (iI (0)), .int (iI (0)), .int (iI (0))], (qd, .inl (cA 3, 7, .inr (.inr (.inr (.inr (fun k => some (qd + 1 + k))))))), enI cA (qd + 1) 7 (fun _ => 0), enI cA (qd + 2) 7 (fun _ => 0), enI cA (qd + 3) 7 (fun _ => 0), enI cA (qd + 4) 7 (fun _ => 0), enI cA (qd + 5) 7 (fun _ => 0), enI cA (qd + 6) 7 (fun _ => 0), enI cA (qd + 7) 7 (fun _ => 0), enI cA cs 7 (fun _ => 0)] H := hP.sub [10, 0, 1, 2, 3, 4, 5, 6, 7, 8, 9] rfl
  have hD : va_D _ [enO ac 2 [.int (iI (0)), .int (iI (0)), .long (lI 0), .int (iI (0)), .int (iI (0))], enO ho 1 [.ref qd, .ref cs, .null, .int (iI (0)), .int (iI (0)), .int (iI (0))], (qd, .inl (cA 3, 7, .inr (.inr (.inr (.inr (fun k => some (qd + 1 + k))))))), enI cA (qd + 1) 7 (fun _ => 0), enI cA (qd + 2) 7 (fun _ => 0), enI cA (qd + 3) 7 (fun _ => 0), enI cA (qd + 4) 7 (fun _ => 0), enI cA (qd + 5) 7 (fun _ => 0), enI cA (qd + 6) 7 (fun _ => 0), enI cA (qd + 7) 7 (fun _ => 0), enI cA cs 7 (fun _ => 0)] := hD.sub [10, 0, 1, 2, 3, 4, 5, 6, 7, 8, 9] rfl rfl
  have hP9 : va_P D vwCl ([enO ac 2 [.int (iI (0)), .int (iI (0)), .long (lI 0), .int (iI (0)), .int (iI (0))]] ++ [enO ho 1 [.ref qd, .ref cs, .null, .int (iI (0)), .int (iI (0)), .int (iI (0))], (qd, .inl (cA 3, 7, .inr (.inr (.inr (.inr (fun k => some (qd + 1 + k))))))), enI cA (qd + 1) 7 (fun _ => 0), enI cA (qd + 2) 7 (fun _ => 0), enI cA (qd + 3) 7 (fun _ => 0), enI cA (qd + 4) 7 (fun _ => 0), enI cA (qd + 5) 7 (fun _ => 0), enI cA (qd + 6) 7 (fun _ => 0), enI cA (qd + 7) 7 (fun _ => 0), enI cA cs 7 (fun _ => 0)]) H := hP
  have hD9 : va_D _ ([enO ac 2 [.int (iI (0)), .int (iI (0)), .long (lI 0), .int (iI (0)), .int (iI (0))]] ++ [enO ho 1 [.ref qd, .ref cs, .null, .int (iI (0)), .int (iI (0)), .int (iI (0))], (qd, .inl (cA 3, 7, .inr (.inr (.inr (.inr (fun k => some (qd + 1 + k))))))), enI cA (qd + 1) 7 (fun _ => 0), enI cA (qd + 2) 7 (fun _ => 0), enI cA (qd + 3) 7 (fun _ => 0), enI cA (qd + 4) 7 (fun _ => 0), enI cA (qd + 5) 7 (fun _ => 0), enI cA (qd + 6) 7 (fun _ => 0), enI cA (qd + 7) 7 (fun _ => 0), enI cA cs 7 (fun _ => 0)]) := hD
  refine l_callv hP9 hD9 hA hS (va_runIN (As := []) (rest := [.ref ac, .ref ho]) hX.fix (c_X3_init hZ hfl hz _ ) ⟨va_cnB 0 hX.hts (lw_meth q145) rfl rfl rfl (hz0.1 _ q143 rfl) (hX.hts _ q82) (by decide +kernel) ⟨Nat.le_of_ble_eq_true rfl, Nat.le_of_ble_eq_true rfl⟩, rfl, hX.hts _ q144⟩ (l_preS hZ hK (D_l hD9) hA hE (P_l hP9) (fun k q h => by cases h) (fun k q h => by cases h) hS) rfl rfl hl.1 rfl (lv_room (Nat.le_of_ble_eq_true rfl)) dX2_init_2_29 ⟨Nat.le_of_ble_eq_true rfl, Nat.le_of_ble_eq_true rfl⟩) (fun w1 h => h.2) (fun w1 H locs hq hP hD hS => ?_)
  obtain ⟨rfl, -⟩ := hq
  have hP : va_P D vwCl [enO ac 2 [.int (iI (0)), .int (iI (0)), .long (lI 0), .int (iI (0)), .int (iI (0))], enO ho 1 [.ref qd, .ref cs, .null, .int (iI (0)), .int (iI (0)), .int (iI (0))], (qd, .inl (cA 3, 7, .inr (.inr (.inr (.inr (fun k => some (qd + 1 + k))))))), enI cA (qd + 1) 7 (fun _ => 0), enI cA (qd + 2) 7 (fun _ => 0), enI cA (qd + 3) 7 (fun _ => 0), enI cA (qd + 4) 7 (fun _ => 0), enI cA (qd + 5) 7 (fun _ => 0), enI cA (qd + 6) 7 (fun _ => 0), enI cA (qd + 7) 7 (fun _ => 0), enI cA cs 7 (fun _ => 0)] H := hP
  have hD : va_D _ [enO ac 2 [.int (iI (0)), .int (iI (0)), .long (lI 0), .int (iI (0)), .int (iI (0))], enO ho 1 [.ref qd, .ref cs, .null, .int (iI (0)), .int (iI (0)), .int (iI (0))], (qd, .inl (cA 3, 7, .inr (.inr (.inr (.inr (fun k => some (qd + 1 + k))))))), enI cA (qd + 1) 7 (fun _ => 0), enI cA (qd + 2) 7 (fun _ => 0), enI cA (qd + 3) 7 (fun _ => 0), enI cA (qd + 4) 7 (fun _ => 0), enI cA (qd + 5) 7 (fun _ => 0), enI cA (qd + 6) 7 (fun _ => 0), enI cA (qd + 7) 7 (fun _ => 0), enI cA cs 7 (fun _ => 0)] := hD
  refine va_putF (C := RX2) (T := TX2) (N := 6) (ci := 1) (v := .ref ac) (ty := tyX2 2) hx hb hX.hts in_X2 tyX2 tyX2_ok nmX2 hX.ow hK hP hD hS 1 rfl vw_X2 2 (by decide) (hX.hts _ q170) (fun _ h9 => h9) rfl hnm rfl (by decide +kernel) rfl rfl (Nat.le_of_ble_eq_true rfl) dX2_init_2_32 (fun H locs hP hD hS => ?_)
  have hP : va_P D vwCl [enO ac 2 [.int (iI (0)), .int (iI (0)), .long (lI 0), .int (iI (0)), .int (iI (0))], enO ho 1 [.ref qd, .ref cs, .ref ac, .int (iI (0)), .int (iI (0)), .int (iI (0))], (qd, .inl (cA 3, 7, .inr (.inr (.inr (.inr (fun k => some (qd + 1 + k))))))), enI cA (qd + 1) 7 (fun _ => 0), enI cA (qd + 2) 7 (fun _ => 0), enI cA (qd + 3) 7 (fun _ => 0), enI cA (qd + 4) 7 (fun _ => 0), enI cA (qd + 5) 7 (fun _ => 0), enI cA (qd + 6) 7 (fun _ => 0), enI cA (qd + 7) 7 (fun _ => 0), enI cA cs 7 (fun _ => 0)] H := hP
  have hD : va_D _ [enO ac 2 [.int (iI (0)), .int (iI (0)), .long (lI 0), .int (iI (0)), .int (iI (0))], enO ho 1 [.ref qd, .ref cs, .ref ac, .int (iI (0)), .int (iI (0)), .int (iI (0))], (qd, .inl (cA 3, 7, .inr (.inr (.inr (.inr (fun k => some (qd + 1 + k))))))), enI cA (qd + 1) 7 (fun _ => 0), enI cA (qd + 2) 7 (fun _ => 0), enI cA (qd + 3) 7 (fun _ => 0), enI cA (qd + 4) 7 (fun _ => 0), enI cA (qd + 5) 7 (fun _ => 0), enI cA (qd + 6) 7 (fun _ => 0), enI cA (qd + 7) 7 (fun _ => 0), enI cA cs 7 (fun _ => 0)] := hD
  have hP : va_P D vwCl (hW (hAd ho qd cs ac) cA (fun _ _ => 0)) H := by rw [hW_new]; exact hP.sub [1, 2, 10, 0, 3, 4, 5, 6, 7, 8, 9] rfl
  have hD : va_D (wA (wL [enO ho 1 [.null, .null, .null, .int (iI (0)), .int (iI (0)), .int (iI (0))]]) sz) (hW (hAd ho qd cs ac) cA (fun _ _ => 0)) := by rw [hW_new]; exact hD.sub [1, 2, 10, 0, 3, 4, 5, 6, 7, 8, 9] rfl rfl
  have hba9 : ∀ k, k < 11 → b k ≠ ac := fun k hk e9 => by
    have h1 : ∃ q : Nat × va_E, (hW b cA σ)[k]? = some q ∧ q.1 = b k := by
      obtain rfl | rfl | rfl | rfl | rfl | rfl | rfl | rfl | rfl | rfl | rfl : k = 0 ∨ k = 1 ∨ k = 2 ∨ k = 3 ∨ k = 4 ∨ k = 5 ∨ k = 6 ∨ k = 7 ∨ k = 8 ∨ k = 9 ∨ k = 10 := by omega
      all_goals exact ⟨_, rfl, rfl⟩
    obtain ⟨q, h2, h3⟩ := h1
    exact hN k q h2 (by rw [h3, e9]; exact hD.2 3 _ rfl)
  have L35 : ∀ (a : Nat → Nat), (∀ y, va_D (wA (wL [enO ho 1 [.null, .null, .null, .int (iI (0)), .int (iI (0)), .int (iI (0))]]) sz) (hW a cA y)) → (mFr (a 3) s9.heap) → (a 0 = ho) → (∀ k, k < 11 → b k ≠ a 3) → ∀ (H : Heap) (locs : List Loc) (ls : Array Slot), va_P D vwCl (hW a cA (fun _ _ => 0)) H → va_S (wA (wL [enO ho 1 [.null, .null, .null, .int (iI (0)), .int (iI (0)), .int (iI (0))]]) sz) s9.heap H locs → lv_has ls 4 [(0, .ref (a 0)), (1, .ref (b 0))] → W p l e { frames := (headSpec (ws_ yX2_init_2 cX2_init_2 4 (none)) { frames := 2, cells := 10, slots := 68, locals := 40 }).room.frames, cells := 0, slots := 0, locals := (headSpec (ws_ yX2_init_2 cX2_init_2 4 (none)) { frames := 2, cells := 10, slots := 68, locals := 40 }).room.locals } s9 m ([.ref ho, .ref (b 0)] : List Value).toArray below meth c H locs 0 0 (MQ below (nQvM D (fun ws => ∃ a, a 0 = ho ∧ ws = hW a cA σ ∧ va_D (wA (wL [enO ho 1 [.null, .null, .null, .int (iI (0)), .int (iI (0)), .int (iI (0))]]) sz) ws) (wA (wL [enO ho 1 [.null, .null, .null, .int (iI (0)), .int (iI (0)), .int (iI (0))]]) sz)) ([.ref ho, .ref (b 0)] : List Value).toArray s9 0 0 (wA (wL [enO ho 1 [.null, .null, .null, .int (iI (0)), .int (iI (0)), .int (iI (0))]]) sz)) (F0 m 35 ls []) := by
    intro a hD hmf ha0 hba H locs ls hP hS hl
    refine z_iconst hX dX2_init_2_35 ?_
    refine z_top (y := ↑(0 : Nat)) (rfl) ?_
    refine lv_istore_n (lv' := [(2, .int (iI (↑(0 : Nat)))), (0, .ref (a 0)), (1, .ref (b 0))]) hx hb dX2_init_2_36 rfl hl (by decide) rfl (fun ls hl => ?_)
    have L37 : ∀ (n : Nat) (i : Nat), (7 < i + n) → (i ≤ 7) → ∀ (H : Heap) (locs : List Loc) (ls : Array Slot), va_P D vwCl (hW a cA (sA zO 0 (cpH (σ 0) i (7 * i)))) H → va_S (wA (wL [enO ho 1 [.null, .null, .null, .int (iI (0)), .int (iI (0)), .int (iI (0))]]) sz) s9.heap H locs → lv_has ls 4 [(0, .ref (a 0)), (1, .ref (b 0)), (2, .int (iI (↑i)))] → W p l e { frames := (headSpec (ws_ yX2_init_2 cX2_init_2 4 (none)) { frames := 2, cells := 10, slots := 68, locals := 40 }).room.frames, cells := 0, slots := 0, locals := (headSpec (ws_ yX2_init_2 cX2_init_2 4 (none)) { frames := 2, cells := 10, slots := 68, locals := 40 }).room.locals } s9 m ([.ref ho, .ref (b 0)] : List Value).toArray below meth c H locs 0 0 (MQ below (nQvM D (fun ws => ∃ a, a 0 = ho ∧ ws = hW a cA σ ∧ va_D (wA (wL [enO ho 1 [.null, .null, .null, .int (iI (0)), .int (iI (0)), .int (iI (0))]]) sz) ws) (wA (wL [enO ho 1 [.null, .null, .null, .int (iI (0)), .int (iI (0)), .int (iI (0))]]) sz)) ([.ref ho, .ref (b 0)] : List Value).toArray s9 0 0 (wA (wL [enO ho 1 [.null, .null, .null, .int (iI (0)), .int (iI (0)), .int (iI (0))]]) sz)) (F0 m 37 ls []) := by
      intro n
      induction n with
      | zero =>
        intro i hf hi H locs ls hP hS hl
        exact absurd hf (by omega)
      | succ n ih37 =>
        intro i hf hi H locs ls hP hS hl
        refine lv_iload_n hx hb dX2_init_2_37 rfl (lv_at hl 2 rfl) ?_
        refine W.eq (g2 := F0 m 38 ls [.int (iI (↑i))]) rfl ?_
        refine z_bipush hX dX2_init_2_38 (by decide) ?_
        refine z_icmp_ge (tgt := 91) hX (by omega) dX2_init_2_40 (by decide) (fun c_40 => ?_) (fun c_40 => ?_)
        · skip
          obtain rfl : i = 7 := by omega
          refine lv_aload_n hx hb dX2_init_2_91 rfl (lv_at hl 0 rfl) ?_
          refine h_get hX hK hP 2 (by decide) q170 rfl dX2_init_2_92 ?_
          refine lv_aload_n hx hb dX2_init_2_95 rfl (lv_at hl 1 rfl) ?_
          refine h_get (a := b) (x := σ) hX hK (hR _ _ hS) 2 (by decide) q170 rfl dX2_init_2_96 ?_
          refine W_mon hmf (fun hm9 => ?_)
          refine w_callv (Z := Z) hD hA hS (va_runVS (n := 1) (As := [.ref (b 3)]) (rest := []) hX.fix (c_X3_take _ (sA zO 0 (cpH (σ 0) 7 (7 * 7))) σ hba) q292 q293 q294 q82 q295 rfl rfl (by decide +kernel) ⟨Nat.le_of_ble_eq_true rfl, Nat.le_of_ble_eq_true rfl⟩ (mPc_V (w_preVW hZ hK hD hA hE hP (hR _ _ hS) (fun k q h z => hN k q h (wA_sub hD hA hS.1 _ z)) hS (va_recv hK hP (ci := 2) (q0 := 3) vw_X3 hW_3)) hm9) rfl rfl hl.1 rfl (lv_room (Nat.le_of_ble_eq_true rfl)) dX2_init_2_99 ⟨Nat.le_of_ble_eq_true rfl, Nat.le_of_ble_eq_true rfl⟩) (fun y H locs hq hP hS => ?_)
          rw [show y = takeX (sA zO 0 (cpH (σ 0) 7 (7 * 7))) σ from hq] at hP
          refine lv_aload_n hx hb dX2_init_2_102 rfl (lv_at hl 0 rfl) ?_
          refine lv_aload_n hx hb dX2_init_2_103 rfl (lv_at hl 1 rfl) ?_
          refine h_get (a := b) (x := σ) hX hK (hR _ _ hS) 3 (by decide) q172 rfl dX2_init_2_104 ?_
          refine W.eq (g2 := F0 m 107 ls [.int (iI (σ 0 0)), .ref (a 0)]) rfl ?_
          refine w_put (w := hW a cA) (x := takeX (sA zO 0 (cpH (σ 0) 7 (7 * 7))) σ) (x' := uA (takeX (sA zO 0 (cpH (σ 0) 7 (7 * 7))) σ) 0 0 (σ 0 0)) hX hK hD hP hS in_X2 tyX2 tyX2_ok nmX2 0 rfl vw_X2 3 (by decide) q172 rfl rfl rfl (Nat.le_of_ble_eq_true rfl) hW_f3 dX2_init_2_107 (fun H locs hP hS => ?_)
          rw [show uA (takeX (sA zO 0 (cpH (σ 0) 7 (7 * 7))) σ) 0 0 (σ 0 0) = uA (takeX (sA zO 0 (cpH (σ 0) 7 (7 * 7))) σ) 0 0 (σ 0 0) from rfl] at hP
          refine lv_aload_n hx hb dX2_init_2_110 rfl (lv_at hl 0 rfl) ?_
          refine lv_aload_n hx hb dX2_init_2_111 rfl (lv_at hl 1 rfl) ?_
          refine h_get (a := b) (x := σ) hX hK (hR _ _ hS) 4 (by decide) q174 rfl dX2_init_2_112 ?_
          refine w_put (w := hW a cA) (x := uA (takeX (sA zO 0 (cpH (σ 0) 7 (7 * 7))) σ) 0 0 (σ 0 0)) (x' := uA (uA (takeX (sA zO 0 (cpH (σ 0) 7 (7 * 7))) σ) 0 0 (σ 0 0)) 0 4 (σ 0 4)) hX hK hD hP hS in_X2 tyX2 tyX2_ok nmX2 0 rfl vw_X2 4 (by decide) q174 rfl rfl rfl (Nat.le_of_ble_eq_true rfl) hW_f4 dX2_init_2_115 (fun H locs hP hS => ?_)
          rw [show uA (uA (takeX (sA zO 0 (cpH (σ 0) 7 (7 * 7))) σ) 0 0 (σ 0 0)) 0 4 (σ 0 4) = uA (uA (takeX (sA zO 0 (cpH (σ 0) 7 (7 * 7))) σ) 0 0 (σ 0 0)) 0 4 (σ 0 4) from rfl] at hP
          refine lv_aload_n hx hb dX2_init_2_118 rfl (lv_at hl 0 rfl) ?_
          refine lv_aload_n hx hb dX2_init_2_119 rfl (lv_at hl 1 rfl) ?_
          refine h_get (a := b) (x := σ) hX hK (hR _ _ hS) 5 (by decide) q176 rfl dX2_init_2_120 ?_
          refine w_put (w := hW a cA) (x := uA (uA (takeX (sA zO 0 (cpH (σ 0) 7 (7 * 7))) σ) 0 0 (σ 0 0)) 0 4 (σ 0 4)) (x' := uA (uA (uA (takeX (sA zO 0 (cpH (σ 0) 7 (7 * 7))) σ) 0 0 (σ 0 0)) 0 4 (σ 0 4)) 0 1 (σ 0 1)) hX hK hD hP hS in_X2 tyX2 tyX2_ok nmX2 0 rfl vw_X2 5 (by decide) q176 rfl rfl rfl (Nat.le_of_ble_eq_true rfl) hW_f5 dX2_init_2_123 (fun H locs hP hS => ?_)
          rw [show uA (uA (uA (takeX (sA zO 0 (cpH (σ 0) 7 (7 * 7))) σ) 0 0 (σ 0 0)) 0 4 (σ 0 4)) 0 1 (σ 0 1) = uA (uA (uA (takeX (sA zO 0 (cpH (σ 0) 7 (7 * 7))) σ) 0 0 (σ 0 0)) 0 4 (σ 0 4)) 0 1 (σ 0 1) from rfl] at hP
          rw [cp_end] at hP
          refine W_mon hmf (fun hm9 => ?_)
          exact n_vretM hX hP (mF3_hW hm9) hS (⟨a, ha0, rfl, hD _⟩) dX2_init_2_126
        · skip
          refine W.eq (g2 := F0 m 43 ls []) rfl ?_
          refine lv_aload_n hx hb dX2_init_2_43 rfl (lv_at hl 0 rfl) ?_
          refine h_get hX hK hP 1 (by decide) q168 rfl dX2_init_2_44 ?_
          refine lv_iload_n hx hb dX2_init_2_47 rfl (lv_at hl 2 rfl) ?_
          refine lv_aload_n hx hb dX2_init_2_48 rfl (lv_at hl 1 rfl) ?_
          refine h_get (a := b) (x := σ) hX hK (hR _ _ hS) 1 (by decide) q168 rfl dX2_init_2_49 ?_
          refine lv_iload_n hx hb dX2_init_2_52 rfl (lv_at hl 2 rfl) ?_
          refine h_ldc (a := b) (x := σ) hX hK (hR _ _ hS) i (⟨rfl, by omega⟩) dX2_init_2_53 ?_
          refine h_stc hX hK hD hP hS i (⟨rfl, by omega⟩) dX2_init_2_54 (fun H locs hP hS => ?_)
          rw [show uA (sA zO 0 (cpH (σ 0) i (7 * i))) 0 (5 + i) (σ 0 (5 + i)) = sA zO 0 (cpH (σ 0) (i + 1) (7 * i)) from uA_in.trans (congrArg (sA zO 0) (cpH_c (by omega)))] at hP
          refine z_iconst hX dX2_init_2_55 ?_
          refine z_top (y := ↑(0 : Nat)) (rfl) ?_
          refine lv_istore_n (lv' := [(3, .int (iI (↑(0 : Nat)))), (0, .ref (a 0)), (1, .ref (b 0)), (2, .int (iI (↑i)))]) hx hb dX2_init_2_56 rfl hl (by decide) rfl (fun ls hl => ?_)
          have L57 : ∀ (n : Nat) (j : Nat), (7 < j + n) → (j ≤ 7) → ∀ (H : Heap) (locs : List Loc) (ls : Array Slot), va_P D vwCl (hW a cA (sA zO 0 (cpH (σ 0) (i + 1) (7 * i + j)))) H → va_S (wA (wL [enO ho 1 [.null, .null, .null, .int (iI (0)), .int (iI (0)), .int (iI (0))]]) sz) s9.heap H locs → lv_has ls 4 [(0, .ref (a 0)), (1, .ref (b 0)), (2, .int (iI (↑i))), (3, .int (iI (↑j)))] → W p l e { frames := (headSpec (ws_ yX2_init_2 cX2_init_2 4 (none)) { frames := 2, cells := 10, slots := 68, locals := 40 }).room.frames, cells := 0, slots := 0, locals := (headSpec (ws_ yX2_init_2 cX2_init_2 4 (none)) { frames := 2, cells := 10, slots := 68, locals := 40 }).room.locals } s9 m ([.ref ho, .ref (b 0)] : List Value).toArray below meth c H locs 0 0 (MQ below (nQvM D (fun ws => ∃ a, a 0 = ho ∧ ws = hW a cA σ ∧ va_D (wA (wL [enO ho 1 [.null, .null, .null, .int (iI (0)), .int (iI (0)), .int (iI (0))]]) sz) ws) (wA (wL [enO ho 1 [.null, .null, .null, .int (iI (0)), .int (iI (0)), .int (iI (0))]]) sz)) ([.ref ho, .ref (b 0)] : List Value).toArray s9 0 0 (wA (wL [enO ho 1 [.null, .null, .null, .int (iI (0)), .int (iI (0)), .int (iI (0))]]) sz)) (F0 m 57 ls []) := by
            intro n
            induction n with
            | zero =>
              intro j hf hj H locs ls hP hS hl
              exact absurd hf (by omega)
            | succ n ih57 =>
              intro j hf hj H locs ls hP hS hl
              refine W.eq (g2 := F0 m 57 ls []) rfl ?_
              refine lv_iload_n hx hb dX2_init_2_57 rfl (lv_at hl 3 rfl) ?_
              refine z_bipush hX dX2_init_2_58 (by decide) ?_
              refine z_icmp_ge (tgt := 85) hX (by omega) dX2_init_2_60 (by decide) (fun c_60 => ?_) (fun c_60 => ?_)
              · skip
                obtain rfl : j = 7 := by omega
                refine z_iinc (y := ↑(i + 1)) (lv' := [(2, .int (iI (↑(i + 1)))), (0, .ref (a 0)), (1, .ref (b 0)), (3, .int (iI (↑7)))]) hX dX2_init_2_85 hl (k := 2) rfl (by omega) (by decide) rfl (fun ls hl => ?_)
                refine lv_goto (tgt := 37) hx hb dX2_init_2_88 (by decide) ?_
                exact ih37 (i + 1) (by omega) (by omega) _ _ _ hP hS (lv_sub hl [1, 2, 0] rfl)
              · skip
                refine lv_aload_n hx hb dX2_init_2_63 rfl (lv_at hl 0 rfl) ?_
                refine h_get hX hK hP 0 (by decide) q166 rfl dX2_init_2_64 ?_
                refine lv_iload_n hx hb dX2_init_2_67 rfl (lv_at hl 2 rfl) ?_
                refine h_row (a := a) hX hK hP i (⟨rfl, by omega⟩) dX2_init_2_68 ?_
                refine lv_iload_n hx hb dX2_init_2_69 rfl (lv_at hl 3 rfl) ?_
                refine W.eq (g2 := F0 m 70 ls [.int (iI (↑j)), .ref (a (4 + i))]) rfl ?_
                refine lv_aload_n hx hb dX2_init_2_70 rfl (lv_at hl 1 rfl) ?_
                refine h_get (a := b) (x := σ) hX hK (hR _ _ hS) 0 (by decide) q166 rfl dX2_init_2_71 ?_
                refine lv_iload_n hx hb dX2_init_2_74 rfl (lv_at hl 2 rfl) ?_
                refine h_row (a := b) hX hK (hR _ _ hS) i (⟨rfl, by omega⟩) dX2_init_2_75 ?_
                refine lv_iload_n hx hb dX2_init_2_76 rfl (lv_at hl 3 rfl) ?_
                refine h_ldd (a := b) (x := σ) hX hK (hR _ _ hS) i j (by omega) (⟨rfl, by omega⟩) dX2_init_2_77 ?_
                refine h_std hX hK hD hP hS i j (by omega) (⟨rfl, by omega⟩) dX2_init_2_78 (fun H locs hP hS => ?_)
                rw [show uA (sA zO 0 (cpH (σ 0) (i + 1) (7 * i + j))) 0 (12 + 7 * i + j) (σ 0 (12 + 7 * i + j)) = sA zO 0 (cpH (σ 0) (i + 1) (7 * i + (j + 1))) from uA_in.trans (congrArg (sA zO 0) (cpH_d (by omega)))] at hP
                refine z_iinc (y := ↑(j + 1)) (lv' := [(3, .int (iI (↑(j + 1)))), (0, .ref (a 0)), (1, .ref (b 0)), (2, .int (iI (↑i)))]) hX dX2_init_2_79 hl (k := 3) rfl (by omega) (by decide) rfl (fun ls hl => ?_)
                refine lv_goto (tgt := 57) hx hb dX2_init_2_82 (by decide) ?_
                exact ih57 (j + 1) (by omega) (by omega) _ _ _ hP hS (lv_sub hl [1, 2, 3, 0] rfl)
          exact L57 (8) (0) (by omega) (by omega) _ _ _ hP hS (lv_sub hl [1, 2, 3, 0] rfl)
    rw [show (fun _ _ => (0 : Int)) = sA zO 0 (cpH (σ 0) 0 (7 * 0)) from by rw [cpH_0]; exact (sA_self (x := zO) (j := 0)).symm] at hP
    exact L37 (8) (0) (by omega) (by omega) _ _ _ hP hS (lv_sub hl [1, 2, 0] rfl)
  exact L35 (hAd ho qd cs ac) (wD_all hW_ok hD) (hmf) (rfl) (hba9) _ _ _ hP hS (lv_sub hl [0, 1] rfl)
