/-! the house changes (1) -/
set_option maxRecDepth 100000
theorem hW_f3 {a : Nat → Nat} {cA : Nat → ClassId} {x : zT} {v : Int} : (hW a cA x).set 0 (a 0, .inr (1, (hF a x).set 3 (.int (iI v)))) = hW a cA (uA x 0 0 v) := by
  unfold hW
  rw [show hAc (uA x 0 0 v) = hAc x from rfl, hcsh_u (by omega), hrow_lo (by omega), hrow_lo (by omega), hrow_lo (by omega), hrow_lo (by omega), hrow_lo (by omega), hrow_lo (by omega), hrow_lo (by omega)]
  rfl
theorem hW_f4 {a : Nat → Nat} {cA : Nat → ClassId} {x : zT} {v : Int} : (hW a cA x).set 0 (a 0, .inr (1, (hF a x).set 4 (.int (iI v)))) = hW a cA (uA x 0 4 v) := by
  unfold hW
  rw [show hAc (uA x 0 4 v) = hAc x from rfl, hcsh_u (by omega), hrow_lo (by omega), hrow_lo (by omega), hrow_lo (by omega), hrow_lo (by omega), hrow_lo (by omega), hrow_lo (by omega), hrow_lo (by omega)]
  rfl
theorem hW_f5 {a : Nat → Nat} {cA : Nat → ClassId} {x : zT} {v : Int} : (hW a cA x).set 0 (a 0, .inr (1, (hF a x).set 5 (.int (iI v)))) = hW a cA (uA x 0 1 v) := by
  unfold hW
  rw [show hAc (uA x 0 1 v) = hAc x from rfl, hcsh_u (by omega), hrow_lo (by omega), hrow_lo (by omega), hrow_lo (by omega), hrow_lo (by omega), hrow_lo (by omega), hrow_lo (by omega), hrow_lo (by omega)]
  rfl
section
variable {p : Program} {l : Launch} {e : Env} {R : Room} {s : State} {m : MethodId} {args : Array Value} {below : List Frame} {meth : Method} {c : Code} {H H0 : Heap} {locs : List Loc} {cells slots : Nat} {Q : State → Prop}
variable {cc : ByteArray} {pc : Nat} {ls : Array Slot} {rest : List Value} {D : va_G} {cl : List vw_C} {A : Nat → Prop} {nL : Nat} {ret : Option FieldType} {tys : List (ClassId × FieldType)} {own : String}
theorem w_metRM {y : MethodName} {ws : List Cond} {rm : Room} {Qc : Array Value → State → Outcome → State → Prop} {mc ms maxL : Nat} {Z : zZ} {w : zT → va_W} {wr : va_W} {av : List Value} {sz b : Nat} {x : zT} (hy : plainName y.cls = true) (hw : ws = Cond.code y cc maxL ret :: lw_all) (ho : y.cls = own) (hwk : wOk w) (hn : (lg_sl av).length ≤ maxL)
    (body : ∀ p e s m below meth c, zX p s m av.toArray meth c cc own maxL ret → mFr b s.heap → s.heap.size = sz → va_K D cl tys s → va_P D cl (w x) s.heap → (∀ y, va_D (wA w sz) (w y)) → (∀ q, s.heap.size ≤ q → wA w sz q) → Z (wA w sz) s s.heap → va_S (wA w sz) s.heap s.heap [] → (∀ H locs, va_S (wA w sz) s.heap H locs → va_P D cl wr H) → (∀ (k : Nat) (q : Nat × va_E), wr[k]? = some q → ¬ wA w sz q.1) → ∀ ls, lv_has ls maxL (lv_args 0 av) → W p l e (headSpec ws rm).room s m av.toArray below meth c s.heap [] 0 0 (MQ below Qc av.toArray s mc ms (wA w sz)) (F0 m 0 ls [])) :
    Met l y ws rm (mPc b (wPc D cl tys Z w wr av sz x)) Qc mc ms (wA w sz) := by
  refine Met.ofW (cc := cc) (maxL := maxL) (ret := ret) hy hw ?_
  intro p e s m args below meth c s₁ B hml hv
  obtain ⟨⟨rfl, hsz, hP, hK, hD, hE, hR, hN⟩, hmf⟩ := hv
  have hts := atoms_spec (ws := ws) B.pre
  have hts : ∀ w ∈ lw_all, w.before _ s = true := fun w h => hts w (by rw [hw]; exact List.mem_cons_of_mem _ h)
  have hown : s.vm.findClass own = some m.cls := by rw [← ho]; exact findClass_of_methodNamed B.named
  have hl := lv_entry av (n := maxL) hn
  rw [lg_entry_eq]
  refine body p e s m below meth c ⟨B.exec, B.bytes, hml, hown, hts, B.returns, B.notSynchronized⟩ hmf hsz hK hP (wD_self hwk hD) (fun q h => Or.inr (by omega)) hE va_S.rf (fun H locs hS => ?_) hN _ hl
  refine hR.kept (fun k q hq => hS.2.1 q.1 ?_ (hN k q hq))
  exact (hR k q hq).lt
end
theorem cOwe_p {g : Nat → Int} {d c a : Int} (h : cPair g d c ≠ 0) : cOwe g d c a = cPair g d c := by
  unfold cOwe cPair at *
  by_cases h1 : mIs g d ∧ mIs g c
  · have e : ¬ ¬ (mIs g d ∧ mIs g c) := fun h => h h1
    rw [if_neg e] at h
    rw [if_neg e, if_neg e]
    by_cases h2 : d = c
    · rw [if_pos h2, if_pos (Or.inl h2)]
    · rw [if_neg h2] at h; exact absurd rfl h
  · rw [if_pos h1, if_pos h1]
theorem cOwe_a {g : Nat → Int} {d c a : Int} (h1 : mIs g d ∧ mIs g c) (h : ¬ mAm a) : cOwe g d c a = 2 := by
  unfold cOwe
  rw [if_neg (fun h => h h1), if_pos (Or.inr h)]
theorem cPay_p {g : Nat → Int} {d c a : Int} (h : cPair g d c ≠ 0) : cPay g d c a = cPair g d c := by
  unfold cPay cPair at *
  by_cases h1 : mIs g d ∧ mIs g c
  · have e : ¬ ¬ (mIs g d ∧ mIs g c) := fun h => h h1
    rw [if_neg e] at h
    rw [if_neg e, if_neg e]
    by_cases h2 : d = c
    · rw [if_pos h2, if_pos (Or.inl h2)]
    · rw [if_neg h2] at h; exact absurd rfl h
  · rw [if_pos h1, if_pos h1]
theorem cPay_a {g : Nat → Int} {d c a : Int} (h1 : mIs g d ∧ mIs g c) (h : ¬ mAm a) : cPay g d c a = 2 := by
  unfold cPay
  rw [if_neg (fun h => h h1), if_pos (Or.inr h)]
theorem cOwe_s {g : Nat → Int} {d c a : Int} (h1 : mIs g d ∧ mIs g c) (h2 : d ≠ c) (h : mAm a) (h3 : 999 < g (12 + 7 * d.toNat + c.toNat) + a) : cOwe g d c a = 3 := by
  unfold cOwe
  rw [if_neg (fun h => h h1), if_neg (fun q => q.elim h2 (fun q => q h)), if_pos h3]
theorem cPay_s {g : Nat → Int} {d c a : Int} (h1 : mIs g d ∧ mIs g c) (h2 : d ≠ c) (h : mAm a) (h3 : g (12 + 7 * d.toNat + c.toNat) < a) : cPay g d c a = 3 := by
  unfold cPay
  rw [if_neg (fun h => h h1), if_neg (fun q => q.elim h2 (fun q => q h)), if_pos h3]
theorem cPay_u {g : Nat → Int} {d c a : Int} (h1 : mIs g d ∧ mIs g c) (h2 : d ≠ c) (h : mAm a) (h3 : ¬ g (12 + 7 * d.toNat + c.toNat) < a) (h4 : g (5 + d.toNat) < a) : cPay g d c a = 4 := by
  unfold cPay
  rw [if_neg (fun h => h h1), if_neg (fun q => q.elim h2 (fun q => q h)), if_neg h3, if_pos h4]
theorem gA_cm {g : Nat → Int} {k j : Nat} {v u : Int} (h : k ≠ j) : gA (gA g k v) j u = gA (gA g j u) k v := by
  unfold gA
  rw [gU_ne (Ne.symm h), gU_ne h, gU_comm h]
theorem sMov_h {g : Nat → Int} {d c : Nat} {a : Int} (hd : d < 7) (hc : c < 7) : gA (gA (gA g (5 + d) (-a)) (5 + c) a) (12 + 7 * d + c) (-a) = sMov g d c a := by
  unfold sMov
  rw [gA_cm (k := 5 + c) (by omega), gA_cm (k := 5 + d) (by omega)]
set_option maxHeartbeats 4000000 in
theorem c_X2_transfer {l : Launch} {D : va_G} {Z : zZ} {cA : Nat → ClassId} (hZ : zOk Z) (hfl : l.stackTraces = false) (hz : ∀ A U H, Z A U H → zT9 A U H) (sz : Nat) {a : Nat → Nat} (σ : zT) (d1 d2 : Nat) (E1 E2 : Int) (h1 : E1 = d1 ∧ d1 < 7) (h2 : E2 = d2 ∧ d2 < 7) (A : Int) : Met l yX2_transfer (ws_ yX2_transfer cX2_transfer 4 (none)) { frames := 1, cells := 0, slots := 0, locals := 30 } (mPc (a 3) (wPc D vwCl (tyL cA) Z (hW a cA) [] [.ref (a 0), .int (iI (E1)), .int (iI (E2)), .int (iI (A))] sz σ)) (wQv D vwCl (hW a cA) (fun y => y = sA (sA σ 0 (sMov (σ 0) d1 d2 A)) 1 (gA (σ 1) 1 A)) sz) 0 0 (wA (hW a cA) sz) := by
  obtain ⟨rfl, h1⟩ := h1
  obtain ⟨rfl, h2⟩ := h2
  refine w_metRM (cc := cX2_transfer) (maxL := 4) (ret := none) (own := RX2) (by decide) rfl rfl hW_ok (Nat.le_of_ble_eq_true rfl) ?_
  intro p e s m below meth c hX hmf hsz hK hP hD hA hE hS hR hN ls hl
  have hx := hX.1
  have hb := hX.2.1
  have hz0 := hz _ _ _ hE
  have hl : lv_has ls 4 [(0, .ref (a 0)), (1, .int (iI (↑d1))), (2, .int (iI (↑d2))), (3, .int (iI (A)))] := hl
  refine lv_aload_n hx hb dX2_transfer_0 rfl (lv_at hl 0 rfl) ?_
  refine h_get hX hK hP 1 (by decide) q168 rfl dX2_transfer_1 ?_
  refine lv_iload_n hx hb dX2_transfer_4 rfl (lv_at hl 1 rfl) ?_
  refine lv_dup2_11 hx hb dX2_transfer_5 rfl rfl ?_
  refine h_ldc hX hK hP d1 (⟨rfl, by omega⟩) dX2_transfer_6 ?_
  refine lv_iload_n hx hb dX2_transfer_7 rfl (lv_at hl 3 rfl) ?_
  refine z_isub hX dX2_transfer_8 ?_
  refine h_stc hX hK hD hP hS d1 (⟨rfl, by omega⟩) dX2_transfer_9 (fun H locs hP hS => ?_)
  rw [show uA σ 0 (5 + d1) ((σ 0 (5 + d1)) - A) = sA σ 0 (gA (σ 0) (5 + d1) (-A)) from rfl] at hP
  refine lv_aload_n hx hb dX2_transfer_10 rfl (lv_at hl 0 rfl) ?_
  refine W.eq (g2 := F0 m 11 ls [.ref (a 0)]) rfl ?_
  refine h_get hX hK hP 1 (by decide) q168 rfl dX2_transfer_11 ?_
  refine lv_iload_n hx hb dX2_transfer_14 rfl (lv_at hl 2 rfl) ?_
  refine lv_dup2_11 hx hb dX2_transfer_15 rfl rfl ?_
  refine h_ldc hX hK hP d2 (⟨rfl, by omega⟩) dX2_transfer_16 ?_
  refine z_top (y := (gA (σ 0) (5 + d1) (-A)) (5 + d2)) (rfl) ?_
  refine lv_iload_n hx hb dX2_transfer_17 rfl (lv_at hl 3 rfl) ?_
  refine z_iadd hX dX2_transfer_18 ?_
  refine h_stc hX hK hD hP hS d2 (⟨rfl, by omega⟩) dX2_transfer_19 (fun H locs hP hS => ?_)
  rw [show uA (sA σ 0 (gA (σ 0) (5 + d1) (-A))) 0 (5 + d2) (((gA (σ 0) (5 + d1) (-A)) (5 + d2)) + A) = sA σ 0 (gA (gA (σ 0) (5 + d1) (-A)) (5 + d2) A) from uA_in] at hP
  refine lv_aload_n hx hb dX2_transfer_20 rfl (lv_at hl 0 rfl) ?_
  refine h_get hX hK hP 0 (by decide) q166 rfl dX2_transfer_21 ?_
  refine lv_iload_n hx hb dX2_transfer_24 rfl (lv_at hl 1 rfl) ?_
  refine W.eq (g2 := F0 m 25 ls [.int (iI (↑d1)), .ref (a 1)]) rfl ?_
  refine h_row hX hK hP d1 (⟨rfl, by omega⟩) dX2_transfer_25 ?_
  refine lv_iload_n hx hb dX2_transfer_26 rfl (lv_at hl 2 rfl) ?_
  refine lv_dup2_11 hx hb dX2_transfer_27 rfl rfl ?_
  refine h_ldd hX hK hP d1 d2 (by omega) (⟨rfl, by omega⟩) dX2_transfer_28 ?_
  refine z_top (y := (gA (gA (σ 0) (5 + d1) (-A)) (5 + d2) A) (12 + 7 * d1 + d2)) (rfl) ?_
  refine lv_iload_n hx hb dX2_transfer_29 rfl (lv_at hl 3 rfl) ?_
  refine z_isub hX dX2_transfer_30 ?_
  refine h_std hX hK hD hP hS d1 d2 (by omega) (⟨rfl, by omega⟩) dX2_transfer_31 (fun H locs hP hS => ?_)
  rw [show uA (sA σ 0 (gA (gA (σ 0) (5 + d1) (-A)) (5 + d2) A)) 0 (12 + 7 * d1 + d2) (((gA (gA (σ 0) (5 + d1) (-A)) (5 + d2) A) (12 + 7 * d1 + d2)) - A) = sA σ 0 (sMov (σ 0) d1 d2 A) from uA_in.trans (congrArg (sA σ 0) (sMov_h h1 h2))] at hP
  refine lv_aload_n hx hb dX2_transfer_32 rfl (lv_at hl 0 rfl) ?_
  refine h_get hX hK hP 2 (by decide) q170 rfl dX2_transfer_33 ?_
  refine lv_iload_n hx hb dX2_transfer_36 rfl (lv_at hl 3 rfl) ?_
  refine W.eq (g2 := F0 m 37 ls [.int (iI (A)), .ref (a 3)]) rfl ?_
  refine W_mon hmf (fun hm9 => ?_)
  refine w_callv (Z := Z) hD hA hS (va_runVS (n := 1) (As := [.int (iI (A))]) (rest := []) hX.fix (c_X3_pay _ (sA σ 0 (sMov (σ 0) d1 d2 A)) (A)) q468 q469 q470 q82 q471 rfl rfl (by decide +kernel) ⟨Nat.le_of_ble_eq_true rfl, Nat.le_of_ble_eq_true rfl⟩ (mPc_V (w_preV hZ hK hD hA hE hP hS (va_recv hK hP (ci := 2) (q0 := 3) vw_X3 hW_3)) hm9) rfl rfl hl.1 rfl (lv_room (Nat.le_of_ble_eq_true rfl)) dX2_transfer_37 ⟨Nat.le_of_ble_eq_true rfl, Nat.le_of_ble_eq_true rfl⟩) (fun y H locs hq hP hS => ?_)
  rw [show y = sA (sA σ 0 (sMov (σ 0) d1 d2 A)) 1 (gA (σ 1) 1 A) from hq.trans (rfl)] at hP
  exact w_vret hX hP hS (rfl) dX2_transfer_40
set_option maxHeartbeats 4000000 in
theorem c_X2_lessen {l : Launch} {D : va_G} {Z : zZ} {cA : Nat → ClassId} (hZ : zOk Z) (hfl : l.stackTraces = false) (hz : ∀ A U H, Z A U H → zT9 A U H) (sz : Nat) {a : Nat → Nat} (σ : zT) (d1 d2 : Nat) (E1 E2 : Int) (h1 : E1 = d1 ∧ d1 < 7) (h2 : E2 = d2 ∧ d2 < 7) (A : Int) (hr : (-2147483648 ≤ A ∧ A ≤ 2147483647)) : Met l yX2_lessen (ws_ yX2_lessen cX2_lessen 4 (none)) { frames := 1, cells := 0, slots := 0, locals := 30 } (mPc (a 3) (wPc D vwCl (tyL cA) Z (hW a cA) [] [.ref (a 0), .int (iI (E1)), .int (iI (E2)), .int (iI (A))] sz σ)) (wQv D vwCl (hW a cA) (fun y => y = sA σ 0 (gA (gA (σ 0) (12 + 7 * d1 + d2) (-A)) 2 A)) sz) 0 0 (wA (hW a cA) sz) := by
  obtain ⟨rfl, h1⟩ := h1
  obtain ⟨rfl, h2⟩ := h2
  refine w_metRM (cc := cX2_lessen) (maxL := 4) (ret := none) (own := RX2) (by decide) rfl rfl hW_ok (Nat.le_of_ble_eq_true rfl) ?_
  intro p e s m below meth c hX hmf hsz hK hP hD hA hE hS hR hN ls hl
  have hx := hX.1
  have hb := hX.2.1
  have hz0 := hz _ _ _ hE
  have hl : lv_has ls 4 [(0, .ref (a 0)), (1, .int (iI (↑d1))), (2, .int (iI (↑d2))), (3, .int (iI (A)))] := hl
  refine lv_aload_n hx hb dX2_lessen_0 rfl (lv_at hl 0 rfl) ?_
  refine h_get hX hK hP 0 (by decide) q166 rfl dX2_lessen_1 ?_
  refine lv_iload_n hx hb dX2_lessen_4 rfl (lv_at hl 1 rfl) ?_
  refine h_row hX hK hP d1 (⟨rfl, by omega⟩) dX2_lessen_5 ?_
  refine lv_iload_n hx hb dX2_lessen_6 rfl (lv_at hl 2 rfl) ?_
  refine lv_dup2_11 hx hb dX2_lessen_7 rfl rfl ?_
  refine h_ldd hX hK hP d1 d2 (by omega) (⟨rfl, by omega⟩) dX2_lessen_8 ?_
  refine lv_iload_n hx hb dX2_lessen_9 rfl (lv_at hl 3 rfl) ?_
  refine z_isub hX dX2_lessen_10 ?_
  refine W.eq (g2 := F0 m 11 ls [.int (iI ((σ 0 (12 + 7 * d1 + d2)) - A)), .int (iI (↑d2)), .ref (a (4 + d1))]) rfl ?_
  refine h_std hX hK hD hP hS d1 d2 (by omega) (⟨rfl, by omega⟩) dX2_lessen_11 (fun H locs hP hS => ?_)
  rw [show uA σ 0 (12 + 7 * d1 + d2) ((σ 0 (12 + 7 * d1 + d2)) - A) = sA σ 0 (gA (σ 0) (12 + 7 * d1 + d2) (-A)) from rfl] at hP
  refine lv_aload_n hx hb dX2_lessen_12 rfl (lv_at hl 0 rfl) ?_
  refine h_get hX hK hP 2 (by decide) q170 rfl dX2_lessen_13 ?_
  refine lv_iload_n hx hb dX2_lessen_16 rfl (lv_at hl 3 rfl) ?_
  refine W_mon hmf (fun hm9 => ?_)
  refine w_callv (Z := Z) hD hA hS (va_runVS (n := 1) (As := [.int (iI (A))]) (rest := []) hX.fix (c_X3_net _ (sA σ 0 (gA (σ 0) (12 + 7 * d1 + d2) (-A))) (A) hr) q483 q484 q485 q82 q486 rfl rfl (by decide +kernel) ⟨Nat.le_of_ble_eq_true rfl, Nat.le_of_ble_eq_true rfl⟩ (mPc_V (w_preV hZ hK hD hA hE hP hS (va_recv hK hP (ci := 2) (q0 := 3) vw_X3 hW_3)) hm9) rfl rfl hl.1 rfl (lv_room (Nat.le_of_ble_eq_true rfl)) dX2_lessen_17 ⟨Nat.le_of_ble_eq_true rfl, Nat.le_of_ble_eq_true rfl⟩) (fun y H locs hq hP hS => ?_)
  rw [show y = sA σ 0 (gA (gA (σ 0) (12 + 7 * d1 + d2) (-A)) 2 A) from hq.trans (uA_in)] at hP
  exact w_vret hX hP hS (rfl) dX2_lessen_20
set_option maxHeartbeats 4000000 in
theorem c_X2_addParty {l : Launch} {D : va_G} {Z : zZ} {cA : Nat → ClassId} (hZ : zOk Z) (hfl : l.stackTraces = false) (hz : ∀ A U H, Z A U H → zT9 A U H) (sz : Nat) {a : Nat → Nat} (σ : zT) (n0 : Nat) (hn : σ 0 0 = n0 ∧ n0 ≤ 7) (P : Int) (hr : (-2147483648 ≤ P ∧ P ≤ 2147483647)) : vx_Met l yX2_addParty (ws_ yX2_addParty cX2_addParty 2 (some .int)) { frames := 7, cells := 2, slots := 12, locals := 120 } (wPc D vwCl (tyL cA) Z (hW a cA) [] [.ref (a 0), .int (iI (P))] sz σ) (wQi D vwCl (hW a cA) (fun r y => r = iI (σ 0 0) ∧ y = sA σ 0 (sAdd (σ 0) n0 P)) sz) (xQ (fun k => (cAdd (σ 0) P = 1 ∧ k = 2) ∨ (cAdd (σ 0) P = 2 ∧ k = 3)) (wA (hW a cA) sz)) 2 12 (wA (hW a cA) sz) := by
  refine w_metX (cc := cX2_addParty) (maxL := 2) (ret := some .int) (own := RX2) (by decide) rfl rfl hW_ok (Nat.le_of_ble_eq_true rfl) ?_
  intro p e s m below meth c hX ht hsz hK hP hD hA hE hS hR hN ls hl
  have hx := hX.1
  have hb := hX.2.1
  have hz0 := hz _ _ _ hE
  have hl : lv_has ls 2 [(0, .ref (a 0)), (1, .int (iI (P)))] := hl
  refine lv_iload_n hx hb dX2_addParty_0 rfl (lv_at hl 1 rfl) ?_
  refine z_iconst hX dX2_addParty_1 ?_
  refine z_sipush hX dX2_addParty_2 (by decide) ?_
  refine r_calli hA hP hS (va_runSN (As := [.int (iI (P)), .int (iI (0)), .int (iI (999))]) (rest := []) hX.fix (c_X1_isBetween hZ _ (P) (0) (999) (by omega)) ⟨va_cnB 3 hX.hts (lw_meth q327) rfl rfl rfl (hz0.1 _ q419 rfl) (hX.hts _ q80) (by decide +kernel) ⟨Nat.le_of_ble_eq_true rfl, Nat.le_of_ble_eq_true rfl⟩, hX.hts _ q326, trivial⟩ (r_preS hZ hK hA hE (fun k q h => by cases h) hS) rfl rfl hl.1 rfl (lv_room (Nat.le_of_ble_eq_true rfl)) dX2_addParty_5 ⟨Nat.le_of_ble_eq_true rfl, Nat.le_of_ble_eq_true rfl⟩) (fun r y H locs hq hP hS => ?_)
  rw [show r = iI (bI (0 ≤ P ∧ P ≤ 999)) from hq]
  refine x_callv hX ht hA hP hS (vx_runSN (As := [.int (iI (bI (0 ≤ P ∧ P ≤ 999)))]) (rest := []) hX.fix (c_X1_requireArgument hZ hfl hz _ (bI (0 ≤ P ∧ P ≤ 999)) (bI_01)) ⟨va_cnB 1 hX.hts (lw_meth q400) rfl rfl rfl (hz0.1 _ q398 rfl) (hX.hts _ q80) (by decide +kernel) ⟨Nat.le_of_ble_eq_true rfl, Nat.le_of_ble_eq_true rfl⟩, hX.hts _ q399, trivial⟩ (r_preS hZ hK hA hE (fun k q h => by cases h) hS) rfl rfl hl.1 rfl (lv_room (Nat.le_of_ble_eq_true rfl)) dX2_addParty_8 ⟨Nat.le_of_ble_eq_true rfl, Nat.le_of_ble_eq_true rfl⟩) (fun k hk => Or.inl ⟨if_pos (fun h => by rw [bI_t h] at hk; exact absurd hk.1 (by decide)), hk.2⟩) ⟨Nat.le_of_ble_eq_true rfl, Nat.le_of_ble_eq_true rfl⟩ (fun y H locs hq hP hS => ?_)
  have ham : 0 ≤ P ∧ P ≤ 999 := Decidable.by_contra (fun h => by rw [bI_f h] at hq; exact absurd hq (by decide))
  refine lv_aload_n hx hb dX2_addParty_11 rfl (lv_at hl 0 rfl) ?_
  refine h_get hX hK hP 3 (by decide) q172 rfl dX2_addParty_12 ?_
  refine z_bipush hX dX2_addParty_15 (by decide) ?_
  refine z_icmp_ge (tgt := 24) hX (by omega) dX2_addParty_17 (by decide) (fun c_17 => ?_) (fun c_17 => ?_)
  · skip
    refine W.eq (g2 := F0 m 24 ls []) rfl ?_
    refine z_iconst hX dX2_addParty_24 ?_
    refine x_callv hX ht hA hP hS (vx_runSN (As := [.int (iI (0))]) (rest := []) hX.fix (c_X1_requireState hZ hfl hz _ (0) (by decide)) ⟨va_cnB 1 hX.hts (lw_meth q422) rfl rfl rfl (hz0.1 _ q420 rfl) (hX.hts _ q80) (by decide +kernel) ⟨Nat.le_of_ble_eq_true rfl, Nat.le_of_ble_eq_true rfl⟩, hX.hts _ q421, trivial⟩ (r_preS hZ hK hA hE (fun k q h => by cases h) hS) rfl rfl hl.1 rfl (lv_room (Nat.le_of_ble_eq_true rfl)) dX2_addParty_25 ⟨Nat.le_of_ble_eq_true rfl, Nat.le_of_ble_eq_true rfl⟩) (fun k hk => Or.inr ⟨(if_neg (fun h => h ham)).trans (if_pos (by omega)), hk.2⟩) ⟨Nat.le_of_ble_eq_true rfl, Nat.le_of_ble_eq_true rfl⟩ (fun y H locs hq hP hS => ?_)
    exact absurd hq (by decide)
  · skip
    refine z_iconst hX dX2_addParty_20 ?_
    refine lv_goto (tgt := 25) hx hb dX2_addParty_21 (by decide) ?_
    refine x_callv hX ht hA hP hS (vx_runSN (As := [.int (iI (1))]) (rest := []) hX.fix (c_X1_requireState hZ hfl hz _ (1) (by decide)) ⟨va_cnB 1 hX.hts (lw_meth q422) rfl rfl rfl (hz0.1 _ q420 rfl) (hX.hts _ q80) (by decide +kernel) ⟨Nat.le_of_ble_eq_true rfl, Nat.le_of_ble_eq_true rfl⟩, hX.hts _ q421, trivial⟩ (r_preS hZ hK hA hE (fun k q h => by cases h) hS) rfl rfl hl.1 rfl (lv_room (Nat.le_of_ble_eq_true rfl)) dX2_addParty_25 ⟨Nat.le_of_ble_eq_true rfl, Nat.le_of_ble_eq_true rfl⟩) (fun k hk => absurd hk.1 (by decide)) ⟨Nat.le_of_ble_eq_true rfl, Nat.le_of_ble_eq_true rfl⟩ (fun y H locs hq hP hS => ?_)
    refine lv_aload_n hx hb dX2_addParty_28 rfl (lv_at hl 0 rfl) ?_
    refine h_get hX hK hP 1 (by decide) q168 rfl dX2_addParty_29 ?_
    refine lv_aload_n hx hb dX2_addParty_32 rfl (lv_at hl 0 rfl) ?_
    refine h_get hX hK hP 3 (by decide) q172 rfl dX2_addParty_33 ?_
    refine lv_iload_n hx hb dX2_addParty_36 rfl (lv_at hl 1 rfl) ?_
    refine W.eq (g2 := F0 m 37 ls [.int (iI (P)), .int (iI (σ 0 0)), .ref (a 2)]) rfl ?_
    refine h_stc hX hK hD hP hS n0 ((by omega)) dX2_addParty_37 (fun H locs hP hS => ?_)
    rw [show uA σ 0 (5 + n0) P = sA σ 0 (gU (σ 0) (5 + n0) P) from rfl] at hP
    refine lv_aload_n hx hb dX2_addParty_38 rfl (lv_at hl 0 rfl) ?_
    refine lv_dup hx hb dX2_addParty_39 rfl ?_
    refine h_get hX hK hP 3 (by decide) q172 rfl dX2_addParty_40 ?_
    refine z_top (y := (gU (σ 0) (5 + n0) P) 0) (by rw [sA_j]) ?_
    refine z_top (y := σ 0 0) (gU_ne (by omega)) ?_
    refine z_iconst hX dX2_addParty_43 ?_
    refine z_iadd hX dX2_addParty_44 ?_
    refine w_put (w := hW a cA) (x := sA σ 0 (gU (σ 0) (5 + n0) P)) (x' := uA (sA σ 0 (gU (σ 0) (5 + n0) P)) 0 0 ((σ 0 0) + 1)) hX hK hD hP hS in_X2 tyX2 tyX2_ok nmX2 0 rfl vw_X2 3 (by decide) q172 rfl rfl rfl (Nat.le_of_ble_eq_true rfl) hW_f3 dX2_addParty_45 (fun H locs hP hS => ?_)
    rw [show uA (sA σ 0 (gU (σ 0) (5 + n0) P)) 0 0 ((σ 0 0) + 1) = sA σ 0 (sAdd (σ 0) n0 P) from uA_in] at hP
    refine lv_aload_n hx hb dX2_addParty_48 rfl (lv_at hl 0 rfl) ?_
    refine h_get hX hK hP 3 (by decide) q172 rfl dX2_addParty_49 ?_
    refine z_top (y := (sAdd (σ 0) n0 P) 0) (by rw [sA_j]) ?_
    refine z_top (y := σ 0 0 + 1) (gU_eq) ?_
    refine z_iconst hX dX2_addParty_52 ?_
    refine W.eq (g2 := F0 m 53 ls [.int (iI (1)), .int (iI (σ 0 0 + 1))]) rfl ?_
    refine z_isub hX dX2_addParty_53 ?_
    refine vx_ret ?_
    exact w_iret hX hP hS (⟨by rw [show σ 0 0 + 1 - 1 = σ 0 0 by omega], rfl⟩) dX2_addParty_54
set_option maxHeartbeats 4000000 in
theorem c_X2_deposit {l : Launch} {D : va_G} {Z : zZ} {cA : Nat → ClassId} (hZ : zOk Z) (hfl : l.stackTraces = false) (hz : ∀ A U H, Z A U H → zT9 A U H) (sz : Nat) {a : Nat → Nat} (σ : zT) (n0 : Nat) (hn : σ 0 0 = n0 ∧ n0 ≤ 7) (P A : Int) (hr : (-2147483648 ≤ P ∧ P ≤ 2147483647) ∧ (-2147483648 ≤ A ∧ A ≤ 2147483647)) : vx_Met l yX2_deposit (ws_ yX2_deposit cX2_deposit 3 (some .int)) { frames := 8, cells := 2, slots := 12, locals := 142 } (wPc D vwCl (tyL cA) Z (hW a cA) [] [.ref (a 0), .int (iI (P)), .int (iI (A))] sz σ) (wQi D vwCl (hW a cA) (fun r y => r = iI (σ 0 (5 + P.toNat) + A) ∧ y = sA σ 0 (gA (σ 0) (5 + P.toNat) A)) sz) (xQ (fun k => cDep (σ 0) P A ≠ 0 ∧ k = cDep (σ 0) P A) (wA (hW a cA) sz)) 2 12 (wA (hW a cA) sz) := by
  refine w_metX (cc := cX2_deposit) (maxL := 3) (ret := some .int) (own := RX2) (by decide) rfl rfl hW_ok (Nat.le_of_ble_eq_true rfl) ?_
  intro p e s m below meth c hX ht hsz hK hP hD hA hE hS hR hN ls hl
  have hx := hX.1
  have hb := hX.2.1
  have hz0 := hz _ _ _ hE
  have hl : lv_has ls 3 [(0, .ref (a 0)), (1, .int (iI (P))), (2, .int (iI (A)))] := hl
  refine lv_aload_n hx hb dX2_deposit_0 rfl (lv_at hl 0 rfl) ?_
  refine lv_iload_n hx hb dX2_deposit_1 rfl (lv_at hl 1 rfl) ?_
  refine x_callv hX ht hA hP hS (vx_runV (As := [.int (iI (P))]) (rest := []) hX.fix (c_X2_requireParty hZ hfl hz _ σ n0 hn (P) (by omega)) (cwV 1 hX.hts (lw_V q318 q319 q320 q81 q321) rfl rfl rfl (by decide +kernel) ⟨Nat.le_of_ble_eq_true rfl, Nat.le_of_ble_eq_true rfl⟩) (r_preV hZ hK hA hE hP hS (va_recv hK hP (ci := 1) (q0 := 0) vw_X2 hW_0)) rfl rfl hl.1 rfl (lv_room (Nat.le_of_ble_eq_true rfl)) dX2_deposit_2 ⟨Nat.le_of_ble_eq_true rfl, Nat.le_of_ble_eq_true rfl⟩) (fun k hk => by rw [show cDep (σ 0) P A = 1 from if_pos hk.1]; exact ⟨by decide, hk.2⟩) ⟨Nat.le_of_ble_eq_true rfl, Nat.le_of_ble_eq_true rfl⟩ (fun y H locs hq hP hS => ?_)
  have hq1 := hq
  refine lv_iload_n hx hb dX2_deposit_5 rfl (lv_at hl 2 rfl) ?_
  refine x_callv hX ht hA hP hS (vx_runS (As := [.int (iI (A))]) (rest := []) hX.fix (c_X2_requireAmount hZ hfl hz _ (A) (by omega)) (va_cwS 1 hX.hts (lw_S q416 q417 q81 q418) rfl rfl rfl (by decide +kernel) ⟨Nat.le_of_ble_eq_true rfl, Nat.le_of_ble_eq_true rfl⟩) (r_preS hZ hK hA hE (fun k q h => by cases h) hS) rfl rfl hl.1 rfl (lv_room (Nat.le_of_ble_eq_true rfl)) dX2_deposit_6 ⟨Nat.le_of_ble_eq_true rfl, Nat.le_of_ble_eq_true rfl⟩) (fun k hk => by rw [show cDep (σ 0) P A = 2 from (if_neg (fun h => h hq1)).trans (if_pos hk.1)]; exact ⟨by decide, hk.2⟩) ⟨Nat.le_of_ble_eq_true rfl, Nat.le_of_ble_eq_true rfl⟩ (fun y H locs hq hP hS => ?_)
  obtain ⟨d1, rfl, hd1⟩ : ∃ d : Nat, P = (d : Int) ∧ d < n0 := ⟨P.toNat, by have h8 : 0 ≤ P ∧ P ≤ σ 0 0 - 1 := hq1; omega, by have h8 : 0 ≤ P ∧ P ≤ σ 0 0 - 1 := hq1; omega⟩
  refine lv_aload_n hx hb dX2_deposit_9 rfl (lv_at hl 0 rfl) ?_
  refine h_get hX hK hP 1 (by decide) q168 rfl dX2_deposit_10 ?_
  refine lv_iload_n hx hb dX2_deposit_13 rfl (lv_at hl 1 rfl) ?_
  refine lv_dup2_11 hx hb dX2_deposit_14 rfl rfl ?_
  refine W.eq (g2 := F0 m 15 ls [.int (iI (↑d1)), .ref (a 2), .int (iI (↑d1)), .ref (a 2)]) rfl ?_
  refine h_ldc hX hK hP d1 (⟨rfl, by omega⟩) dX2_deposit_15 ?_
  refine lv_iload_n hx hb dX2_deposit_16 rfl (lv_at hl 2 rfl) ?_
  refine z_iadd hX dX2_deposit_17 ?_
  refine h_stc hX hK hD hP hS d1 (⟨rfl, by omega⟩) dX2_deposit_18 (fun H locs hP hS => ?_)
  rw [show uA σ 0 (5 + d1) ((σ 0 (5 + d1)) + A) = sA σ 0 (gA (σ 0) (5 + d1) A) from rfl] at hP
  refine lv_aload_n hx hb dX2_deposit_19 rfl (lv_at hl 0 rfl) ?_
  refine h_get hX hK hP 1 (by decide) q168 rfl dX2_deposit_20 ?_
  refine lv_iload_n hx hb dX2_deposit_23 rfl (lv_at hl 1 rfl) ?_
  refine h_ldc hX hK hP d1 (⟨rfl, by omega⟩) dX2_deposit_24 ?_
  refine z_top (y := σ 0 (5 + d1) + A) (gU_eq) ?_
  refine vx_ret ?_
  exact w_iret hX hP hS (⟨rfl, rfl⟩) dX2_deposit_25
set_option maxHeartbeats 4000000 in
theorem c_X2_owe {l : Launch} {D : va_G} {Z : zZ} {cA : Nat → ClassId} (hZ : zOk Z) (hfl : l.stackTraces = false) (hz : ∀ A U H, Z A U H → zT9 A U H) (sz : Nat) {a : Nat → Nat} (σ : zT) (n0 : Nat) (hn : σ 0 0 = n0 ∧ n0 ≤ 7) (B : Int) (hgo : gOk (σ 0) B) (P P2 A : Int) (hr : (-2147483648 ≤ P ∧ P ≤ 2147483647) ∧ (-2147483648 ≤ P2 ∧ P2 ≤ 2147483647) ∧ (-2147483648 ≤ A ∧ A ≤ 2147483647)) : vx_Met l yX2_owe (ws_ yX2_owe cX2_owe 4 (some .int)) { frames := 10, cells := 5, slots := 30, locals := 186 } (mPc (a 3) (wPc D vwCl (tyL cA) Z (hW a cA) [] [.ref (a 0), .int (iI (P)), .int (iI (P2)), .int (iI (A))] sz σ)) (wQi D vwCl (hW a cA) (fun r y => r = iI (σ 0 (12 + 7 * P.toNat + P2.toNat) + A) ∧ y = sA (sA σ 0 (gA (σ 0) (12 + 7 * P.toNat + P2.toNat) A)) 1 (gA (σ 1) 0 A)) sz) (xQ (fun k => cOwe (σ 0) P P2 A ≠ 0 ∧ k = cOwe (σ 0) P P2 A) (wA (hW a cA) sz)) 5 30 (wA (hW a cA) sz) := by
  refine w_metXM (cc := cX2_owe) (maxL := 4) (ret := some .int) (own := RX2) (by decide) rfl rfl hW_ok (Nat.le_of_ble_eq_true rfl) ?_
  intro p e s m below meth c hX ht hmf hsz hK hP hD hA hE hS hR hN ls hl
  have hx := hX.1
  have hb := hX.2.1
  have hz0 := hz _ _ _ hE
  have hl : lv_has ls 4 [(0, .ref (a 0)), (1, .int (iI (P))), (2, .int (iI (P2))), (3, .int (iI (A)))] := hl
  refine lv_aload_n hx hb dX2_owe_0 rfl (lv_at hl 0 rfl) ?_
  refine lv_iload_n hx hb dX2_owe_1 rfl (lv_at hl 1 rfl) ?_
  refine lv_iload_n hx hb dX2_owe_2 rfl (lv_at hl 2 rfl) ?_
  refine x_callv hX ht hA hP hS (vx_runV (As := [.int (iI (P)), .int (iI (P2))]) (rest := []) hX.fix (c_X2_requireDifferent hZ hfl hz _ σ n0 hn (P) (P2) (by omega)) (cwV 2 hX.hts (lw_V q310 q312 qs1 q81 q313) rfl rfl rfl (by decide +kernel) ⟨Nat.le_of_ble_eq_true rfl, Nat.le_of_ble_eq_true rfl⟩) (r_preV hZ hK hA hE hP hS (va_recv hK hP (ci := 1) (q0 := 0) vw_X2 hW_0)) rfl rfl hl.1 rfl (lv_room (Nat.le_of_ble_eq_true rfl)) dX2_owe_3 ⟨Nat.le_of_ble_eq_true rfl, Nat.le_of_ble_eq_true rfl⟩) (fun k hk => by rw [cOwe_p hk.1]; exact hk) ⟨Nat.le_of_ble_eq_true rfl, Nat.le_of_ble_eq_true rfl⟩ (fun y H locs hq hP hS => ?_)
  have hq1 := hq
  obtain ⟨d1, rfl, hd1⟩ : ∃ d : Nat, P = (d : Int) ∧ d < n0 := ⟨P.toNat, by have h8 : 0 ≤ P ∧ P ≤ σ 0 0 - 1 := hq.1.1; omega, by have h8 : 0 ≤ P ∧ P ≤ σ 0 0 - 1 := hq.1.1; omega⟩
  obtain ⟨d2, rfl, hd2⟩ : ∃ d : Nat, P2 = (d : Int) ∧ d < n0 := ⟨P2.toNat, by have h8 : 0 ≤ P2 ∧ P2 ≤ σ 0 0 - 1 := hq.1.2; omega, by have h8 : 0 ≤ P2 ∧ P2 ≤ σ 0 0 - 1 := hq.1.2; omega⟩
  refine lv_iload_n hx hb dX2_owe_6 rfl (lv_at hl 3 rfl) ?_
  refine x_callv hX ht hA hP hS (vx_runS (As := [.int (iI (A))]) (rest := []) hX.fix (c_X2_requireAmount hZ hfl hz _ (A) (by omega)) (va_cwS 1 hX.hts (lw_S q416 q417 q81 q418) rfl rfl rfl (by decide +kernel) ⟨Nat.le_of_ble_eq_true rfl, Nat.le_of_ble_eq_true rfl⟩) (r_preS hZ hK hA hE (fun k q h => by cases h) hS) rfl rfl hl.1 rfl (lv_room (Nat.le_of_ble_eq_true rfl)) dX2_owe_7 ⟨Nat.le_of_ble_eq_true rfl, Nat.le_of_ble_eq_true rfl⟩) (fun k hk => by rw [cOwe_a hq1.1 hk.1]; exact ⟨by decide, hk.2⟩) ⟨Nat.le_of_ble_eq_true rfl, Nat.le_of_ble_eq_true rfl⟩ (fun y H locs hq hP hS => ?_)
  have hdd := hgo.2.2.1 d1 d2 (by omega) (by omega)
  have ham : 1 ≤ A ∧ A ≤ 999 := hq
  refine lv_aload_n hx hb dX2_owe_10 rfl (lv_at hl 0 rfl) ?_
  refine h_get hX hK hP 0 (by decide) q166 rfl dX2_owe_11 ?_
  refine lv_iload_n hx hb dX2_owe_14 rfl (lv_at hl 1 rfl) ?_
  refine W.eq (g2 := F0 m 15 ls [.int (iI (↑d1)), .ref (a 1)]) rfl ?_
  refine h_row hX hK hP d1 (⟨rfl, by omega⟩) dX2_owe_15 ?_
  refine lv_iload_n hx hb dX2_owe_16 rfl (lv_at hl 2 rfl) ?_
  refine h_ldd hX hK hP d1 d2 (by omega) (⟨rfl, by omega⟩) dX2_owe_17 ?_
  refine lv_iload_n hx hb dX2_owe_18 rfl (lv_at hl 3 rfl) ?_
  refine z_iadd hX dX2_owe_19 ?_
  refine z_sipush hX dX2_owe_20 (by decide) ?_
  refine z_icmp_gt (tgt := 30) hX (by omega) dX2_owe_23 (by decide) (fun c_23 => ?_) (fun c_23 => ?_)
  · skip
    refine z_iconst hX dX2_owe_30 ?_
    refine x_callv hX ht hA hP hS (vx_runSN (As := [.int (iI (0))]) (rest := []) hX.fix (c_X1_requireState hZ hfl hz _ (0) (by decide)) ⟨va_cnB 1 hX.hts (lw_meth q422) rfl rfl rfl (hz0.1 _ q420 rfl) (hX.hts _ q80) (by decide +kernel) ⟨Nat.le_of_ble_eq_true rfl, Nat.le_of_ble_eq_true rfl⟩, hX.hts _ q421, trivial⟩ (r_preS hZ hK hA hE (fun k q h => by cases h) hS) rfl rfl hl.1 rfl (lv_room (Nat.le_of_ble_eq_true rfl)) dX2_owe_31 ⟨Nat.le_of_ble_eq_true rfl, Nat.le_of_ble_eq_true rfl⟩) (fun k hk => by rw [cOwe_s hq1.1 hq1.2 ham (by exact c_23)]; exact ⟨by decide, hk.2⟩) ⟨Nat.le_of_ble_eq_true rfl, Nat.le_of_ble_eq_true rfl⟩ (fun y H locs hq hP hS => ?_)
    exact absurd hq (by decide)
  · skip
    refine z_iconst hX dX2_owe_26 ?_
    refine lv_goto (tgt := 31) hx hb dX2_owe_27 (by decide) ?_
    refine x_callv hX ht hA hP hS (vx_runSN (As := [.int (iI (1))]) (rest := []) hX.fix (c_X1_requireState hZ hfl hz _ (1) (by decide)) ⟨va_cnB 1 hX.hts (lw_meth q422) rfl rfl rfl (hz0.1 _ q420 rfl) (hX.hts _ q80) (by decide +kernel) ⟨Nat.le_of_ble_eq_true rfl, Nat.le_of_ble_eq_true rfl⟩, hX.hts _ q421, trivial⟩ (r_preS hZ hK hA hE (fun k q h => by cases h) hS) rfl rfl hl.1 rfl (lv_room (Nat.le_of_ble_eq_true rfl)) dX2_owe_31 ⟨Nat.le_of_ble_eq_true rfl, Nat.le_of_ble_eq_true rfl⟩) (fun k hk => absurd hk.1 (by decide)) ⟨Nat.le_of_ble_eq_true rfl, Nat.le_of_ble_eq_true rfl⟩ (fun y H locs hq hP hS => ?_)
    refine lv_aload_n hx hb dX2_owe_34 rfl (lv_at hl 0 rfl) ?_
    refine h_get hX hK hP 0 (by decide) q166 rfl dX2_owe_35 ?_
    refine lv_iload_n hx hb dX2_owe_38 rfl (lv_at hl 1 rfl) ?_
    refine h_row hX hK hP d1 (⟨rfl, by omega⟩) dX2_owe_39 ?_
    refine lv_iload_n hx hb dX2_owe_40 rfl (lv_at hl 2 rfl) ?_
    refine lv_dup2_11 hx hb dX2_owe_41 rfl rfl ?_
    refine h_ldd hX hK hP d1 d2 (by omega) (⟨rfl, by omega⟩) dX2_owe_42 ?_
    refine lv_iload_n hx hb dX2_owe_43 rfl (lv_at hl 3 rfl) ?_
    refine W.eq (g2 := F0 m 44 ls [.int (iI (A)), .int (iI (σ 0 (12 + 7 * d1 + d2))), .int (iI (↑d2)), .ref (a (4 + d1))]) rfl ?_
    refine z_iadd hX dX2_owe_44 ?_
    refine h_std hX hK hD hP hS d1 d2 (by omega) (⟨rfl, by omega⟩) dX2_owe_45 (fun H locs hP hS => ?_)
    rw [show uA σ 0 (12 + 7 * d1 + d2) ((σ 0 (12 + 7 * d1 + d2)) + A) = sA σ 0 (gA (σ 0) (12 + 7 * d1 + d2) A) from rfl] at hP
    refine lv_aload_n hx hb dX2_owe_46 rfl (lv_at hl 0 rfl) ?_
    refine h_get hX hK hP 2 (by decide) q170 rfl dX2_owe_47 ?_
    refine lv_iload_n hx hb dX2_owe_50 rfl (lv_at hl 3 rfl) ?_
    refine W_mon hmf (fun hm9 => ?_)
    refine w_callv (Z := Z) hD hA hS (va_runVS (n := 1) (As := [.int (iI (A))]) (rest := []) hX.fix (c_X3_make _ (sA σ 0 (gA (σ 0) (12 + 7 * d1 + d2) A)) (A)) q438 q439 q440 q82 q441 rfl rfl (by decide +kernel) ⟨Nat.le_of_ble_eq_true rfl, Nat.le_of_ble_eq_true rfl⟩ (mPc_V (w_preV hZ hK hD hA hE hP hS (va_recv hK hP (ci := 2) (q0 := 3) vw_X3 hW_3)) hm9) rfl rfl hl.1 rfl (lv_room (Nat.le_of_ble_eq_true rfl)) dX2_owe_51 ⟨Nat.le_of_ble_eq_true rfl, Nat.le_of_ble_eq_true rfl⟩) (fun y H locs hq hP hS => ?_)
    rw [show y = sA (sA σ 0 (gA (σ 0) (12 + 7 * d1 + d2) A)) 1 (gA (σ 1) 0 A) from hq.trans (rfl)] at hP
    refine lv_aload_n hx hb dX2_owe_54 rfl (lv_at hl 0 rfl) ?_
    refine h_get hX hK hP 0 (by decide) q166 rfl dX2_owe_55 ?_
    refine lv_iload_n hx hb dX2_owe_58 rfl (lv_at hl 1 rfl) ?_
    refine h_row hX hK hP d1 (⟨rfl, by omega⟩) dX2_owe_59 ?_
    refine W.eq (g2 := F0 m 60 ls [.ref (a (4 + d1))]) rfl ?_
    refine lv_iload_n hx hb dX2_owe_60 rfl (lv_at hl 2 rfl) ?_
    refine h_ldd hX hK hP d1 d2 (by omega) (⟨rfl, by omega⟩) dX2_owe_61 ?_
    refine z_top (y := σ 0 (12 + 7 * d1 + d2) + A) (gU_eq) ?_
    refine vx_ret ?_
    exact w_iret hX hP hS (⟨rfl, rfl⟩) dX2_owe_62
set_option maxHeartbeats 4000000 in
theorem c_X2_pay {l : Launch} {D : va_G} {Z : zZ} {cA : Nat → ClassId} (hZ : zOk Z) (hfl : l.stackTraces = false) (hz : ∀ A U H, Z A U H → zT9 A U H) (sz : Nat) {a : Nat → Nat} (σ : zT) (n0 : Nat) (hn : σ 0 0 = n0 ∧ n0 ≤ 7) (B : Int) (hgo : gOk (σ 0) B) (P P2 A : Int) (hr : (-2147483648 ≤ P ∧ P ≤ 2147483647) ∧ (-2147483648 ≤ P2 ∧ P2 ≤ 2147483647) ∧ (-2147483648 ≤ A ∧ A ≤ 2147483647)) (hB : B ≤ 2000000) : vx_Met l yX2_pay (ws_ yX2_pay cX2_pay 4 (some .int)) { frames := 10, cells := 6, slots := 36, locals := 186 } (mPc (a 3) (wPc D vwCl (tyL cA) Z (hW a cA) [] [.ref (a 0), .int (iI (P)), .int (iI (P2)), .int (iI (A))] sz σ)) (wQi D vwCl (hW a cA) (fun r y => r = iI (sMov (σ 0) P.toNat P2.toNat A (12 + 7 * P.toNat + P2.toNat)) ∧ y = sA (sA σ 0 (sMov (σ 0) P.toNat P2.toNat A)) 1 (gA (σ 1) 1 A)) sz) (xQ (fun k => cPay (σ 0) P P2 A ≠ 0 ∧ k = cPay (σ 0) P P2 A) (wA (hW a cA) sz)) 6 36 (wA (hW a cA) sz) := by
  refine w_metXM (cc := cX2_pay) (maxL := 4) (ret := some .int) (own := RX2) (by decide) rfl rfl hW_ok (Nat.le_of_ble_eq_true rfl) ?_
  intro p e s m below meth c hX ht hmf hsz hK hP hD hA hE hS hR hN ls hl
  have hx := hX.1
  have hb := hX.2.1
  have hz0 := hz _ _ _ hE
  have hl : lv_has ls 4 [(0, .ref (a 0)), (1, .int (iI (P))), (2, .int (iI (P2))), (3, .int (iI (A)))] := hl
  refine lv_aload_n hx hb dX2_pay_0 rfl (lv_at hl 0 rfl) ?_
  refine lv_iload_n hx hb dX2_pay_1 rfl (lv_at hl 1 rfl) ?_
  refine lv_iload_n hx hb dX2_pay_2 rfl (lv_at hl 2 rfl) ?_
  refine x_callv hX ht hA hP hS (vx_runV (As := [.int (iI (P)), .int (iI (P2))]) (rest := []) hX.fix (c_X2_requireDifferent hZ hfl hz _ σ n0 hn (P) (P2) (by omega)) (cwV 2 hX.hts (lw_V q310 q312 qs1 q81 q313) rfl rfl rfl (by decide +kernel) ⟨Nat.le_of_ble_eq_true rfl, Nat.le_of_ble_eq_true rfl⟩) (r_preV hZ hK hA hE hP hS (va_recv hK hP (ci := 1) (q0 := 0) vw_X2 hW_0)) rfl rfl hl.1 rfl (lv_room (Nat.le_of_ble_eq_true rfl)) dX2_pay_3 ⟨Nat.le_of_ble_eq_true rfl, Nat.le_of_ble_eq_true rfl⟩) (fun k hk => by rw [cPay_p hk.1]; exact hk) ⟨Nat.le_of_ble_eq_true rfl, Nat.le_of_ble_eq_true rfl⟩ (fun y H locs hq hP hS => ?_)
  have hq1 := hq
  obtain ⟨d1, rfl, hd1⟩ : ∃ d : Nat, P = (d : Int) ∧ d < n0 := ⟨P.toNat, by have h8 : 0 ≤ P ∧ P ≤ σ 0 0 - 1 := hq.1.1; omega, by have h8 : 0 ≤ P ∧ P ≤ σ 0 0 - 1 := hq.1.1; omega⟩
  obtain ⟨d2, rfl, hd2⟩ : ∃ d : Nat, P2 = (d : Int) ∧ d < n0 := ⟨P2.toNat, by have h8 : 0 ≤ P2 ∧ P2 ≤ σ 0 0 - 1 := hq.1.2; omega, by have h8 : 0 ≤ P2 ∧ P2 ≤ σ 0 0 - 1 := hq.1.2; omega⟩
  refine lv_iload_n hx hb dX2_pay_6 rfl (lv_at hl 3 rfl) ?_
  refine x_callv hX ht hA hP hS (vx_runS (As := [.int (iI (A))]) (rest := []) hX.fix (c_X2_requireAmount hZ hfl hz _ (A) (by omega)) (va_cwS 1 hX.hts (lw_S q416 q417 q81 q418) rfl rfl rfl (by decide +kernel) ⟨Nat.le_of_ble_eq_true rfl, Nat.le_of_ble_eq_true rfl⟩) (r_preS hZ hK hA hE (fun k q h => by cases h) hS) rfl rfl hl.1 rfl (lv_room (Nat.le_of_ble_eq_true rfl)) dX2_pay_7 ⟨Nat.le_of_ble_eq_true rfl, Nat.le_of_ble_eq_true rfl⟩) (fun k hk => by rw [cPay_a hq1.1 hk.1]; exact ⟨by decide, hk.2⟩) ⟨Nat.le_of_ble_eq_true rfl, Nat.le_of_ble_eq_true rfl⟩ (fun y H locs hq hP hS => ?_)
  have hdd := hgo.2.2.1 d1 d2 (by omega) (by omega)
  have ham : 1 ≤ A ∧ A ≤ 999 := hq
  have hcc := hgo.2.1 d1 (by omega)
  refine lv_iload_n hx hb dX2_pay_10 rfl (lv_at hl 3 rfl) ?_
  refine lv_aload_n hx hb dX2_pay_11 rfl (lv_at hl 0 rfl) ?_
  refine h_get hX hK hP 0 (by decide) q166 rfl dX2_pay_12 ?_
  refine W.eq (g2 := F0 m 15 ls [.ref (a 1), .int (iI (A))]) rfl ?_
  refine lv_iload_n hx hb dX2_pay_15 rfl (lv_at hl 1 rfl) ?_
  refine h_row hX hK hP d1 (⟨rfl, by omega⟩) dX2_pay_16 ?_
  refine lv_iload_n hx hb dX2_pay_17 rfl (lv_at hl 2 rfl) ?_
  refine h_ldd hX hK hP d1 d2 (by omega) (⟨rfl, by omega⟩) dX2_pay_18 ?_
  refine z_icmp_gt (tgt := 26) hX (by omega) dX2_pay_19 (by decide) (fun c_19 => ?_) (fun c_19 => ?_)
  · skip
    refine z_iconst hX dX2_pay_26 ?_
    refine x_callv hX ht hA hP hS (vx_runSN (As := [.int (iI (0))]) (rest := []) hX.fix (c_X1_requireState hZ hfl hz _ (0) (by decide)) ⟨va_cnB 1 hX.hts (lw_meth q422) rfl rfl rfl (hz0.1 _ q420 rfl) (hX.hts _ q80) (by decide +kernel) ⟨Nat.le_of_ble_eq_true rfl, Nat.le_of_ble_eq_true rfl⟩, hX.hts _ q421, trivial⟩ (r_preS hZ hK hA hE (fun k q h => by cases h) hS) rfl rfl hl.1 rfl (lv_room (Nat.le_of_ble_eq_true rfl)) dX2_pay_27 ⟨Nat.le_of_ble_eq_true rfl, Nat.le_of_ble_eq_true rfl⟩) (fun k hk => by rw [cPay_s hq1.1 hq1.2 ham (by exact c_19)]; exact ⟨by decide, hk.2⟩) ⟨Nat.le_of_ble_eq_true rfl, Nat.le_of_ble_eq_true rfl⟩ (fun y H locs hq hP hS => ?_)
    exact absurd hq (by decide)
  · skip
    refine z_iconst hX dX2_pay_22 ?_
    refine lv_goto (tgt := 27) hx hb dX2_pay_23 (by decide) ?_
    refine x_callv hX ht hA hP hS (vx_runSN (As := [.int (iI (1))]) (rest := []) hX.fix (c_X1_requireState hZ hfl hz _ (1) (by decide)) ⟨va_cnB 1 hX.hts (lw_meth q422) rfl rfl rfl (hz0.1 _ q420 rfl) (hX.hts _ q80) (by decide +kernel) ⟨Nat.le_of_ble_eq_true rfl, Nat.le_of_ble_eq_true rfl⟩, hX.hts _ q421, trivial⟩ (r_preS hZ hK hA hE (fun k q h => by cases h) hS) rfl rfl hl.1 rfl (lv_room (Nat.le_of_ble_eq_true rfl)) dX2_pay_27 ⟨Nat.le_of_ble_eq_true rfl, Nat.le_of_ble_eq_true rfl⟩) (fun k hk => absurd hk.1 (by decide)) ⟨Nat.le_of_ble_eq_true rfl, Nat.le_of_ble_eq_true rfl⟩ (fun y H locs hq hP hS => ?_)
    refine W.eq (g2 := F0 m 30 ls []) rfl ?_
    refine lv_iload_n hx hb dX2_pay_30 rfl (lv_at hl 3 rfl) ?_
    refine lv_aload_n hx hb dX2_pay_31 rfl (lv_at hl 0 rfl) ?_
    refine h_get hX hK hP 1 (by decide) q168 rfl dX2_pay_32 ?_
    refine lv_iload_n hx hb dX2_pay_35 rfl (lv_at hl 1 rfl) ?_
    refine h_ldc hX hK hP d1 (⟨rfl, by omega⟩) dX2_pay_36 ?_
    refine z_icmp_gt (tgt := 44) hX (by omega) dX2_pay_37 (by decide) (fun c_37 => ?_) (fun c_37 => ?_)
    · skip
      refine z_iconst hX dX2_pay_44 ?_
      refine x_callv hX ht hA hP hS (vx_runSN (As := [.int (iI (0))]) (rest := []) hX.fix (c_X1_requireSupported hZ hfl hz _ (0) (by decide)) ⟨va_cnB 1 hX.hts (lw_meth q448) rfl rfl rfl (hz0.1 _ q446 rfl) (hX.hts _ q80) (by decide +kernel) ⟨Nat.le_of_ble_eq_true rfl, Nat.le_of_ble_eq_true rfl⟩, hX.hts _ q447, trivial⟩ (r_preS hZ hK hA hE (fun k q h => by cases h) hS) rfl rfl hl.1 rfl (lv_room (Nat.le_of_ble_eq_true rfl)) dX2_pay_45 ⟨Nat.le_of_ble_eq_true rfl, Nat.le_of_ble_eq_true rfl⟩) (fun k hk => by rw [cPay_u hq1.1 hq1.2 ham (by have h9 : A ≤ σ 0 (12 + 7 * d1 + d2) := c_19; exact Int.not_lt.mpr h9) (by exact c_37)]; exact ⟨by decide, hk.2⟩) ⟨Nat.le_of_ble_eq_true rfl, Nat.le_of_ble_eq_true rfl⟩ (fun y H locs hq hP hS => ?_)
      exact absurd hq (by decide)
    · skip
      refine z_iconst hX dX2_pay_40 ?_
      refine lv_goto (tgt := 45) hx hb dX2_pay_41 (by decide) ?_
      refine W.eq (g2 := F0 m 45 ls [.int (iI (1))]) rfl ?_
      refine x_callv hX ht hA hP hS (vx_runSN (As := [.int (iI (1))]) (rest := []) hX.fix (c_X1_requireSupported hZ hfl hz _ (1) (by decide)) ⟨va_cnB 1 hX.hts (lw_meth q448) rfl rfl rfl (hz0.1 _ q446 rfl) (hX.hts _ q80) (by decide +kernel) ⟨Nat.le_of_ble_eq_true rfl, Nat.le_of_ble_eq_true rfl⟩, hX.hts _ q447, trivial⟩ (r_preS hZ hK hA hE (fun k q h => by cases h) hS) rfl rfl hl.1 rfl (lv_room (Nat.le_of_ble_eq_true rfl)) dX2_pay_45 ⟨Nat.le_of_ble_eq_true rfl, Nat.le_of_ble_eq_true rfl⟩) (fun k hk => absurd hk.1 (by decide)) ⟨Nat.le_of_ble_eq_true rfl, Nat.le_of_ble_eq_true rfl⟩ (fun y H locs hq hP hS => ?_)
      refine lv_aload_n hx hb dX2_pay_48 rfl (lv_at hl 0 rfl) ?_
      refine lv_iload_n hx hb dX2_pay_49 rfl (lv_at hl 1 rfl) ?_
      refine lv_iload_n hx hb dX2_pay_50 rfl (lv_at hl 2 rfl) ?_
      refine lv_iload_n hx hb dX2_pay_51 rfl (lv_at hl 3 rfl) ?_
      refine W_mon hmf (fun hm9 => ?_)
      refine w_callv (Z := Z) hD hA hS (va_runV (As := [.int (iI (↑d1)), .int (iI (↑d2)), .int (iI (A))]) (rest := []) hX.fix (c_X2_transfer hZ hfl hz _ (σ) d1 d2 _ _ ⟨rfl, by omega⟩ ⟨rfl, by omega⟩ (A)) (cwV 3 hX.hts (lw_V q464 q466 qs3 q81 q467) rfl rfl rfl (by decide +kernel) ⟨Nat.le_of_ble_eq_true rfl, Nat.le_of_ble_eq_true rfl⟩) (mPc_V (w_preV hZ hK hD hA hE hP hS (va_recv hK hP (ci := 1) (q0 := 0) vw_X2 hW_0)) hm9) rfl rfl hl.1 rfl (lv_room (Nat.le_of_ble_eq_true rfl)) dX2_pay_52 ⟨Nat.le_of_ble_eq_true rfl, Nat.le_of_ble_eq_true rfl⟩) (fun y H locs hq hP hS => ?_)
      rw [show y = sA (sA σ 0 (sMov (σ 0) d1 d2 A)) 1 (gA (σ 1) 1 A) from hq] at hP
      refine lv_aload_n hx hb dX2_pay_55 rfl (lv_at hl 0 rfl) ?_
      refine h_get hX hK hP 0 (by decide) q166 rfl dX2_pay_56 ?_
      refine lv_iload_n hx hb dX2_pay_59 rfl (lv_at hl 1 rfl) ?_
      refine h_row hX hK hP d1 (⟨rfl, by omega⟩) dX2_pay_60 ?_
      refine W.eq (g2 := F0 m 61 ls [.ref (a (4 + d1))]) rfl ?_
      refine lv_iload_n hx hb dX2_pay_61 rfl (lv_at hl 2 rfl) ?_
      refine h_ldd hX hK hP d1 d2 (by omega) (⟨rfl, by omega⟩) dX2_pay_62 ?_
      refine z_top (y := sMov (σ 0) d1 d2 A (12 + 7 * d1 + d2)) (rfl) ?_
      refine vx_ret ?_
      exact w_iret hX hP hS (⟨rfl, rfl⟩) dX2_pay_63
theorem sPair_h {g : Nat → Int} {d c : Nat} {a : Int} (hd : d < 7) (hc : c < 7) : gA (gA (gA (gA g (12 + 7 * d + c) (-a)) 2 a) (12 + 7 * c + d) (-a)) 2 a = sPair g d c a := by
  unfold sPair
  rw [gA_cm (k := 2) (j := 12 + 7 * c + d) (by omega)]
  unfold gA
  rw [gU_uu, gU_eq]
  congr 1
  omega
set_option maxHeartbeats 4000000 in
theorem c_X2_netPair {l : Launch} {D : va_G} {Z : zZ} {cA : Nat → ClassId} (hZ : zOk Z) (hfl : l.stackTraces = false) (hz : ∀ A U H, Z A U H → zT9 A U H) (sz : Nat) {a : Nat → Nat} (σ : zT) (n0 : Nat) (hn : σ 0 0 = n0 ∧ n0 ≤ 7) (B : Int) (hgo : gOk (σ 0) B) (P P2 : Int) (hr : (-2147483648 ≤ P ∧ P ≤ 2147483647) ∧ (-2147483648 ≤ P2 ∧ P2 ≤ 2147483647)) : vx_Met l yX2_netPair (ws_ yX2_netPair cX2_netPair 4 (some .int)) { frames := 10, cells := 3, slots := 18, locals := 186 } (mPc (a 3) (wPc D vwCl (tyL cA) Z (hW a cA) [] [.ref (a 0), .int (iI (P)), .int (iI (P2))] sz σ)) (wQi D vwCl (hW a cA) (fun r y => r = iI (min (σ 0 (12 + 7 * P.toNat + P2.toNat)) (σ 0 (12 + 7 * P2.toNat + P.toNat))) ∧ y = sA σ 0 (sPair (σ 0) P.toNat P2.toNat (min (σ 0 (12 + 7 * P.toNat + P2.toNat)) (σ 0 (12 + 7 * P2.toNat + P.toNat))))) sz) (xQ (fun k => cPair (σ 0) P P2 ≠ 0 ∧ k = cPair (σ 0) P P2) (wA (hW a cA) sz)) 3 18 (wA (hW a cA) sz) := by
  refine w_metXM (cc := cX2_netPair) (maxL := 4) (ret := some .int) (own := RX2) (by decide) rfl rfl hW_ok (Nat.le_of_ble_eq_true rfl) ?_
  intro p e s m below meth c hX ht hmf hsz hK hP hD hA hE hS hR hN ls hl
  have hx := hX.1
  have hb := hX.2.1
  have hz0 := hz _ _ _ hE
  have hl : lv_has ls 4 [(0, .ref (a 0)), (1, .int (iI (P))), (2, .int (iI (P2)))] := hl
  refine lv_aload_n hx hb dX2_netPair_0 rfl (lv_at hl 0 rfl) ?_
  refine lv_iload_n hx hb dX2_netPair_1 rfl (lv_at hl 1 rfl) ?_
  refine lv_iload_n hx hb dX2_netPair_2 rfl (lv_at hl 2 rfl) ?_
  refine x_callv hX ht hA hP hS (vx_runV (As := [.int (iI (P)), .int (iI (P2))]) (rest := []) hX.fix (c_X2_requireDifferent hZ hfl hz _ σ n0 hn (P) (P2) (by omega)) (cwV 2 hX.hts (lw_V q310 q312 qs1 q81 q313) rfl rfl rfl (by decide +kernel) ⟨Nat.le_of_ble_eq_true rfl, Nat.le_of_ble_eq_true rfl⟩) (r_preV hZ hK hA hE hP hS (va_recv hK hP (ci := 1) (q0 := 0) vw_X2 hW_0)) rfl rfl hl.1 rfl (lv_room (Nat.le_of_ble_eq_true rfl)) dX2_netPair_3 ⟨Nat.le_of_ble_eq_true rfl, Nat.le_of_ble_eq_true rfl⟩) (fun k hk => hk) ⟨Nat.le_of_ble_eq_true rfl, Nat.le_of_ble_eq_true rfl⟩ (fun y H locs hq hP hS => ?_)
  have hq1 := hq
  obtain ⟨d1, rfl, hd1⟩ : ∃ d : Nat, P = (d : Int) ∧ d < n0 := ⟨P.toNat, by have h8 : 0 ≤ P ∧ P ≤ σ 0 0 - 1 := hq.1.1; omega, by have h8 : 0 ≤ P ∧ P ≤ σ 0 0 - 1 := hq.1.1; omega⟩
  obtain ⟨d2, rfl, hd2⟩ : ∃ d : Nat, P2 = (d : Int) ∧ d < n0 := ⟨P2.toNat, by have h8 : 0 ≤ P2 ∧ P2 ≤ σ 0 0 - 1 := hq.1.2; omega, by have h8 : 0 ≤ P2 ∧ P2 ≤ σ 0 0 - 1 := hq.1.2; omega⟩
  have hdd := hgo.2.2.1 d1 d2 (by omega) (by omega)
  have hd2 := hgo.2.2.1 d2 d1 (by omega) (by omega)
  refine lv_aload_n hx hb dX2_netPair_6 rfl (lv_at hl 0 rfl) ?_
  refine h_get hX hK hP 0 (by decide) q166 rfl dX2_netPair_7 ?_
  refine lv_iload_n hx hb dX2_netPair_10 rfl (lv_at hl 1 rfl) ?_
  refine h_row hX hK hP d1 (⟨rfl, by omega⟩) dX2_netPair_11 ?_
  refine lv_iload_n hx hb dX2_netPair_12 rfl (lv_at hl 2 rfl) ?_
  refine W.eq (g2 := F0 m 13 ls [.int (iI (↑d2)), .ref (a (4 + d1))]) rfl ?_
  refine h_ldd hX hK hP d1 d2 (by omega) (⟨rfl, by omega⟩) dX2_netPair_13 ?_
  refine lv_aload_n hx hb dX2_netPair_14 rfl (lv_at hl 0 rfl) ?_
  refine h_get hX hK hP 0 (by decide) q166 rfl dX2_netPair_15 ?_
  refine lv_iload_n hx hb dX2_netPair_18 rfl (lv_at hl 2 rfl) ?_
  refine h_row hX hK hP d2 (⟨rfl, by omega⟩) dX2_netPair_19 ?_
  refine lv_iload_n hx hb dX2_netPair_20 rfl (lv_at hl 1 rfl) ?_
  refine h_ldd hX hK hP d2 d1 (by omega) (⟨rfl, by omega⟩) dX2_netPair_21 ?_
  refine z_mmin hX ⟨by unfold rng; omega, by unfold rng; omega⟩ hl.1.symm q476 ⟨Nat.le_of_ble_eq_true rfl, Nat.le_of_ble_eq_true rfl⟩ ⟨Nat.le_of_ble_eq_true rfl, Nat.le_of_ble_eq_true rfl⟩ dX2_netPair_22 ?_
  refine lv_istore_n (lv' := [(3, .int (iI (min (σ 0 (12 + 7 * d1 + d2)) (σ 0 (12 + 7 * d2 + d1))))), (0, .ref (a 0)), (1, .int (iI (↑d1))), (2, .int (iI (↑d2)))]) hx hb dX2_netPair_25 rfl hl (by decide) rfl (fun ls hl => ?_)
  refine lv_aload_n hx hb dX2_netPair_26 rfl (lv_at hl 1 rfl) ?_
  refine W.eq (g2 := F0 m 27 ls [.ref (a 0)]) rfl ?_
  refine lv_iload_n hx hb dX2_netPair_27 rfl (lv_at hl 2 rfl) ?_
  refine lv_iload_n hx hb dX2_netPair_28 rfl (lv_at hl 3 rfl) ?_
  refine lv_iload_n hx hb dX2_netPair_29 rfl (lv_at hl 0 rfl) ?_
  refine W_mon hmf (fun hm9 => ?_)
  refine w_callv (Z := Z) hD hA hS (va_runV (As := [.int (iI (↑d1)), .int (iI (↑d2)), .int (iI (min (σ 0 (12 + 7 * d1 + d2)) (σ 0 (12 + 7 * d2 + d1))))]) (rest := []) hX.fix (c_X2_lessen hZ hfl hz _ (σ) d1 d2 _ _ ⟨rfl, by omega⟩ ⟨rfl, by omega⟩ (min (σ 0 (12 + 7 * d1 + d2)) (σ 0 (12 + 7 * d2 + d1))) (by omega)) (cwV 3 hX.hts (lw_V q479 q481 qs4 q81 q482) rfl rfl rfl (by decide +kernel) ⟨Nat.le_of_ble_eq_true rfl, Nat.le_of_ble_eq_true rfl⟩) (mPc_V (w_preV hZ hK hD hA hE hP hS (va_recv hK hP (ci := 1) (q0 := 0) vw_X2 hW_0)) hm9) rfl rfl hl.1 rfl (lv_room (Nat.le_of_ble_eq_true rfl)) dX2_netPair_30 ⟨Nat.le_of_ble_eq_true rfl, Nat.le_of_ble_eq_true rfl⟩) (fun y H locs hq hP hS => ?_)
  rw [show y = sA σ 0 (gA (gA (σ 0) (12 + 7 * d1 + d2) (-(min (σ 0 (12 + 7 * d1 + d2)) (σ 0 (12 + 7 * d2 + d1))))) 2 (min (σ 0 (12 + 7 * d1 + d2)) (σ 0 (12 + 7 * d2 + d1)))) from hq] at hP
  refine lv_aload_n hx hb dX2_netPair_33 rfl (lv_at hl 1 rfl) ?_
  refine lv_iload_n hx hb dX2_netPair_34 rfl (lv_at hl 3 rfl) ?_
  refine lv_iload_n hx hb dX2_netPair_35 rfl (lv_at hl 2 rfl) ?_
  refine lv_iload_n hx hb dX2_netPair_36 rfl (lv_at hl 0 rfl) ?_
  refine W_mon hmf (fun hm9 => ?_)
  refine w_callv (Z := Z) hD hA hS (va_runV (As := [.int (iI (↑d2)), .int (iI (↑d1)), .int (iI (min (σ 0 (12 + 7 * d1 + d2)) (σ 0 (12 + 7 * d2 + d1))))]) (rest := []) hX.fix (c_X2_lessen hZ hfl hz _ (sA σ 0 (gA (gA (σ 0) (12 + 7 * d1 + d2) (-(min (σ 0 (12 + 7 * d1 + d2)) (σ 0 (12 + 7 * d2 + d1))))) 2 (min (σ 0 (12 + 7 * d1 + d2)) (σ 0 (12 + 7 * d2 + d1))))) d2 d1 _ _ ⟨rfl, by omega⟩ ⟨rfl, by omega⟩ (min (σ 0 (12 + 7 * d1 + d2)) (σ 0 (12 + 7 * d2 + d1))) (by omega)) (cwV 3 hX.hts (lw_V q479 q481 qs4 q81 q482) rfl rfl rfl (by decide +kernel) ⟨Nat.le_of_ble_eq_true rfl, Nat.le_of_ble_eq_true rfl⟩) (mPc_V (w_preV hZ hK hD hA hE hP hS (va_recv hK hP (ci := 1) (q0 := 0) vw_X2 hW_0)) hm9) rfl rfl hl.1 rfl (lv_room (Nat.le_of_ble_eq_true rfl)) dX2_netPair_37 ⟨Nat.le_of_ble_eq_true rfl, Nat.le_of_ble_eq_true rfl⟩) (fun y H locs hq hP hS => ?_)
  rw [show y = sA σ 0 (sPair (σ 0) d1 d2 (min (σ 0 (12 + 7 * d1 + d2)) (σ 0 (12 + 7 * d2 + d1)))) from hq.trans (sA_sA.trans (congrArg (sA σ 0) (sPair_h (by omega) (by omega))))] at hP
  refine lv_iload_n hx hb dX2_netPair_40 rfl (lv_at hl 0 rfl) ?_
  refine W.eq (g2 := F0 m 41 ls [.int (iI (min (σ 0 (12 + 7 * d1 + d2)) (σ 0 (12 + 7 * d2 + d1))))]) rfl ?_
  refine vx_ret ?_
  exact w_iret hX hP hS (⟨rfl, rfl⟩) dX2_netPair_41
