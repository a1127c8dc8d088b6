/-! a cycle required; cycles netted -/
set_option maxRecDepth 100000
section
variable {p : Program} {l : Launch} {e : Env} {R : Room} {s : State} {m : MethodId} {args : Array Value} {below : List Frame} {meth : Method} {c : Code} {H : Heap} {locs : List Loc} {cells slots : Nat} {Q : State → Prop}
variable {cc : ByteArray} {pc : Nat} {ls : Array Slot} {rest : List Value} {a : Nat}
theorem asg_self (vm : Vm) (c : ClassId) : vm.assignable c c = true := by
  show vm.assignableAux (255 + 1) c c = true
  unfold Vm.assignableAux
  simp
/-- a cast to the object's own class -/
theorem z_castS (hexec : p.tables.exec = Jvm.exec) (hb : c.code = cc) {own nm : String} {index : Nat} (hown : s.vm.findClass own = some m.cls) (hlink : (Cond.classLink own index nm).before args s = true)
    (hr : ∃ cell : Cell, H[a]? = some cell ∧ cell.vm.isStatics = false ∧ s.vm.findClass nm = some cell.cls) (hdg : decode cc pc = .ok (.checkcast index, 3))
    (k : W p l e R s m args below meth c H locs cells slots Q (F0 m (pc + 3) ls (.ref a :: rest))) : W p l e R s m args below meth c H locs cells slots Q (F0 m pc ls (.ref a :: rest)) := by
  obtain ⟨cell, h1, h2, h3⟩ := hr
  intro T hT X
  obtain ⟨vm9, X9, st⟩ := X.checkcastYes hexec hown hlink (by rw [hT]; exact h1) h2 h3 (asg_self _ _) (g := F0 m pc ls (.ref a :: rest)) rfl rfl (by rw [hb]; exact hdg)
  obtain ⟨t, a1, b1⟩ := k (T.setVm vm9) hT X9
  exact ⟨t, st t a1, b1⟩
end
def rcP (g : Nat → Int) (n0 : Nat) (cA : Nat → ClassId) (sz : Nat) (r : Option Nat) (ws : va_W) : Prop := ∃ (q : List Nat) (cy ar : Nat), lookF g n0 = some q ∧ r = some cy ∧ ws = cyW cy ar cA q (smF g q q.length) ∧ ∀ e ∈ ws, sz ≤ e.1
set_option maxHeartbeats 4000000 in
theorem c_X2_requireCycle {l : Launch} {D : va_G} {Z : zZ} {cA : Nat → ClassId} (hZ : zOk Z) (hfl : l.stackTraces = false) (hz : ∀ A U H, Z A U H → zT9 A U H) (sz : Nat) {a : Nat → Nat} (σ : zT) {em : Nat} (hem : ∀ A U H, Z A U H → zOp D em A U H) (n0 : Nat) (hn : σ 0 0 = n0 ∧ n0 ≤ 7) (B : Int) (hgo : gOk (σ 0) B) : vx_Met l yX2_requireCycle (ws_ yX2_requireCycle cX2_requireCycle 2 (some (.object "ClearingHouse$Cycle"))) { frames := 10, cells := 5, slots := 23, locals := 283 } (wPc D vwCl (tyL cA) Z w0 (hW a cA σ) [.ref (a 0)] sz zO) (nQq D (rcP (σ 0) n0 cA sz) (wA w0 sz)) (xQ (fun k => lookF (σ 0) n0 = none ∧ k = 5) (wA w0 sz)) 5 23 (wA w0 sz) := by
  refine w_metX (cc := cX2_requireCycle) (maxL := 2) (ret := some (.object "ClearingHouse$Cycle")) (own := RX2) (by decide) rfl rfl w0_ok (Nat.le_of_ble_eq_true rfl) ?_
  intro p e s m below meth c hX ht hsz hK hP hD hA hE hS hR hN ls hl
  have hx := hX.1
  have hb := hX.2.1
  have hz0 := hz _ _ _ hE
  have hl : lv_has ls 2 [(0, .ref (a 0))] := hl
  refine lv_aload_n hx hb dX2_requireCycle_0 rfl (lv_at hl 0 rfl) ?_
  have hz8 : sz ≤ _ := Nat.le_trans (Nat.le_of_eq hsz.symm) hS.1
  refine l_callQ hP hA hS (va_runV (As := []) (rest := []) hX.fix (c_X2_nextCycle hZ hfl hz _ σ hem n0 hn B hgo) (cwV 0 hX.hts (lw_V q593 q594 q595 q81 q596) rfl rfl rfl (by decide +kernel) ⟨Nat.le_of_ble_eq_true rfl, Nat.le_of_ble_eq_true rfl⟩) (r_preV hZ hK hA hE (hR _ _ hS) hS (va_recv hK (hR _ _ hS) (ci := 1) (q0 := 0) vw_X2 hW_0)) rfl rfl hl.1 rfl (lv_room (Nat.le_of_ble_eq_true rfl)) dX2_requireCycle_1 ⟨Nat.le_of_ble_eq_true rfl, Nat.le_of_ble_eq_true rfl⟩) (fun r9 w1 H locs hq hP1 hP hz9 hS => ?_)
  rcases hq with ⟨hL, rfl, rfl⟩ | ⟨q, op, cy, ar, hL, rfl, rfl, hge⟩
  · skip
    have hP : va_P D vwCl [enO em 14 [.null]] H := hP1
    refine W.eq (g2 := F0 m 4 ls [.ref em]) rfl ?_
    refine lv_astore_n (lv' := [(1, .ref em), (0, .ref (a 0))]) hx hb dX2_requireCycle_4 rfl hl (by decide) rfl (fun ls hl => ?_)
    refine lv_aload_n hx hb dX2_requireCycle_5 rfl (lv_at hl 0 rfl) ?_
    refine r_calli (w := wL [enO em 14 [.null]]) (x := zO) hA hP hS (va_runV (As := []) (rest := []) hX.fix (c_J14_isPresent_n hZ _) (cwV 0 hX.hts (lw_V q644 q645 q646 q101 q647) rfl rfl rfl (by decide +kernel) ⟨Nat.le_of_ble_eq_true rfl, Nat.le_of_ble_eq_true rfl⟩) (r_preV hZ hK hA hE (hP.sub [0] rfl : va_P D vwCl [enO em 14 [.null]] _) hS (va_recv hK hP (ci := 14) (q0 := 0) vw_J14 rfl)) rfl rfl hl.1 rfl (lv_room (Nat.le_of_ble_eq_true rfl)) dX2_requireCycle_6 ⟨Nat.le_of_ble_eq_true rfl, Nat.le_of_ble_eq_true rfl⟩) (fun r y H locs hq hP hS => ?_)
    rw [show r = iI 0 from hq]
    refine z_if_ne (tgt := 20) hX (by decide) dX2_requireCycle_9 (by decide) (fun h9 => absurd h9 (by decide)) (fun h9 => ?_)
    refine w_throw hX hfl ht hz0 hS hA [648, 103, 91, 350, 359, 369, 372, 374, 351, 352, 131, 132, 353, 358, 370, 387, 340, 388, 342, 389, 344, 354, 356, 346, 658, 659, 660, 379, 331, 379, 380, 381, 382, 333, 382, 383, 384, 351, 335, 657, 649, 650, 651, 368, 652, 653, 654, 655, 349, 348, 656] 5 rfl (⟨hL, rfl⟩) (by decide) (by decide +kernel) (by decide +kernel) hl.1 dX2_requireCycle_12 dX2_requireCycle_15 dX2_requireCycle_16 dX2_requireCycle_19 ⟨Nat.le_of_ble_eq_true rfl, Nat.le_of_ble_eq_true rfl, Nat.le_of_ble_eq_true rfl, Nat.le_of_ble_eq_true rfl, Nat.le_of_ble_eq_true rfl, Nat.le_of_ble_eq_true rfl⟩
  · skip
    have hP : va_P D vwCl [enO op 14 [.ref cy], enO cy 6 [.ref ar, .int (iI (smF (σ 0) q q.length))], enI cA ar (q.length) (fun k => (qk q k : Int))] H := hP1
    refine W.eq (g2 := F0 m 4 ls [.ref op]) rfl ?_
    refine lv_astore_n (lv' := [(1, .ref op), (0, .ref (a 0))]) hx hb dX2_requireCycle_4 rfl hl (by decide) rfl (fun ls hl => ?_)
    refine lv_aload_n hx hb dX2_requireCycle_5 rfl (lv_at hl 0 rfl) ?_
    refine W.eq (g2 := F0 m 6 ls [.ref op]) rfl ?_
    refine r_calli (w := wL [enO op 14 [.ref cy], enO cy 6 [.ref ar, .int (iI (smF (σ 0) q q.length))], enI cA ar (q.length) (fun k => (qk q k : Int))]) (x := zO) hA hP hS (va_runV (As := []) (rest := []) hX.fix (c_J14_isPresent_y hZ _) (cwV 0 hX.hts (lw_V q644 q645 q646 q101 q647) rfl rfl rfl (by decide +kernel) ⟨Nat.le_of_ble_eq_true rfl, Nat.le_of_ble_eq_true rfl⟩) (r_preV hZ hK hA hE (hP.sub [0] rfl : va_P D vwCl [enO op 14 [.ref cy]] _) hS (va_recv hK hP (ci := 14) (q0 := 0) vw_J14 rfl)) rfl rfl hl.1 rfl (lv_room (Nat.le_of_ble_eq_true rfl)) dX2_requireCycle_6 ⟨Nat.le_of_ble_eq_true rfl, Nat.le_of_ble_eq_true rfl⟩) (fun r y H locs hq hP hS => ?_)
    rw [show r = iI 1 from hq]
    refine z_if_ne (tgt := 20) hX (by decide) dX2_requireCycle_9 (by decide) (fun h9 => ?_) (fun h9 => absurd h9 (by decide))
    refine lv_aload_n hx hb dX2_requireCycle_20 rfl (lv_at hl 0 rfl) ?_
    refine l_callQ hP hA hS (va_runV (As := []) (rest := []) hX.fix (c_J14_get hZ hfl hz _ ) (cwV 0 hX.hts (lw_V q663 q664 q665 q101 q666) rfl rfl rfl (by decide +kernel) ⟨Nat.le_of_ble_eq_true rfl, Nat.le_of_ble_eq_true rfl⟩) (r_preV hZ hK hA hE (hP.sub [0] rfl : va_P D vwCl [enO op 14 [.ref cy]] _) hS (va_recv hK hP (ci := 14) (q0 := 0) vw_J14 rfl)) rfl rfl hl.1 rfl (lv_room (Nat.le_of_ble_eq_true rfl)) dX2_requireCycle_21 ⟨Nat.le_of_ble_eq_true rfl, Nat.le_of_ble_eq_true rfl⟩) (fun r9 w1 H locs hq hP1 hP hz9 hS => ?_)
    obtain ⟨rfl, rfl⟩ := hq
    refine W.eq (g2 := F0 m 24 ls [.ref cy]) rfl ?_
    refine z_castS hx hb hX.ow (hX.hts _ q604) (va_recv hK hP (ci := 6) (q0 := 1) vw_X7 rfl) dX2_requireCycle_24 ?_
    have hP := hP.sub [1, 2] rfl
    refine vx_ret ?_
    refine W.widen (k := 5) (n := 23) (Nat.le_of_ble_eq_true rfl) (Nat.le_of_ble_eq_true rfl) ?_
    exact n_aret hX (Or.inl ⟨_, rfl⟩) hP hS (⟨q, cy, ar, hL, rfl, rfl, fun e he => Nat.le_trans hz8 (hge e (List.mem_cons_of_mem _ he))⟩) dX2_requireCycle_27
