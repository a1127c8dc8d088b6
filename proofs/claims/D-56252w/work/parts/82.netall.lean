/-! a cycle netted, all netted -/
set_option maxRecDepth 100000
/-- how many debts there are -/
def gCt (g : Nat → Int) : Int := sg (fun k => bI (0 < g (12 + k))) 49
theorem gCt_bd {g : Nat → Int} : 0 ≤ gCt g ∧ gCt g ≤ 49 := by
  have := sg_bd (f := fun k => bI (0 < g (12 + k))) (n := 49) (M := 1) (fun k _ => by rcases bI_01 (P := 0 < g (12 + k)) with h | h <;> omega)
  unfold gCt; omega
theorem smF_in {g : Nat → Int} {q : List Nat} : ∀ k, smF g q k = 999 ∨ ∃ j, j < k ∧ smF g q k = g (eI q j) := by
  intro k
  induction k with
  | zero => exact Or.inl rfl
  | succ k ih =>
    show min (smF g q k) (g (eI q k)) = 999 ∨ ∃ j, j < k + 1 ∧ min (smF g q k) (g (eI q k)) = g (eI q j)
    by_cases h : smF g q k ≤ g (eI q k)
    · rw [Int.min_eq_left h]
      rcases ih with h1 | ⟨j, h1, h2⟩
      · exact Or.inl h1
      · exact Or.inr ⟨j, by omega, h2⟩
    · rw [Int.min_eq_right (by omega)]
      exact Or.inr ⟨k, by omega, rfl⟩
theorem sNets_ct {g : Nat → Int} {n : Nat} {q : List Nat} {B : Int} (h : cOk g n q) (hn : n ≤ 7) (hg : gOk g B) : gCt (sNets g q) < gCt g := by
  have pos := smF_pos (g := g) (q := q) q.length (fun j hj => cOk_edge h hj)
  have h2 := h.2.1
  obtain ⟨j, hj, hv⟩ : ∃ j, j < q.length ∧ smF g q q.length = g (eI q j) := by
    rcases smF_in (g := g) (q := q) q.length with e | ⟨j, hj, e⟩
    · refine ⟨0, by omega, ?_⟩
      have h3 := smF_le (g := g) (q := q) q.length 0 (by omega)
      obtain ⟨a, b, ha, hb, -, -, e3, -⟩ := eI_lt h hn (j := 0) (by omega)
      have := hg.2.2.1 a b ha hb
      rw [e3] at h3 ⊢
      omega
    · exact ⟨j, hj, e⟩
  obtain ⟨a, b, h1, h4, -, -, h3, -⟩ := eI_lt h hn hj
  unfold gCt
  refine sg_lt (fun k hk => ?_) (k := 7 * a + b) (by omega) ?_
  · rcases sNets_at h hn (i := 12 + k) (by omega) with ⟨j, x, e, c⟩ | ⟨x, c⟩
    · by_cases z : 0 < g (12 + k)
      · rw [bI_t (P := 0 < g (12 + k)) z]
        rcases bI_01 (P := 0 < sNets g q (12 + k)) with y | y <;> omega
      · rw [bI_f (P := 0 < g (12 + k)) z, bI_f (P := 0 < sNets g q (12 + k)) (by omega)]
        omega
    · rw [c]; omega
  · have e9 : 12 + (7 * a + b) = eI q j := by omega
    rcases sNets_at h hn (i := 12 + (7 * a + b)) (by omega) with ⟨j2, x, e, c⟩ | ⟨x, c⟩
    · show bI (0 < sNets g q (12 + (7 * a + b))) < bI (0 < g (12 + (7 * a + b)))
      rw [bI_f (P := 0 < sNets g q (12 + (7 * a + b))) (by rw [c, e9, hv]; omega), bI_t (P := 0 < g (12 + (7 * a + b))) (by rw [e9, ← hv]; exact pos)]
      decide
    · exact absurd e9.symm (x j hj)
section
variable {p : Program} {l : Launch} {e : Env} {R : Room} {s : State} {m : MethodId} {args : Array Value} {below : List Frame} {meth : Method} {c : Code} {H : Heap} {locs : List Loc} {cells slots : Nat} {Q : State → Prop}
variable {cc : ByteArray} {pc : Nat} {ls : Array Slot} {rest st0 : List Value} {D : va_G} {A : Nat → Prop} {nL : Nat} {ret : Option FieldType} {own : String} {ws : va_W}
/-- a thrower that touches nothing and hands back a reference is called -/
theorem x_callQ {P : Option Nat → va_W → Prop} {px PX : Int → Prop} {mc ms MC MS : Nat} {av : Array Value} {Qc : Array Value → State → Outcome → State → Prop} (hX : zX p s m args meth c cc own nL ret) (ht : ∀ x ∈ c.exceptionTable.toList, False) (hA : ∀ q, s.heap.size ≤ q → A q) (hP : va_P D vwCl ws H) (hS : va_S A s.heap H locs) (hr : vx_Run p l e R s m args below meth c H locs cells slots mc ms (F0 m pc ls st0) rest (nQq D P (wA w0 H.size) av) (xQ px (wA w0 H.size)) (wA w0 H.size)) (hpx : ∀ k, px k → PX k) (hmc : cells + mc ≤ MC ∧ slots + ms ≤ MS)
    (kk : ∀ (r : Option Nat) (w1 : va_W) (H1 : Heap) (locs1 : List Loc), P r w1 → va_P D vwCl w1 H1 → va_P D vwCl ws H1 → va_S A s.heap H1 locs1 → W p l e R s m args below meth c H1 locs1 (cells + mc) (slots + ms) (vx_MQ below Qc (xQ PX A) args s MC MS A) (F0 m (pc + 3) ls (va_rf r :: rest))) : W p l e R s m args below meth c H locs cells slots (vx_MQ below Qc (xQ PX A) args s MC MS A) (F0 m pc ls st0) :=
  vx_callq hr hS (fun q _ h => hA q (by have := w0_A.mp h; have := hS.1; omega)) (fun q h => hA q (by have := w0_A.mp h; have := hS.1; omega)) (fun q _ h => hA q (by have := w0_A.mp h; have := hS.1; omega))
    (fun E ce q9 k t H1 locs1 _ _ hk hE _ _ hS1 hc hv hcl => vx_out (fun x hx => (ht x hx).elim) hX.2.2.2.2.2.2 hc hv hcl (fun t9 e9 _ => ⟨k, hpx k hk, hE, hS1.F e9⟩) hS1.2.2 hmc.1 hmc.2)
    (fun r w1 t H1 locs1 ht9 _ hp hb _ hk hS1 => kk r w1 H1 locs1 hp (by rw [← ht9]; exact hb) (hP.kept (fun k q hq => hk q.1 (hP k q hq).lt (fun z => by have := w0_A.mp z; have := (hP k q hq).lt; omega))) hS1)
end
/-- every thing of the family lies below s9 -/
def wLt (w : zT → va_W) (s9 : Nat) : Prop := ∀ (y : zT) (k : Nat) (q : Nat × va_E), (w y)[k]? = some q → q.1 < s9
theorem wLt_of {D : va_G} {w : zT → va_W} (hwk : wOk w) {x : zT} {H : Heap} (hP : va_P D vwCl (w x) H) : wLt w H.size := by
  intro y k q hk
  have h1 := congrArg (fun l => l[k]?) (hwk x y)
  simp only [List.getElem?_map, hk, Option.map_some] at h1
  cases h2 : (w x)[k]? with
  | none => rw [h2] at h1; cases h1
  | some q2 =>
    rw [h2] at h1
    have := (hP k q2 h2).lt
    have h3 : q2.1 = q.1 := Option.some.inj h1
    omega
theorem n_new {D : va_G} {w : zT → va_W} {wr : va_W} {s9 : Nat} {H1 : Heap} (hlt : wLt w s9) (hge : ∀ e ∈ wr, s9 ≤ e.1) (hR : va_P D vwCl wr H1) : ∀ (k : Nat) (q : Nat × va_E), wr[k]? = some q → ¬ wA w H1.size q.1 := by
  intro k q h z
  have h1 := hge q (List.mem_of_getElem? h)
  have h2 := (hR k q h).lt
  rcases z with ⟨i, e9, hi⟩ | z
  · have h3 : q.1 < s9 := hlt _ _ (q.1, e9) hi
    omega
  · omega
set_option maxHeartbeats 4000000 in
theorem c_X2_netCycle {l : Launch} {D : va_G} {Z : zZ} {cA : Nat → ClassId} (hZ : zOk Z) (hfl : l.stackTraces = false) (hz : ∀ A U H, Z A U H → zT9 A U H) (sz : Nat) {a : Nat → Nat} (σ : zT) {em : Nat} (hem : ∀ A U H, Z A U H → zOp D em A U H) (n0 : Nat) (hn : σ 0 0 = n0 ∧ n0 ≤ 7) (B : Int) (hgo : gOk (σ 0) B)  : vx_Met l yX2_netCycle (ws_ yX2_netCycle cX2_netCycle 1 (some .int)) { frames := 11, cells := 5, slots := 23, locals := 304 } (mPc (a 3) (wPc D vwCl (tyL cA) Z (hW a cA) [] [.ref (a 0)] sz σ)) (wQi D vwCl (hW a cA) (fun r y => ∃ q, lookF (σ 0) n0 = some q ∧ r = iI (smF (σ 0) q q.length) ∧ y = sA σ 0 (sNets (σ 0) q)) sz) (xQ (fun k => lookF (σ 0) n0 = none ∧ k = 5) (wA (hW a cA) sz)) 5 23 (wA (hW a cA) sz) := by
  refine w_metXM (cc := cX2_netCycle) (maxL := 1) (ret := some .int) (own := RX2) (by decide) rfl rfl hW_ok (Nat.le_of_ble_eq_true rfl) ?_
  intro p e s m below meth c hX ht hmf hsz hK hP hD hA hE hS hR hN ls hl
  have hx := hX.1
  have hb := hX.2.1
  have hz0 := hz _ _ _ hE
  have hl : lv_has ls 1 [(0, .ref (a 0))] := hl
  refine lv_aload_n hx hb dX2_netCycle_0 rfl (lv_at hl 0 rfl) ?_
  refine lv_aload_n hx hb dX2_netCycle_1 rfl (lv_at hl 0 rfl) ?_
  have hlt := wLt_of hW_ok hP
  refine x_callQ hX ht hA hP hS (vx_runV (As := []) (rest := [.ref (a 0)]) hX.fix (c_X2_requireCycle hZ hfl hz _ σ hem n0 hn B hgo) (cwV 0 hX.hts (lw_V q589 q590 q591 q81 q592) rfl rfl rfl (by decide +kernel) ⟨Nat.le_of_ble_eq_true rfl, Nat.le_of_ble_eq_true rfl⟩) (r_preV hZ hK hA hE hP hS (va_recv hK hP (ci := 1) (q0 := 0) vw_X2 hW_0)) rfl rfl hl.1 rfl (lv_room (Nat.le_of_ble_eq_true rfl)) dX2_netCycle_2 ⟨Nat.le_of_ble_eq_true rfl, Nat.le_of_ble_eq_true rfl⟩) (fun k hk => hk) ⟨Nat.le_of_ble_eq_true rfl, Nat.le_of_ble_eq_true rfl⟩ (fun r9 w1 H locs hq hP1 hP hS => ?_)
  obtain ⟨q, cy, ar, hL, rfl, rfl, hge⟩ := hq
  refine W.eq (g2 := F0 m 5 ls [.ref cy, .ref (a 0)]) rfl ?_
  refine W_mon hmf (fun hm9 => ?_)
  refine w_calli hD hA hS (va_runV (As := [.ref cy]) (rest := []) hX.fix (c_X2_net hZ hfl hz _ (σ) q (by have := (lookF_ok hL).2.1; have := (lookF_ok hL).2.2.1; omega) (fun k hk => by have := (lookF_ok hL).1.2.1 k hk; omega) (by have := smF_999 (g := σ 0) (q := q) q.length; have := smF_pos (g := σ 0) (q := q) q.length (fun j hj => cOk_edge (lookF_ok hL) hj); omega)) (cwV 1 hX.hts (lw_V q681 q683 qs11 q81 q684) rfl rfl rfl (by decide +kernel) ⟨Nat.le_of_ble_eq_true rfl, Nat.le_of_ble_eq_true rfl⟩) (mPc_V (w_preVW hZ hK hD hA hE hP hP1 (n_new hlt hge hP1) hS (va_recv hK hP (ci := 1) (q0 := 0) vw_X2 hW_0)) hm9) rfl rfl hl.1 rfl (lv_room (Nat.le_of_ble_eq_true rfl)) dX2_netCycle_5 ⟨Nat.le_of_ble_eq_true rfl, Nat.le_of_ble_eq_true rfl⟩) (fun r y H locs hq hP hS => ?_)
  rw [show y = sA σ 0 (sNets (σ 0) q) from hq.2.trans (rfl)] at hP
  rw [show r = iI (smF (σ 0) q q.length) from hq.1]
  refine vx_ret ?_
  exact w_iret hX hP hS (⟨q, hL, rfl, rfl⟩) dX2_netCycle_8
set_option maxHeartbeats 4000000 in
theorem c_X2_netAll {l : Launch} {D : va_G} {Z : zZ} {cA : Nat → ClassId} (hZ : zOk Z) (hfl : l.stackTraces = false) (hz : ∀ A U H, Z A U H → zT9 A U H) (sz : Nat) {a : Nat → Nat} (σ : zT) {em : Nat} (hem : ∀ A U H, Z A U H → zOp D em A U H) (n0 : Nat) (hn : σ 0 0 = n0 ∧ n0 ≤ 7) (B : Int) (hgo : gOk (σ 0) B) (F : Nat) (hFm : gMu (σ 0) < F) : Met l yX2_netAll (ws_ yX2_netAll cX2_netAll 4 (some .int)) { frames := 10, cells := 200, slots := 850, locals := 283 } (mPc (a 3) (wPc D vwCl (tyL cA) Z (hW a cA) [] [.ref (a 0)] sz σ)) (wQi D vwCl (hW a cA) (fun r y => r = iI ((naF n0 F (σ 0)).2 : Nat) ∧ y = sA σ 0 (naF n0 F (σ 0)).1) sz) 200 850 (wA (hW a cA) sz) := by
  refine w_metRM (cc := cX2_netAll) (maxL := 4) (ret := some .int) (own := RX2) (by decide) rfl rfl hW_ok (Nat.le_of_ble_eq_true rfl) ?_
  intro p e s m below meth c hX hmf hsz hK hP hD hA hE hS hR hN ls hl
  have hx := hX.1
  have hb := hX.2.1
  have hz0 := hz _ _ _ hE
  have hl : lv_has ls 4 [(0, .ref (a 0))] := hl
  refine z_iconst hX dX2_netAll_0 ?_
  refine z_top (y := ↑(0 : Nat)) (rfl) ?_
  refine lv_istore_n (lv' := [(1, .int (iI (↑(0 : Nat)))), (0, .ref (a 0))]) hx hb dX2_netAll_1 rfl hl (by decide) rfl (fun ls hl => ?_)
  refine lv_aload_n hx hb dX2_netAll_2 rfl (lv_at hl 1 rfl) ?_
  have hlt := wLt_of hW_ok hP
  refine l_callQ hP hA hS (va_runV (As := []) (rest := []) hX.fix (c_X2_nextCycle hZ hfl hz _ σ hem n0 hn B hgo) (cwV 0 hX.hts (lw_V q593 q594 q595 q81 q596) rfl rfl rfl (by decide +kernel) ⟨Nat.le_of_ble_eq_true rfl, Nat.le_of_ble_eq_true rfl⟩) (r_preV hZ hK hA hE hP hS (va_recv hK hP (ci := 1) (q0 := 0) vw_X2 hW_0)) rfl rfl hl.1 rfl (lv_room (Nat.le_of_ble_eq_true rfl)) dX2_netAll_3 ⟨Nat.le_of_ble_eq_true rfl, Nat.le_of_ble_eq_true rfl⟩) (fun r9 w1 H locs hq hP1 hP hz9 hS => ?_)
  obtain ⟨ov, rfl⟩ : ∃ ov, r9 = some ov := by
    rcases hq with ⟨h1, h2, h3⟩ | ⟨q, op, cy, ar, h1, h2, h3⟩
    · exact ⟨_, h2⟩
    · exact ⟨_, h2⟩
  refine W.eq (g2 := F0 m 6 ls [.ref ov]) rfl ?_
  refine lv_astore_n (lv' := [(2, .ref ov), (1, .int (iI (↑(0 : Nat)))), (0, .ref (a 0))]) hx hb dX2_netAll_6 rfl hl (by decide) rfl (fun ls hl => ?_)
  have L7 : ∀ (n : Nat) (k f ov : Nat) (G : Nat → Int), (f < n) → (gOk G B ∧ G 0 = n0 ∧ gMu G < f) → (naF n0 F (σ 0) = ((naF n0 f G).1, (naF n0 f G).2 + k)) → (k + gCt G ≤ 49) → ∀ (H : Heap) (locs : List Loc) (ls : Array Slot), va_P D vwCl (hW a cA (sA σ 0 G)) H → (∃ ws s9, ncP ((sA σ 0 G) 0) n0 em cA s9 (some ov) ws ∧ va_P D vwCl ws H ∧ wLt (hW a cA) s9) → va_S (wA (hW a cA) sz) s.heap H locs → lv_has ls 4 [(0, .ref (a 0)), (1, .int (iI (↑k))), (2, .ref ov)] → W p l e (headSpec (ws_ yX2_netAll cX2_netAll 4 (some .int)) { frames := 10, cells := 200, slots := 850, locals := 283 }).room s m ([.ref (a 0)] : List Value).toArray below meth c H locs (4 + 4 * k) (17 + 17 * k) (MQ below (wQi D vwCl (hW a cA) (fun r y => r = iI ((naF n0 F (σ 0)).2 : Nat) ∧ y = sA σ 0 (naF n0 F (σ 0)).1) sz) ([.ref (a 0)] : List Value).toArray s 200 850 (wA (hW a cA) sz)) (F0 m 7 ls []) := by
    intro n
    induction n with
    | zero =>
      intro k f ov G hf hG hN9 hC H locs ls hP hO hS hl
      exact absurd hf (by omega)
    | succ n ih7 =>
      intro k f ov G hf hG hN9 hC H locs ls hP hO hS hl
      obtain ⟨f', rfl⟩ : ∃ f', f = f' + 1 := ⟨f - 1, by have := gMu_nn hG.1; omega⟩
      obtain ⟨ws9, s9, hq, hP1, hlt⟩ := hO
      have hct0 := gCt_bd (g := G)
      refine lv_aload_n hx hb dX2_netAll_7 rfl (lv_at hl 2 rfl) ?_
      rcases hq with ⟨hL, he, rfl⟩ | ⟨q, op, cy, ar, hL, he, rfl, hge⟩
      · skip
        have hL : lookF G n0 = none := hL
        have he9 := (Option.some.inj he).symm
        subst he9
        have hP : va_P D vwCl (hW a cA (sA σ 0 G) ++ [enO em 14 [.null]]) H := va_P.app hP hP1
        refine r_calli (w := wL (hW a cA (sA σ 0 G) ++ [enO em 14 [.null]])) (x := zO) hA hP hS (va_runV (As := []) (rest := []) hX.fix (c_J14_isPresent_n hZ _) (cwV 0 hX.hts (lw_V q644 q645 q646 q101 q647) rfl rfl rfl (by decide +kernel) ⟨Nat.le_of_ble_eq_true rfl, Nat.le_of_ble_eq_true rfl⟩) (r_preV hZ hK hA hE ((P_r hP).sub [0] rfl : va_P D vwCl [enO em 14 [.null]] _) hS (va_recv hK (P_r hP) (ci := 14) (q0 := 0) vw_J14 rfl)) rfl rfl hl.1 rfl (lv_room (Nat.le_of_ble_eq_true rfl)) dX2_netAll_8 ⟨by show 4 + 4 * k + 0 ≤ 200; omega, by show 17 + 17 * k + 0 ≤ 850; omega⟩) (fun r y H locs hq hP hS => ?_)
        rw [show r = iI 0 from hq]
        refine z_if_eq (tgt := 37) hX (by decide) dX2_netAll_11 (by decide) (fun h9 => ?_) (fun h9 => absurd h9 (by decide))
        refine lv_iload_n hx hb dX2_netAll_37 rfl (lv_at hl 1 rfl) ?_
        refine W.eq (g2 := F0 m 38 ls [.int (iI (↑k))]) rfl ?_
        have hP := P_l hP
        refine W.widen (k := 200) (n := 850) (by omega) (by omega) ?_
        exact w_iret hX hP hS (by
          rw [naF_none hL] at hN9
          have e1 := congrArg Prod.fst hN9
          have e2 := congrArg Prod.snd hN9
          exact ⟨by rw [show (naF n0 F (σ 0)).2 = k from e2.trans (Nat.zero_add k)], by rw [show (naF n0 F (σ 0)).1 = G from e1]⟩) dX2_netAll_38
      · skip
        have hL : lookF G n0 = some q := hL
        have he9 := (Option.some.inj he).symm
        subst he9
        have hP : va_P D vwCl (hW a cA (sA σ 0 G) ++ [enO op 14 [.ref cy], enO cy 6 [.ref ar, .int (iI (smF G q q.length))], enI cA ar (q.length) (fun k => (qk q k : Int))]) H := va_P.app hP hP1
        refine r_calli (w := wL (hW a cA (sA σ 0 G) ++ [enO op 14 [.ref cy], enO cy 6 [.ref ar, .int (iI (smF G q q.length))], enI cA ar (q.length) (fun k => (qk q k : Int))])) (x := zO) hA hP hS (va_runV (As := []) (rest := []) hX.fix (c_J14_isPresent_y hZ _) (cwV 0 hX.hts (lw_V q644 q645 q646 q101 q647) rfl rfl rfl (by decide +kernel) ⟨Nat.le_of_ble_eq_true rfl, Nat.le_of_ble_eq_true rfl⟩) (r_preV hZ hK hA hE ((P_r hP).sub [0] rfl : va_P D vwCl [enO op 14 [.ref cy]] _) hS (va_recv hK (P_r hP) (ci := 14) (q0 := 0) vw_J14 rfl)) rfl rfl hl.1 rfl (lv_room (Nat.le_of_ble_eq_true rfl)) dX2_netAll_8 ⟨by show 4 + 4 * k + 0 ≤ 200; omega, by show 17 + 17 * k + 0 ≤ 850; omega⟩) (fun r y H locs hq hP hS => ?_)
        rw [show r = iI 1 from hq]
        refine z_if_eq (tgt := 37) hX (by decide) dX2_netAll_11 (by decide) (fun h9 => absurd h9 (by decide)) (fun h9 => ?_)
        refine lv_aload_n hx hb dX2_netAll_14 rfl (lv_at hl 0 rfl) ?_
        refine lv_aload_n hx hb dX2_netAll_15 rfl (lv_at hl 2 rfl) ?_
        refine l_callQ hP hA hS (va_runV (As := []) (rest := [.ref (a 0)]) hX.fix (c_J14_get hZ hfl hz _) (cwV 0 hX.hts (lw_V q663 q664 q665 q101 q666) rfl rfl rfl (by decide +kernel) ⟨Nat.le_of_ble_eq_true rfl, Nat.le_of_ble_eq_true rfl⟩) (r_preV hZ hK hA hE ((P_r hP).sub [0] rfl : va_P D vwCl [enO op 14 [.ref cy]] _) hS (va_recv hK (P_r hP) (ci := 14) (q0 := 0) vw_J14 rfl)) rfl rfl hl.1 rfl (lv_room (Nat.le_of_ble_eq_true rfl)) dX2_netAll_16 ⟨by show 4 + 4 * k + 0 ≤ 200; omega, by show 17 + 17 * k + 0 ≤ 850; omega⟩) (fun r9 w1 H locs hq _ hP hz9 hS => ?_)
        obtain ⟨rfl, rfl⟩ := hq
        refine W.eq (g2 := F0 m 19 ls [.ref cy, .ref (a 0)]) rfl ?_
        refine z_castS hx hb hX.ow (hX.hts _ q604) (va_recv hK (P_r hP) (ci := 6) (q0 := 1) vw_X7 rfl) dX2_netAll_19 ?_
        have hR9 : va_P D vwCl (cyW cy ar cA q (smF G q q.length)) H := (P_r hP).sub [1, 2] rfl
        have hP := P_l hP
        refine W_mon hmf (fun hm9 => ?_)
        refine w_calli hD hA hS (va_runV (As := [.ref cy]) (rest := []) hX.fix (c_X2_net hZ hfl hz _ (sA σ 0 G) q (by have := (lookF_ok hL).2.1; have := (lookF_ok hL).2.2.1; omega) (fun k hk => by have := (lookF_ok hL).1.2.1 k hk; omega) (by have := smF_999 (g := G) (q := q) q.length; have := smF_pos (g := G) (q := q) q.length (fun j hj => cOk_edge (lookF_ok hL) hj); omega)) (cwV 1 hX.hts (lw_V q681 q683 qs11 q81 q684) rfl rfl rfl (by decide +kernel) ⟨Nat.le_of_ble_eq_true rfl, Nat.le_of_ble_eq_true rfl⟩) (mPc_V (w_preVW hZ hK hD hA hE hP hR9 (n_new hlt (fun e he => hge e (List.mem_cons_of_mem _ he)) hR9) hS (va_recv hK hP (ci := 1) (q0 := 0) vw_X2 hW_0)) hm9) rfl rfl hl.1 rfl (lv_room (Nat.le_of_ble_eq_true rfl)) dX2_netAll_22 ⟨by show 4 + 4 * k + 0 ≤ 200; omega, by show 17 + 17 * k + 0 ≤ 850; omega⟩) (fun r y H locs hq hP hS => ?_)
        rw [show y = sA σ 0 (sNets G q) from hq.2.trans (sA_sA.trans rfl)] at hP
        rw [show r = iI (smF G q q.length) from hq.1]
        have hqo := lookF_ok hL
        have hctl := sNets_ct hqo hn.2 hG.1
        have hG2 : gOk (sNets G q) B ∧ sNets G q 0 = n0 ∧ gMu (sNets G q) < f' := ⟨sNets_ok hqo hn.2 hG.1, by rw [sNets_lo hqo hn.2 (by omega) (by omega)]; exact hG.2.1, by have := sNets_mu hqo hn.2; have := hG.2.2; omega⟩
        have hct1 := gCt_bd (g := sNets G q)
        refine lv_istore_n (lv' := [(3, .int (iI (smF G q q.length))), (0, .ref (a 0)), (1, .int (iI (↑k))), (2, .ref op)]) hx hb dX2_netAll_25 rfl hl (by decide) rfl (fun ls hl => ?_)
        refine z_iinc (y := ↑(k + 1)) (lv' := [(1, .int (iI (↑(k + 1)))), (3, .int (iI (smF G q q.length))), (0, .ref (a 0)), (2, .ref op)]) hX dX2_netAll_26 hl (k := 2) rfl (by omega) (by decide) rfl (fun ls hl => ?_)
        refine lv_aload_n hx hb dX2_netAll_29 rfl (lv_at hl 2 rfl) ?_
        refine W.eq (g2 := F0 m 30 ls [.ref (a 0)]) rfl ?_
        have hlt2 := wLt_of hW_ok hP
        refine l_callQ hP hA hS (va_runV (As := []) (rest := []) hX.fix (c_X2_nextCycle hZ hfl hz _ (sA σ 0 (sNets G q)) hem n0 ⟨hG2.2.1, hn.2⟩ B hG2.1) (cwV 0 hX.hts (lw_V q593 q594 q595 q81 q596) rfl rfl rfl (by decide +kernel) ⟨Nat.le_of_ble_eq_true rfl, Nat.le_of_ble_eq_true rfl⟩) (r_preV hZ hK hA hE hP hS (va_recv hK hP (ci := 1) (q0 := 0) vw_X2 hW_0)) rfl rfl hl.1 rfl (lv_room (Nat.le_of_ble_eq_true rfl)) dX2_netAll_30 ⟨by show 4 + 4 * k + 4 ≤ 200; omega, by show 17 + 17 * k + 17 ≤ 850; omega⟩) (fun r9 w1 H locs hq hP1 hP hz9 hS => ?_)
        obtain ⟨ov2, rfl⟩ : ∃ ov, r9 = some ov := by
          rcases hq with ⟨h1, h2, h3⟩ | ⟨q, op, cy, ar, h1, h2, h3⟩
          · exact ⟨_, h2⟩
          · exact ⟨_, h2⟩
        refine W.eq (g2 := F0 m 33 ls [.ref ov2]) rfl ?_
        refine lv_astore_n (lv' := [(2, .ref ov2), (1, .int (iI (↑(k + 1)))), (3, .int (iI (smF G q q.length))), (0, .ref (a 0))]) hx hb dX2_netAll_33 rfl hl (by decide) rfl (fun ls hl => ?_)
        refine lv_goto (tgt := 7) hx hb dX2_netAll_34 (by decide) ?_
        refine W.widen (k := 4 + 4 * (k + 1)) (n := 17 + 17 * (k + 1)) (by omega) (by omega) ?_
        have hO : ∃ ws s9, ncP ((sA σ 0 (sNets G q)) 0) n0 em cA s9 (some ov2) ws ∧ va_P D vwCl ws H ∧ wLt (hW a cA) s9 := ⟨w1, _, hq, hP1, hlt2⟩
        exact ih7 (k + 1) (f') (ov2) (sNets G q) (by omega) (hG2) (by rw [hN9, naF_some hL]; exact congrArg (Prod.mk _) (by omega)) (by omega) _ _ _ hP hO hS (lv_sub hl [3, 1, 0] rfl)
  refine W.widen (k := 4 + 4 * (0)) (n := 17 + 17 * (0)) (by omega) (by omega) ?_
  have hO : ∃ ws s9, ncP ((sA σ 0 (σ 0)) 0) n0 em cA s9 (some ov) ws ∧ va_P D vwCl ws H ∧ wLt (hW a cA) s9 := ⟨w1, _, hq, hP1, hlt⟩
  rw [show σ = sA σ 0 (σ 0) from sA_self.symm] at hP
  exact L7 (F + 1) (0) (F) (ov) (σ 0) (by omega) (⟨hgo, hn.1, hFm⟩) (by rw [Nat.add_zero]) (by have := gCt_bd (g := σ 0); omega) _ _ _ hP hO hS (lv_sub hl [2, 1, 0] rfl)
