/-! failing, cascading, calling in -/
set_option maxRecDepth 100000
section
variable {p : Program} {l : Launch} {e : Env} {R : Room} {s : State} {m : MethodId} {args : Array Value} {below : List Frame} {meth : Method} {c : Code} {H : Heap} {locs : List Loc} {cells slots : Nat} {Q : State → Prop}
variable {cc : ByteArray} {pc : Nat} {ls : Array Slot} {rest st0 : List Value} {D : va_G} {A : Nat → Prop} {nL : Nat} {ret : Option FieldType} {a : Nat → Nat} {cA : Nat → ClassId} {x : zT} {G : va_W}
theorem hg_stc (hX : zX p s m args meth c cc RX2 nL ret) (hK : va_K D vwCl (tyL cA) s) (hD : ∀ y, va_D A (hW a cA y ++ G)) (hP : va_P D vwCl (hW a cA x) H) (hG : va_P D vwCl G H) (hS : va_S A s.heap H locs) {E v : Int} (i : Nat) (hi : E = (i : Int) ∧ i < 7) (hdg : decode cc pc = .ok (.iastore, 1)) (kk : ∀ (H1 : Heap) (locs1 : List Loc), va_P D vwCl (hW a cA (uA x 0 (5 + i) v)) H1 → va_P D vwCl G H1 → va_S A s.heap H1 locs1 → W p l e R s m args below meth c H1 locs1 cells slots Q (F0 m (pc + 1) ls rest)) : W p l e R s m args below meth c H locs cells slots Q (F0 m pc ls (.int (iI v) :: .int (iI E) :: .ref (a 2) :: rest)) :=
  va_iast hX.1 hX.2.1 hK (va_P.app hP hG) (hD x) hS 2 0 (rfl : (hW a cA x ++ G)[2]? = some (a 2, .inl (cA 0, 7, .inl (fun k => if k < 7 then iI (x 0 (5 + k)) else iI 0)))) ty_0 (iI_in i hi.1 hi.2 (by decide)) hdg (fun H1 locs1 hP1 _ hS1 => by
    rw [iI_cl i hi.1 (by omega), List.set_append_left 2 _ (show 2 < (hW a cA x).length from Nat.le_of_ble_eq_true rfl), hW_sc hi.2] at hP1
    exact kk H1 locs1 (P_l hP1) (P_r hP1) hS1)
theorem hg_std (hX : zX p s m args meth c cc RX2 nL ret) (hK : va_K D vwCl (tyL cA) s) (hD : ∀ y, va_D A (hW a cA y ++ G)) (hP : va_P D vwCl (hW a cA x) H) (hG : va_P D vwCl G H) (hS : va_S A s.heap H locs) {E v : Int} (i j : Nat) (hi : i < 7) (hj : E = (j : Int) ∧ j < 7) (hdg : decode cc pc = .ok (.iastore, 1)) (kk : ∀ (H1 : Heap) (locs1 : List Loc), va_P D vwCl (hW a cA (uA x 0 (12 + 7 * i + j) v)) H1 → va_P D vwCl G H1 → va_S A s.heap H1 locs1 → W p l e R s m args below meth c H1 locs1 cells slots Q (F0 m (pc + 1) ls rest)) : W p l e R s m args below meth c H locs cells slots Q (F0 m pc ls (.int (iI v) :: .int (iI E) :: .ref (a (4 + i)) :: rest)) := by
  have hlen : 4 + i < (hW a cA x).length := by show 4 + i < 11; omega
  exact va_iast hX.1 hX.2.1 hK (va_P.app hP hG) (hD x) hS (4 + i) 0 (by rw [List.getElem?_append_left hlen]; exact hW_r hi) ty_0 (iI_in j hj.1 hj.2 (by decide)) hdg (fun H1 locs1 hP1 _ hS1 => by
    rw [iI_cl j hj.1 (by omega), List.set_append_left (4 + i) _ hlen, hW_sd hi hj.2] at hP1
    exact kk H1 locs1 (P_l hP1) (P_r hP1) hS1)
theorem DG_of {s9 q n : Nat} {f : Nat → Int} (hD : ∀ y, va_D A (hW a cA y)) (hlt : wLt (hW a cA) s9) (hq : s9 ≤ q) (hA : A q) : ∀ y, va_D A (hW a cA y ++ [enI cA q n f]) := fun y => by
  refine va_D.app (hD y) ⟨fun i j x y hi hj e9 => ?_, fun k x hk => ?_⟩ (fun i j x y hi hj e9 => ?_)
  · have h1 := (List.getElem?_eq_some_iff.mp hi).1
    have h2 := (List.getElem?_eq_some_iff.mp hj).1
    simp only [List.length_cons, List.length_nil] at h1 h2
    omega
  · cases k with
    | zero => cases hk; exact hA
    | succ k => cases hk
  · have h1 := hlt _ _ _ hi
    cases j with
    | zero => cases hj; have h2 : x.1 = q := e9; omega
    | succ j => cases hj
end
theorem gA_0 {g : Nat → Int} {k : Nat} : gA g k 0 = g := by
  unfold gA; rw [Int.add_zero, gU_self]
theorem mSh_z {g : Nat → Int} {B : Int} (hg : gOk g B) {p k : Nat} (hp : p < 7) (hk : k < 7) (h : g 0 ≤ k ∨ p = k) : mSh g p k = 0 := if_pos (hg.2.2.2.1 p k hp hk (by omega))
theorem flF_n {g : Nat → Int} {B : Int} (hg : gOk g B) {n p : Nat} (hn : g 0 = n ∧ n ≤ 7) (hp : p < 7) : ∀ i, n ≤ i → i ≤ 7 → flF g p i = flF g p n := by
  intro i
  induction i with
  | zero => intro h _; rw [show n = 0 by omega]
  | succ i ih =>
    intro h h7
    by_cases e : n = i + 1
    · rw [e]
    · rw [← ih (by omega) (by omega)]
      show gU (gA (flF g p i) (5 + i) (mSh g p i)) (12 + 7 * p + i) 0 = flF g p i
      rw [mSh_z hg hp (by omega) (Or.inl (by omega)), gA_0]
      have h9 : flF g p i (12 + 7 * p + i) = 0 := by
        rw [flF_d i (by omega) _ (by omega), if_neg (by omega)]
        exact hg.2.2.2.1 p i hp (by omega) (Or.inr (Or.inl (by omega)))
      rw [← h9, gU_self]
theorem uA_01 {x : zT} {F R : Nat → Int} {k : Nat} {v : Int} : uA (sA (sA x 0 F) 1 R) 0 k v = sA (sA x 0 (gU F k v)) 1 R := by
  rw [uA_out (by decide), uA_in]
theorem sA_0101 {x : zT} {F R F2 R2 : Nat → Int} : sA (sA (sA (sA x 0 F) 1 R) 0 F2) 1 R2 = sA (sA x 0 F2) 1 R2 := by
  rw [sA_comm (j := 1) (i := 0) (by decide), sA_sA, sA_sA]
theorem sA_011 {x : zT} {F R R2 : Nat → Int} : sA (sA (sA x 0 F) 1 R) 1 R2 = sA (sA x 0 F) 1 R2 := sA_sA
theorem sA_self2 {x : zT} : x = sA (sA x 0 (x 0)) 1 (x 1) := by
  rw [sA_self, sA_self]
/-- what those that fail in turn have given away -/
def fsF (n : Nat) : Nat → (Nat → Int) → Int
  | 0, _ => 0
  | f + 1, g => if wkF g n < 0 then 0 else g (5 + (wkF g n).toNat) + fsF n f (sFall g (wkF g n).toNat)
theorem fsF_none {n f : Nat} {g : Nat → Int} (h : wkF g n < 0) : fsF n (f + 1) g = 0 := if_pos h
theorem fsF_some {n f : Nat} {g : Nat → Int} (h : ¬ wkF g n < 0) : fsF n (f + 1) g = g (5 + (wkF g n).toNat) + fsF n f (sFall g (wkF g n).toNat) := if_neg h
set_option maxHeartbeats 4000000 in
theorem c_X2_requireInsolvent {l : Launch} {D : va_G} {Z : zZ} {cA : Nat → ClassId} (hZ : zOk Z) (hfl : l.stackTraces = false) (hz : ∀ A U H, Z A U H → zT9 A U H) (sz : Nat) {a : Nat → Nat} (σ : zT) (n0 : Nat) (hn : σ 0 0 = n0 ∧ n0 ≤ 7) (B : Int) (hgo : gOk (σ 0) B) (hB : B ≤ 2000000) (P : Int) (hr : (-2147483648 ≤ P ∧ P ≤ 2147483647)) : vx_Met l yX2_requireInsolvent (ws_ yX2_requireInsolvent cX2_requireInsolvent 2 (none)) { frames := 8, cells := 2, slots := 12, locals := 142 } (wPc D vwCl (tyL cA) Z w0 (hW a cA σ) [.ref (a 0), .int (iI (P))] sz zO) (wQv D vwCl w0 (fun _ => mIs (σ 0) P ∧ 0 < mLk (σ 0) P.toNat) sz) (xQ (fun k => cDecl (σ 0) P ≠ 0 ∧ k = cDecl (σ 0) P + (if cDecl (σ 0) P = 2 then 1 else 0)) (wA w0 sz)) 2 12 (wA w0 sz) := by
  refine w_metX (cc := cX2_requireInsolvent) (maxL := 2) (ret := none) (own := RX2) (by decide) rfl rfl w0_ok (Nat.le_of_ble_eq_true rfl) ?_
  intro p e s m below meth c hX ht hsz hK hP hD hA hE hS hR hN ls hl
  have hx := hX.1
  have hb := hX.2.1
  have hz0 := hz _ _ _ hE
  have hl : lv_has ls 2 [(0, .ref (a 0)), (1, .int (iI (P)))] := hl
  refine lv_aload_n hx hb dX2_requireInsolvent_0 rfl (lv_at hl 0 rfl) ?_
  refine lv_iload_n hx hb dX2_requireInsolvent_1 rfl (lv_at hl 1 rfl) ?_
  refine x_callv hX ht hA hP hS (vx_runV (As := [.int (iI (P))]) (rest := []) hX.fix (c_X2_requireParty hZ hfl hz _ σ n0 hn (P) (by omega)) (cwV 1 hX.hts (lw_V q318 q319 q320 q81 q321) rfl rfl rfl (by decide +kernel) ⟨Nat.le_of_ble_eq_true rfl, Nat.le_of_ble_eq_true rfl⟩) (r_preV hZ hK hA hE (hR _ _ hS) hS (va_recv hK (hR _ _ hS) (ci := 1) (q0 := 0) vw_X2 hW_0)) rfl rfl hl.1 rfl (lv_room (Nat.le_of_ble_eq_true rfl)) dX2_requireInsolvent_2 ⟨Nat.le_of_ble_eq_true rfl, Nat.le_of_ble_eq_true rfl⟩) (fun k hk => by rw [show cDecl (σ 0) P = 1 from if_pos hk.1]; exact ⟨by decide, hk.2⟩) ⟨Nat.le_of_ble_eq_true rfl, Nat.le_of_ble_eq_true rfl⟩ (fun y H locs hq hP hS => ?_)
  obtain ⟨d1, rfl, hd1⟩ : ∃ d : Nat, P = (d : Int) ∧ d < n0 := ⟨P.toNat, by have h8 : 0 ≤ P ∧ P ≤ σ 0 0 - 1 := hq; omega, by have h8 : 0 ≤ P ∧ P ≤ σ 0 0 - 1 := hq; omega⟩
  have hq1 := hq
  refine lv_aload_n hx hb dX2_requireInsolvent_5 rfl (lv_at hl 0 rfl) ?_
  refine lv_iload_n hx hb dX2_requireInsolvent_6 rfl (lv_at hl 1 rfl) ?_
  refine r_calli hA hP hS (va_runV (As := [.int (iI (↑d1))]) (rest := []) hX.fix (c_X2_isInsolvent hZ _ σ n0 hn B hgo hB d1 _ ⟨rfl, by omega⟩) (cwV 1 hX.hts (lw_V q509 q510 q511 q81 q512) rfl rfl rfl (by decide +kernel) ⟨Nat.le_of_ble_eq_true rfl, Nat.le_of_ble_eq_true rfl⟩) (r_preV hZ hK hA hE (hR _ _ hS) hS (va_recv hK (hR _ _ hS) (ci := 1) (q0 := 0) vw_X2 hW_0)) rfl rfl hl.1 rfl (lv_room (Nat.le_of_ble_eq_true rfl)) dX2_requireInsolvent_7 ⟨Nat.le_of_ble_eq_true rfl, Nat.le_of_ble_eq_true rfl⟩) (fun r y H locs hq hP hS => ?_)
  rw [show r = iI (bI (0 < mLk (σ 0) d1)) from hq]
  refine x_callv hX ht hA hP hS (vx_runSN (As := [.int (iI (bI (0 < mLk (σ 0) d1)))]) (rest := []) hX.fix (c_X1_requireState hZ hfl hz _ (bI (0 < mLk (σ 0) d1)) (bI_01)) ⟨va_cnB 1 hX.hts (lw_meth q422) rfl rfl rfl (hz0.1 _ q420 rfl) (hX.hts _ q80) (by decide +kernel) ⟨Nat.le_of_ble_eq_true rfl, Nat.le_of_ble_eq_true rfl⟩, hX.hts _ q421, trivial⟩ (r_preS hZ hK hA hE (fun k q h => by cases h) hS) rfl rfl hl.1 rfl (lv_room (Nat.le_of_ble_eq_true rfl)) dX2_requireInsolvent_10 ⟨Nat.le_of_ble_eq_true rfl, Nat.le_of_ble_eq_true rfl⟩) (fun k hk => by rw [show cDecl (σ 0) (d1 : Int) = 2 from (if_neg (fun h => h hq1)).trans (if_pos (fun h => by rw [Int.toNat_natCast] at h; rw [bI_t h] at hk; exact absurd hk.1 (by decide)))]; exact ⟨by decide, hk.2⟩) ⟨Nat.le_of_ble_eq_true rfl, Nat.le_of_ble_eq_true rfl⟩ (fun y H locs hq hP hS => ?_)
  refine vx_ret ?_
  exact w_vret hX hP hS (⟨hq1, Decidable.by_contra (fun h => by rw [Int.toNat_natCast] at h; rw [bI_f h] at hq; exact absurd hq (by decide))⟩) dX2_requireInsolvent_13
theorem fl_acc {σ : zT} {F : Nat → Int} {c v : Int} : uA (uA (sA σ 0 F) 1 2 ((sA σ 0 F) 1 2 + c)) 0 3 ((sA σ 0 F) 0 3 + v) = sA (sA σ 0 (gA F 3 v)) 1 (gA (σ 1) 2 c) := by
  rw [uA_sA (sA σ 0 F) 1 2]
  rw [uA_01]
  rfl
theorem fl_end {g F : Nat → Int} {p : Nat} {v : Int} (hF : F = flF g p 7) (hv : v = mOb g p - g (5 + p)) : gU (gU (gA F 3 v) (5 + p) 0) 4 (gU (gA F 3 v) (5 + p) 0 4 + 1) = sFall g p := by
  subst hF; subst hv
  unfold sFall gA
  rw [gU_comm (k := 3) (j := 5 + p) (by omega), gU_ne (k := 5 + p) (k' := 3) (by omega)]
theorem fl_cash {g : Nat → Int} {B : Int} (hg : gOk g B) {n p : Nat} (hn : g 0 = n ∧ n ≤ 7) (hp : p < 7) : flF g p 7 (5 + p) = g (5 + p) := by
  rw [flF_c 7 (Nat.le_refl _) p hp, if_pos hp, mSh_z hg hp hp (Or.inr rfl), Int.add_zero]
set_option maxHeartbeats 4000000 in
theorem c_X2_fail {l : Launch} {D : va_G} {Z : zZ} {cA : Nat → ClassId} (hZ : zOk Z) (hfl : l.stackTraces = false) (hz : ∀ A U H, Z A U H → zT9 A U H) (sz : Nat) {a : Nat → Nat} (σ : zT) (n0 : Nat) (hn : σ 0 0 = n0 ∧ n0 ≤ 7) (B : Int) (hgo : gOk (σ 0) B) (hB : B ≤ 2000000) (p1 : Nat) (E1 : Int) (h1 : E1 = p1 ∧ p1 < 7) (hO : 0 < mOb (σ 0) p1) : Met l yX2_fail (ws_ yX2_fail cX2_fail 5 (some .int)) { frames := 3, cells := 7, slots := 46, locals := 65 } (mPc (a 3) (wPc D vwCl (tyL cA) Z (hW a cA) [] [.ref (a 0), .int (iI (E1))] sz σ)) (wQi D vwCl (hW a cA) (fun r y => r = iI (mOb (σ 0) p1 - σ 0 (5 + p1)) ∧ y = sA (sA σ 0 (sFall (σ 0) p1)) 1 (gA (σ 1) 2 (σ 0 (5 + p1)))) sz) 7 46 (wA (hW a cA) sz) := by
  obtain ⟨rfl, h1⟩ := h1
  refine w_metRM (cc := cX2_fail) (maxL := 5) (ret := some .int) (own := RX2) (by decide) rfl rfl hW_ok (Nat.le_of_ble_eq_true rfl) ?_
  intro p e s m below meth c hX hmf hsz hK hP hD hA hE hS hR hN ls hl
  have hx := hX.1
  have hb := hX.2.1
  have hz0 := hz _ _ _ hE
  have hl : lv_has ls 5 [(0, .ref (a 0)), (1, .int (iI (↑p1)))] := hl
  have hS9 := hS
  refine lv_aload_n hx hb dX2_fail_0 rfl (lv_at hl 0 rfl) ?_
  refine lv_iload_n hx hb dX2_fail_1 rfl (lv_at hl 1 rfl) ?_
  have hlt := wLt_of hW_ok hP
  refine l_callQ hP hA hS (va_runV (As := [.int (iI (↑p1))]) (rest := []) hX.fix (c_X2_shares hZ hfl hz _ σ n0 hn B hgo p1 _ ⟨rfl, h1⟩ hB hO) (cwV 1 hX.hts (lw_V q533 q534 q535 q81 q536) rfl rfl rfl (by decide +kernel) ⟨Nat.le_of_ble_eq_true rfl, Nat.le_of_ble_eq_true rfl⟩) (r_preV hZ hK hA hE hP hS (va_recv hK hP (ci := 1) (q0 := 0) vw_X2 hW_0)) rfl rfl hl.1 rfl (lv_room (Nat.le_of_ble_eq_true rfl)) dX2_fail_2 ⟨Nat.le_of_ble_eq_true rfl, Nat.le_of_ble_eq_true rfl⟩) (fun r9 w1 H locs hq hP1 hP hz9 hS => ?_)
  obtain ⟨sh, pa, ra, ia, rfl, rfl, hd1⟩ := hq
  refine W.eq (g2 := F0 m 5 ls [.ref sh]) rfl ?_
  refine l_callQ hP hA hS (va_runV (As := []) (rest := []) hX.fix (c_X6_give hZ hfl hz _ (σ 0) hgo hB n0 hn p1 h1 hO) (cwV 0 hX.hts (lw_V q561 q562 q563 q99 q564) rfl rfl rfl (by decide +kernel) ⟨Nat.le_of_ble_eq_true rfl, Nat.le_of_ble_eq_true rfl⟩) (r_preV hZ hK hA hE hP1 hS (va_recv hK hP1 (ci := 5) (q0 := 0) vw_X6 rfl)) rfl rfl hl.1 rfl (lv_room (Nat.le_of_ble_eq_true rfl)) dX2_fail_5 ⟨Nat.le_of_ble_eq_true rfl, Nat.le_of_ble_eq_true rfl⟩) (fun r9 w1 H locs hq hG hP hz9b hS => ?_)
  obtain ⟨gv, rfl, rfl, hd2⟩ := hq
  have hgv : _ ≤ gv := Nat.le_trans hz9 (wL_nil (hd2.2 0 _ rfl))
  have hDG := DG_of (n := n0) (f := tkF (fun k => mSh (σ 0) p1 k) n0) hD hlt hgv (hA gv (by have h8 := wL_nil (hd2.2 0 _ rfl); have h7 := hS9.1; omega))
  refine W.eq (g2 := F0 m 8 ls [.ref gv]) rfl ?_
  refine lv_astore_n (lv' := [(2, .ref gv), (0, .ref (a 0)), (1, .int (iI (↑p1)))]) hx hb dX2_fail_8 rfl hl (by decide) rfl (fun ls hl => ?_)
  refine lv_aload_n hx hb dX2_fail_9 rfl (lv_at hl 1 rfl) ?_
  refine lv_iload_n hx hb dX2_fail_10 rfl (lv_at hl 2 rfl) ?_
  refine r_calli (w := wL (hW a cA σ ++ [enI cA gv n0 (tkF (fun k => mSh (σ 0) p1 k) n0)])) (x := zO) hA (va_P.app hP hG) hS (va_runV (As := [.int (iI (↑p1))]) (rest := []) hX.fix (c_X2_shortOfCash hZ _ σ n0 hn B hgo p1 _ ⟨rfl, h1⟩) (cwV 1 hX.hts (lw_V q565 q567 qs8 q81 q568) rfl rfl rfl (by decide +kernel) ⟨Nat.le_of_ble_eq_true rfl, Nat.le_of_ble_eq_true rfl⟩) (r_preV hZ hK hA hE hP hS (va_recv hK hP (ci := 1) (q0 := 0) vw_X2 hW_0)) rfl rfl hl.1 rfl (lv_room (Nat.le_of_ble_eq_true rfl)) dX2_fail_11 ⟨Nat.le_of_ble_eq_true rfl, Nat.le_of_ble_eq_true rfl⟩) (fun r y H locs hq hP hS => ?_)
  rw [show r = iI (mOb (σ 0) p1 - σ 0 (5 + p1)) from hq]
  have hG := P_r (L0 := hW a cA σ) hP
  have hP := P_l (L0 := hW a cA σ) hP
  refine lv_istore_n (lv' := [(3, .int (iI (mOb (σ 0) p1 - σ 0 (5 + p1)))), (2, .ref gv), (0, .ref (a 0)), (1, .int (iI (↑p1)))]) hx hb dX2_fail_14 rfl hl (by decide) rfl (fun ls hl => ?_)
  refine W.eq (g2 := F0 m 15 ls []) rfl ?_
  refine z_iconst hX dX2_fail_15 ?_
  refine z_top (y := ↑(0 : Nat)) (rfl) ?_
  refine lv_istore (lv' := [(4, .int (iI (↑(0 : Nat)))), (3, .int (iI (mOb (σ 0) p1 - σ 0 (5 + p1)))), (2, .ref gv), (0, .ref (a 0)), (1, .int (iI (↑p1)))]) hx hb dX2_fail_16 hl (by decide) rfl (fun ls hl => ?_)
  have L18 : ∀ (n : Nat) (i : Nat), (n0 < i + n) → (i ≤ n0) → ∀ (H : Heap) (locs : List Loc) (ls : Array Slot), va_P D vwCl (hW a cA (sA σ 0 (flF (σ 0) p1 i))) H → va_P D vwCl [enI cA gv n0 (tkF (fun k => mSh (σ 0) p1 k) n0)] H → va_S (wA (hW a cA) sz) s.heap H locs → lv_has ls 5 [(0, .ref (a 0)), (1, .int (iI (↑p1))), (2, .ref gv), (3, .int (iI (mOb (σ 0) p1 - σ 0 (5 + p1)))), (4, .int (iI (↑i)))] → W p l e (headSpec (ws_ yX2_fail cX2_fail 5 (some .int)) { frames := 3, cells := 7, slots := 46, locals := 65 }).room s m ([.ref (a 0), .int (iI (↑p1))] : List Value).toArray below meth c H locs 7 46 (MQ below (wQi D vwCl (hW a cA) (fun r y => r = iI (mOb (σ 0) p1 - σ 0 (5 + p1)) ∧ y = sA (sA σ 0 (sFall (σ 0) p1)) 1 (gA (σ 1) 2 (σ 0 (5 + p1)))) sz) ([.ref (a 0), .int (iI (↑p1))] : List Value).toArray s 7 46 (wA (hW a cA) sz)) (F0 m 18 ls []) := by
    intro n
    induction n with
    | zero =>
      intro i hf hi H locs ls hP hG hS hl
      exact absurd hf (by omega)
    | succ n ih18 =>
      intro i hf hi H locs ls hP hG hS hl
      refine lv_iload hx hb dX2_fail_18 (lv_at hl 4 rfl) ?_
      refine lv_aload_n hx hb dX2_fail_20 rfl (lv_at hl 0 rfl) ?_
      refine h_get hX hK hP 3 (by decide) q172 rfl dX2_fail_21 ?_
      refine z_top (y := (flF (σ 0) p1 i) 0) (by rw [sA_j]) ?_
      refine z_top (y := σ 0 0) (flF_l i (by omega) 0 (by decide)) ?_
      refine z_icmp_ge (tgt := 57) hX (by omega) dX2_fail_24 (by decide) (fun c_24 => ?_) (fun c_24 => ?_)
      · skip
        obtain rfl : n0 = i := by omega
        rw [show flF (σ 0) p1 n0 = flF (σ 0) p1 7 from (flF_n hgo hn h1 7 hn.2 (Nat.le_refl _)).symm] at hP
        refine lv_aload_n hx hb dX2_fail_57 rfl (lv_at hl 0 rfl) ?_
        refine h_get hX hK hP 2 (by decide) q170 rfl dX2_fail_58 ?_
        refine lv_aload_n hx hb dX2_fail_61 rfl (lv_at hl 0 rfl) ?_
        refine h_get hX hK hP 1 (by decide) q168 rfl dX2_fail_62 ?_
        refine W.eq (g2 := F0 m 65 ls [.ref (a 2), .ref (a 3)]) rfl ?_
        refine lv_iload_n hx hb dX2_fail_65 rfl (lv_at hl 1 rfl) ?_
        refine h_ldc hX hK hP p1 (⟨rfl, by omega⟩) dX2_fail_66 ?_
        refine z_top (y := σ 0 (5 + p1)) (fl_cash hgo hn h1) ?_
        refine lv_iload_n hx hb dX2_fail_67 rfl (lv_at hl 3 rfl) ?_
        refine W_mon hmf (fun hm9 => ?_)
        refine w_callv (Z := Z) hD hA hS (va_runVS (n := 2) (As := [.int (iI (σ 0 (5 + p1))), .int (iI (mOb (σ 0) p1 - σ 0 (5 + p1)))]) (rest := []) hX.fix (c_X3_fail _ (sA σ 0 (flF (σ 0) p1 7)) (σ 0 (5 + p1)) (mOb (σ 0) p1 - σ 0 (5 + p1))) q569 q570 q571 q82 q572 rfl rfl (by decide +kernel) ⟨Nat.le_of_ble_eq_true rfl, Nat.le_of_ble_eq_true rfl⟩ (mPc_V (w_preV hZ hK hD hA hE hP hS (va_recv hK hP (ci := 2) (q0 := 3) vw_X3 hW_3)) hm9) rfl rfl hl.1 rfl (lv_room (Nat.le_of_ble_eq_true rfl)) dX2_fail_68 ⟨Nat.le_of_ble_eq_true rfl, Nat.le_of_ble_eq_true rfl⟩) (fun y H locs hq hP hS => ?_)
        rw [show y = sA (sA σ 0 (gA (flF (σ 0) p1 7) 3 (mOb (σ 0) p1 - σ 0 (5 + p1)))) 1 (gA (σ 1) 2 (σ 0 (5 + p1))) from hq.trans (fl_acc)] at hP
        refine lv_aload_n hx hb dX2_fail_71 rfl (lv_at hl 0 rfl) ?_
        refine h_get hX hK hP 1 (by decide) q168 rfl dX2_fail_72 ?_
        refine lv_iload_n hx hb dX2_fail_75 rfl (lv_at hl 1 rfl) ?_
        refine z_iconst hX dX2_fail_76 ?_
        refine h_stc hX hK hD hP hS p1 (⟨rfl, by omega⟩) dX2_fail_77 (fun H locs hP hS => ?_)
        rw [show uA (sA (sA σ 0 (gA (flF (σ 0) p1 7) 3 (mOb (σ 0) p1 - σ 0 (5 + p1)))) 1 (gA (σ 1) 2 (σ 0 (5 + p1)))) 0 (5 + p1) 0 = sA (sA σ 0 (gU (gA (flF (σ 0) p1 7) 3 (mOb (σ 0) p1 - σ 0 (5 + p1))) (5 + p1) 0)) 1 (gA (σ 1) 2 (σ 0 (5 + p1))) from uA_01] at hP
        refine lv_aload_n hx hb dX2_fail_78 rfl (lv_at hl 0 rfl) ?_
        refine W.eq (g2 := F0 m 79 ls [.ref (a 0)]) rfl ?_
        refine lv_dup hx hb dX2_fail_79 rfl ?_
        refine h_get hX hK hP 4 (by decide) q174 rfl dX2_fail_80 ?_
        refine z_top (y := (gU (gA (flF (σ 0) p1 7) 3 (mOb (σ 0) p1 - σ 0 (5 + p1))) (5 + p1) 0) 4) (by rw [sA_i (by decide), sA_j]) ?_
        refine z_iconst hX dX2_fail_83 ?_
        refine z_iadd hX dX2_fail_84 ?_
        refine w_put (w := hW a cA) (x := sA (sA σ 0 (gU (gA (flF (σ 0) p1 7) 3 (mOb (σ 0) p1 - σ 0 (5 + p1))) (5 + p1) 0)) 1 (gA (σ 1) 2 (σ 0 (5 + p1)))) (x' := uA (sA (sA σ 0 (gU (gA (flF (σ 0) p1 7) 3 (mOb (σ 0) p1 - σ 0 (5 + p1))) (5 + p1) 0)) 1 (gA (σ 1) 2 (σ 0 (5 + p1)))) 0 4 (((gU (gA (flF (σ 0) p1 7) 3 (mOb (σ 0) p1 - σ 0 (5 + p1))) (5 + p1) 0) 4) + 1)) hX hK hD hP hS in_X2 tyX2 tyX2_ok nmX2 0 rfl vw_X2 4 (by decide) q174 rfl rfl rfl (Nat.le_of_ble_eq_true rfl) hW_f4 dX2_fail_85 (fun H locs hP hS => ?_)
        rw [show uA (sA (sA σ 0 (gU (gA (flF (σ 0) p1 7) 3 (mOb (σ 0) p1 - σ 0 (5 + p1))) (5 + p1) 0)) 1 (gA (σ 1) 2 (σ 0 (5 + p1)))) 0 4 (((gU (gA (flF (σ 0) p1 7) 3 (mOb (σ 0) p1 - σ 0 (5 + p1))) (5 + p1) 0) 4) + 1) = sA (sA σ 0 (sFall (σ 0) p1)) 1 (gA (σ 1) 2 (σ 0 (5 + p1))) from uA_01.trans (congrArg (fun f => sA (sA σ 0 f) 1 (gA (σ 1) 2 (σ 0 (5 + p1)))) (fl_end rfl rfl))] at hP
        refine lv_iload_n hx hb dX2_fail_88 rfl (lv_at hl 3 rfl) ?_
        exact w_iret hX hP hS (⟨rfl, rfl⟩) dX2_fail_89
      · skip
        refine lv_aload_n hx hb dX2_fail_27 rfl (lv_at hl 0 rfl) ?_
        refine h_get hX hK hP 1 (by decide) q168 rfl dX2_fail_28 ?_
        refine lv_iload hx hb dX2_fail_31 (lv_at hl 4 rfl) ?_
        refine W.eq (g2 := F0 m 33 ls [.int (iI (↑i)), .ref (a 2)]) rfl ?_
        refine lv_dup2_11 hx hb dX2_fail_33 rfl rfl ?_
        refine h_ldc hX hK hP i (⟨rfl, by omega⟩) dX2_fail_34 ?_
        refine z_top (y := flF (σ 0) p1 i (5 + i)) (rfl) ?_
        refine lv_aload_n hx hb dX2_fail_35 rfl (lv_at hl 2 rfl) ?_
        refine lv_iload hx hb dX2_fail_36 (lv_at hl 4 rfl) ?_
        refine n_ald hX hK hG 0 rfl i (⟨rfl, by omega⟩) (by omega) dX2_fail_38 ?_
        refine z_top (y := mSh (σ 0) p1 i) (tk_r (by omega)) ?_
        refine z_iadd hX dX2_fail_39 ?_
        refine hg_stc hX hK hDG hP hG hS i (⟨rfl, by omega⟩) dX2_fail_40 (fun H locs hP hG hS => ?_)
        rw [show uA (sA σ 0 (flF (σ 0) p1 i)) 0 (5 + i) ((flF (σ 0) p1 i (5 + i)) + (mSh (σ 0) p1 i)) = sA σ 0 (gA (flF (σ 0) p1 i) (5 + i) (mSh (σ 0) p1 i)) from uA_in] at hP
        refine lv_aload_n hx hb dX2_fail_41 rfl (lv_at hl 0 rfl) ?_
        refine h_get hX hK hP 0 (by decide) q166 rfl dX2_fail_42 ?_
        refine lv_iload_n hx hb dX2_fail_45 rfl (lv_at hl 1 rfl) ?_
        refine W.eq (g2 := F0 m 46 ls [.int (iI (↑p1)), .ref (a 1)]) rfl ?_
        refine h_row hX hK hP p1 (⟨rfl, by omega⟩) dX2_fail_46 ?_
        refine lv_iload hx hb dX2_fail_47 (lv_at hl 4 rfl) ?_
        refine z_iconst hX dX2_fail_49 ?_
        refine hg_std hX hK hDG hP hG hS p1 i (by omega) (⟨rfl, by omega⟩) dX2_fail_50 (fun H locs hP hG hS => ?_)
        rw [show uA (sA σ 0 (gA (flF (σ 0) p1 i) (5 + i) (mSh (σ 0) p1 i))) 0 (12 + 7 * p1 + i) 0 = sA σ 0 (flF (σ 0) p1 (i + 1)) from uA_in] at hP
        refine z_iinc (y := ↑(i + 1)) (lv' := [(4, .int (iI (↑(i + 1)))), (0, .ref (a 0)), (1, .int (iI (↑p1))), (2, .ref gv), (3, .int (iI (mOb (σ 0) p1 - σ 0 (5 + p1))))]) hX dX2_fail_51 hl (k := 4) rfl (by omega) (by decide) rfl (fun ls hl => ?_)
        refine lv_goto (tgt := 18) hx hb dX2_fail_54 (by decide) ?_
        exact ih18 (i + 1) (by omega) (by omega) _ _ _ hP hG hS (lv_sub hl [1, 2, 3, 4, 0] rfl)
  rw [show σ = sA σ 0 (flF (σ 0) p1 0) from sA_self.symm] at hP
  exact L18 (n0 + 1) (0) (by omega) (by omega) _ _ _ hP hG hS (lv_sub hl [3, 4, 2, 1, 0] rfl)
set_option maxHeartbeats 4000000 in
theorem c_X2_declareDefault {l : Launch} {D : va_G} {Z : zZ} {cA : Nat → ClassId} (hZ : zOk Z) (hfl : l.stackTraces = false) (hz : ∀ A U H, Z A U H → zT9 A U H) (sz : Nat) {a : Nat → Nat} (σ : zT) (n0 : Nat) (hn : σ 0 0 = n0 ∧ n0 ≤ 7) (B : Int) (hgo : gOk (σ 0) B) (hB : B ≤ 2000000) (P : Int) (hr : (-2147483648 ≤ P ∧ P ≤ 2147483647)) : vx_Met l yX2_declareDefault (ws_ yX2_declareDefault cX2_declareDefault 2 (some .int)) { frames := 9, cells := 9, slots := 58, locals := 163 } (mPc (a 3) (wPc D vwCl (tyL cA) Z (hW a cA) [] [.ref (a 0), .int (iI (P))] sz σ)) (wQi D vwCl (hW a cA) (fun r y => r = iI (mOb (σ 0) P.toNat - σ 0 (5 + P.toNat)) ∧ y = sA (sA σ 0 (sFall (σ 0) P.toNat)) 1 (gA (σ 1) 2 (σ 0 (5 + P.toNat)))) sz) (xQ (fun k => cDecl (σ 0) P ≠ 0 ∧ k = cDecl (σ 0) P + (if cDecl (σ 0) P = 2 then 1 else 0)) (wA (hW a cA) sz)) 9 58 (wA (hW a cA) sz) := by
  refine w_metXM (cc := cX2_declareDefault) (maxL := 2) (ret := some .int) (own := RX2) (by decide) rfl rfl hW_ok (Nat.le_of_ble_eq_true rfl) ?_
  intro p e s m below meth c hX ht hmf hsz hK hP hD hA hE hS hR hN ls hl
  have hx := hX.1
  have hb := hX.2.1
  have hz0 := hz _ _ _ hE
  have hl : lv_has ls 2 [(0, .ref (a 0)), (1, .int (iI (P)))] := hl
  refine lv_aload_n hx hb dX2_declareDefault_0 rfl (lv_at hl 0 rfl) ?_
  refine lv_iload_n hx hb dX2_declareDefault_1 rfl (lv_at hl 1 rfl) ?_
  refine x_callv hX ht hA hP hS (vx_runV (As := [.int (iI (P))]) (rest := []) hX.fix (c_X2_requireInsolvent hZ hfl hz _ σ n0 hn B hgo hB (P) (by omega)) (cwV 1 hX.hts (lw_V q505 q506 q507 q81 q508) rfl rfl rfl (by decide +kernel) ⟨Nat.le_of_ble_eq_true rfl, Nat.le_of_ble_eq_true rfl⟩) (r_preV hZ hK hA hE hP hS (va_recv hK hP (ci := 1) (q0 := 0) vw_X2 hW_0)) rfl rfl hl.1 rfl (lv_room (Nat.le_of_ble_eq_true rfl)) dX2_declareDefault_2 ⟨Nat.le_of_ble_eq_true rfl, Nat.le_of_ble_eq_true rfl⟩) (fun k hk => hk) ⟨Nat.le_of_ble_eq_true rfl, Nat.le_of_ble_eq_true rfl⟩ (fun y H locs hq hP hS => ?_)
  have hq1 := hq
  obtain ⟨d1, rfl, hd1⟩ : ∃ d : Nat, P = (d : Int) ∧ d < n0 := ⟨P.toNat, by have h8 : 0 ≤ P ∧ P ≤ σ 0 0 - 1 := hq.1; omega, by have h8 : 0 ≤ P ∧ P ≤ σ 0 0 - 1 := hq.1; omega⟩
  refine lv_aload_n hx hb dX2_declareDefault_5 rfl (lv_at hl 0 rfl) ?_
  refine lv_iload_n hx hb dX2_declareDefault_6 rfl (lv_at hl 1 rfl) ?_
  refine W_mon hmf (fun hm9 => ?_)
  refine w_calli hD hA hS (va_runV (As := [.int (iI (↑d1))]) (rest := []) hX.fix (c_X2_fail hZ hfl hz _ (σ) n0 hn B hgo hB d1 _ ⟨rfl, by omega⟩ (mLk_ob hgo (by omega) hq1.2)) (cwV 1 hX.hts (lw_V q529 q531 qs6 q81 q532) rfl rfl rfl (by decide +kernel) ⟨Nat.le_of_ble_eq_true rfl, Nat.le_of_ble_eq_true rfl⟩) (mPc_V (w_preV hZ hK hD hA hE hP hS (va_recv hK hP (ci := 1) (q0 := 0) vw_X2 hW_0)) hm9) rfl rfl hl.1 rfl (lv_room (Nat.le_of_ble_eq_true rfl)) dX2_declareDefault_7 ⟨Nat.le_of_ble_eq_true rfl, Nat.le_of_ble_eq_true rfl⟩) (fun r y H locs hq hP hS => ?_)
  rw [show y = sA (sA σ 0 (sFall (σ 0) d1)) 1 (gA (σ 1) 2 (σ 0 (5 + d1))) from hq.2] at hP
  rw [show r = iI (mOb (σ 0) d1 - σ 0 (5 + d1)) from hq.1]
  refine vx_ret ?_
  exact w_iret hX hP hS (⟨rfl, rfl⟩) dX2_declareDefault_10
theorem gA_gA {g : Nat → Int} {k : Nat} {v u : Int} : gA (gA g k v) k u = gA g k (v + u) := by
  unfold gA
  rw [gU_uu, gU_eq, Int.add_assoc]
theorem cs_x {σ : zT} {G F2 : Nat → Int} {z c : Int} : sA (sA (sA (sA σ 0 G) 1 (gA (σ 1) 2 z)) 0 F2) 1 (gA ((sA (sA σ 0 G) 1 (gA (σ 1) 2 z)) 1) 2 c) = sA (sA σ 0 F2) 1 (gA (σ 1) 2 (z + c)) := by
  rw [sA_0101, sA_j, gA_gA]
theorem ca_x {σ : zT} {G F2 : Nat → Int} {z c : Int} : sA (sA (sA (sA σ 0 G) 1 (gA (σ 1) 1 z)) 0 F2) 1 (gA ((sA (sA σ 0 G) 1 (gA (σ 1) 1 z)) 1) 1 c) = sA (sA σ 0 F2) 1 (gA (σ 1) 1 (z + c)) := by
  rw [sA_0101, sA_j, gA_gA]
set_option maxHeartbeats 4000000 in
theorem c_X2_cascade {l : Launch} {D : va_G} {Z : zZ} {cA : Nat → ClassId} (hZ : zOk Z) (hfl : l.stackTraces = false) (hz : ∀ A U H, Z A U H → zT9 A U H) (sz : Nat) {a : Nat → Nat} (σ : zT) (n0 : Nat) (hn : σ 0 0 = n0 ∧ n0 ≤ 7) (B : Int) (hgo : gOk (σ 0) B) (hB : B ≤ 2000000) (F : Nat) (hFm : gNo (σ 0) < F) : Met l yX2_cascade (ws_ yX2_cascade cX2_cascade 4 (some .int)) { frames := 5, cells := 49, slots := 322, locals := 109 } (mPc (a 3) (wPc D vwCl (tyL cA) Z (hW a cA) [] [.ref (a 0)] sz σ)) (wQi D vwCl (hW a cA) (fun r y => r = iI ((faF n0 F (σ 0)).2 : Nat) ∧ y = sA (sA σ 0 (faF n0 F (σ 0)).1) 1 (gA (σ 1) 2 (fsF n0 F (σ 0)))) sz) 49 322 (wA (hW a cA) sz) := by
  refine w_metRM (cc := cX2_cascade) (maxL := 4) (ret := some .int) (own := RX2) (by decide) rfl rfl hW_ok (Nat.le_of_ble_eq_true rfl) ?_
  intro p e s m below meth c hX hmf hsz hK hP hD hA hE hS hR hN ls hl
  have hx := hX.1
  have hb := hX.2.1
  have hz0 := hz _ _ _ hE
  have hl : lv_has ls 4 [(0, .ref (a 0))] := hl
  refine z_iconst hX dX2_cascade_0 ?_
  refine z_top (y := ↑(0 : Nat)) (rfl) ?_
  refine lv_istore_n (lv' := [(1, .int (iI (↑(0 : Nat)))), (0, .ref (a 0))]) hx hb dX2_cascade_1 rfl hl (by decide) rfl (fun ls hl => ?_)
  refine lv_aload_n hx hb dX2_cascade_2 rfl (lv_at hl 1 rfl) ?_
  refine r_calli hA hP hS (va_runV (As := []) (rest := []) hX.fix (c_X2_weakest hZ _ σ n0 hn B hgo hB) (cwV 0 hX.hts (lw_V q711 q713 qs12 q81 q714) rfl rfl rfl (by decide +kernel) ⟨Nat.le_of_ble_eq_true rfl, Nat.le_of_ble_eq_true rfl⟩) (r_preV hZ hK hA hE hP hS (va_recv hK hP (ci := 1) (q0 := 0) vw_X2 hW_0)) rfl rfl hl.1 rfl (lv_room (Nat.le_of_ble_eq_true rfl)) dX2_cascade_3 ⟨Nat.le_of_ble_eq_true rfl, Nat.le_of_ble_eq_true rfl⟩) (fun r y H locs hq hP hS => ?_)
  rw [show r = iI (wkF (σ 0) n0) from hq]
  refine lv_istore_n (lv' := [(2, .int (iI (wkF (σ 0) n0))), (1, .int (iI (↑(0 : Nat)))), (0, .ref (a 0))]) hx hb dX2_cascade_6 rfl hl (by decide) rfl (fun ls hl => ?_)
  have L7 : ∀ (n : Nat) (k f : Nat) (G : Nat → Int) (z : Int), (f < n) → (gOk G B ∧ G 0 = n0 ∧ gNo G < f) → (faF n0 F (σ 0) = ((faF n0 f G).1, (faF n0 f G).2 + k)) → (fsF n0 F (σ 0) = z + fsF n0 f G) → (k + gNo G ≤ 7) → ∀ (H : Heap) (locs : List Loc) (ls : Array Slot), va_P D vwCl (hW a cA (sA (sA σ 0 G) 1 (gA (σ 1) 2 z))) H → va_S (wA (hW a cA) sz) s.heap H locs → lv_has ls 4 [(0, .ref (a 0)), (1, .int (iI (↑k))), (2, .int (iI (wkF G n0)))] → W p l e (headSpec (ws_ yX2_cascade cX2_cascade 4 (some .int)) { frames := 5, cells := 49, slots := 322, locals := 109 }).room s m ([.ref (a 0)] : List Value).toArray below meth c H locs (7 * k) (46 * k) (MQ below (wQi D vwCl (hW a cA) (fun r y => r = iI ((faF n0 F (σ 0)).2 : Nat) ∧ y = sA (sA σ 0 (faF n0 F (σ 0)).1) 1 (gA (σ 1) 2 (fsF n0 F (σ 0)))) sz) ([.ref (a 0)] : List Value).toArray s 49 322 (wA (hW a cA) sz)) (F0 m 7 ls []) := by
    intro n
    induction n with
    | zero =>
      intro k f G z hf hG hN9 hz9 hC H locs ls hP hS hl
      exact absurd hf (by omega)
    | succ n ih7 =>
      intro k f G z hf hG hN9 hz9 hC H locs ls hP hS hl
      obtain ⟨f', rfl⟩ : ∃ f', f = f' + 1 := ⟨f - 1, by have := gNo_nn (g := G); omega⟩
      have hwb := wkF_bd (g := G) n0
      have hno := gNo_nn (g := G)
      refine lv_iload_n hx hb dX2_cascade_7 rfl (lv_at hl 2 rfl) ?_
      refine z_iconst hX dX2_cascade_8 ?_
      refine z_icmp_eq (tgt := 29) hX (by omega) dX2_cascade_9 (by decide) (fun c_9 => ?_) (fun c_9 => ?_)
      · skip
        refine lv_iload_n hx hb dX2_cascade_29 rfl (lv_at hl 1 rfl) ?_
        refine W.eq (g2 := F0 m 30 ls [.int (iI (↑k))]) rfl ?_
        refine W.widen (k := 49) (n := 322) (by omega) (by omega) ?_
        exact w_iret hX hP hS (by
          rw [faF_none (by omega)] at hN9
          rw [fsF_none (by omega), Int.add_zero] at hz9
          have e1 := congrArg Prod.fst hN9
          have e2 := congrArg Prod.snd hN9
          exact ⟨by rw [show (faF n0 F (σ 0)).2 = k from e2.trans (Nat.zero_add k)], by rw [show (faF n0 F (σ 0)).1 = G from e1, hz9]⟩) dX2_cascade_30
      · skip
        refine lv_aload_n hx hb dX2_cascade_12 rfl (lv_at hl 0 rfl) ?_
        refine lv_iload_n hx hb dX2_cascade_13 rfl (lv_at hl 2 rfl) ?_
        have hwk : 0 ≤ wkF G n0 ∧ (wkF G n0).toNat < 7 := ⟨by omega, by omega⟩
        have hlk := hwb.2.2 hwk.1
        have hsf := sFall_ok hG.1 hB hwk.2 hlk
        have hG2 : gOk (sFall G (wkF G n0).toNat) B ∧ sFall G (wkF G n0).toNat 0 = n0 ∧ gNo (sFall G (wkF G n0).toNat) < f' := ⟨hsf.1, hsf.2.2.trans hG.2.1, by omega⟩
        have hno2 := gNo_nn (g := sFall G (wkF G n0).toNat)
        refine W_mon hmf (fun hm9 => ?_)
        refine w_calli hD hA hS (va_runV (As := [.int (iI (wkF G n0))]) (rest := []) hX.fix (c_X2_fail hZ hfl hz _ (sA (sA σ 0 G) 1 (gA (σ 1) 2 z)) n0 ⟨hG.2.1, hn.2⟩ B hG.1 hB (wkF G n0).toNat _ ⟨(Int.toNat_of_nonneg hwk.1).symm, hwk.2⟩ (mLk_ob hG.1 hwk.2 hlk)) (cwV 1 hX.hts (lw_V q529 q531 qs6 q81 q532) rfl rfl rfl (by decide +kernel) ⟨Nat.le_of_ble_eq_true rfl, Nat.le_of_ble_eq_true rfl⟩) (mPc_V (w_preV hZ hK hD hA hE hP hS (va_recv hK hP (ci := 1) (q0 := 0) vw_X2 hW_0)) hm9) rfl rfl hl.1 rfl (lv_room (Nat.le_of_ble_eq_true rfl)) dX2_cascade_14 ⟨by show 7 * k + 7 ≤ 49; omega, by show 46 * k + 46 ≤ 322; omega⟩) (fun r y H locs hq hP hS => ?_)
        rw [show y = sA (sA σ 0 (sFall G (wkF G n0).toNat)) 1 (gA (σ 1) 2 (z + G (5 + (wkF G n0).toNat))) from hq.2.trans cs_x] at hP
        rw [show r = iI (mOb G (wkF G n0).toNat - G (5 + (wkF G n0).toNat)) from hq.1]
        refine lv_istore_n (lv' := [(3, .int (iI (mOb G (wkF G n0).toNat - G (5 + (wkF G n0).toNat)))), (0, .ref (a 0)), (1, .int (iI (↑k))), (2, .int (iI (wkF G n0)))]) hx hb dX2_cascade_17 rfl hl (by decide) rfl (fun ls hl => ?_)
        refine z_iinc (y := ↑(k + 1)) (lv' := [(1, .int (iI (↑(k + 1)))), (3, .int (iI (mOb G (wkF G n0).toNat - G (5 + (wkF G n0).toNat)))), (0, .ref (a 0)), (2, .int (iI (wkF G n0)))]) hX dX2_cascade_18 hl (k := 2) rfl (by omega) (by decide) rfl (fun ls hl => ?_)
        refine lv_aload_n hx hb dX2_cascade_21 rfl (lv_at hl 2 rfl) ?_
        refine r_calli hA hP hS (va_runV (As := []) (rest := []) hX.fix (c_X2_weakest hZ _ (sA (sA σ 0 (sFall G (wkF G n0).toNat)) 1 (gA (σ 1) 2 (z + G (5 + (wkF G n0).toNat)))) n0 ⟨hG2.2.1, hn.2⟩ B hG2.1 hB) (cwV 0 hX.hts (lw_V q711 q713 qs12 q81 q714) rfl rfl rfl (by decide +kernel) ⟨Nat.le_of_ble_eq_true rfl, Nat.le_of_ble_eq_true rfl⟩) (r_preV hZ hK hA hE hP hS (va_recv hK hP (ci := 1) (q0 := 0) vw_X2 hW_0)) rfl rfl hl.1 rfl (lv_room (Nat.le_of_ble_eq_true rfl)) dX2_cascade_22 ⟨by show 7 * k + 7 + 0 ≤ 49; omega, by show 46 * k + 46 + 0 ≤ 322; omega⟩) (fun r y H locs hq hP hS => ?_)
        rw [show r = iI (wkF (sFall G (wkF G n0).toNat) n0) from hq]
        refine lv_istore_n (lv' := [(2, .int (iI (wkF (sFall G (wkF G n0).toNat) n0))), (1, .int (iI (↑(k + 1)))), (3, .int (iI (mOb G (wkF G n0).toNat - G (5 + (wkF G n0).toNat)))), (0, .ref (a 0))]) hx hb dX2_cascade_25 rfl hl (by decide) rfl (fun ls hl => ?_)
        refine lv_goto (tgt := 7) hx hb dX2_cascade_26 (by decide) ?_
        refine W.widen (k := 7 * (k + 1)) (n := 46 * (k + 1)) (by omega) (by omega) ?_
        exact ih7 (k + 1) (f') (sFall G (wkF G n0).toNat) (z + G (5 + (wkF G n0).toNat)) (by omega) (hG2) (by rw [hN9, faF_some (by omega)]; exact congrArg (Prod.mk _) (by omega)) (by rw [hz9, fsF_some (by omega)]; omega) (by omega) _ _ _ hP hS (lv_sub hl [3, 1, 0] rfl)
  refine W.widen (k := 7 * (0)) (n := 46 * (0)) (by omega) (by omega) ?_
  rw [show σ = sA (sA σ 0 (σ 0)) 1 (gA (σ 1) 2 0) by rw [gA_0]; exact sA_self2] at hP
  exact L7 (F + 1) (0) (F) (σ 0) (0) (by omega) (⟨hgo, hn.1, hFm⟩) (by rw [Nat.add_zero]) ((Int.zero_add _).symm) (by have := gNo_nn (g := σ 0); omega) _ _ _ hP hS (lv_sub hl [2, 1, 0] rfl)
theorem ciF_l {k : Nat} : ∀ (j : Nat) (a : (Nat → Int) × Int), (ciF k j a).1 0 = a.1 0 := by
  intro j
  induction j with
  | zero => intro a; rfl
  | succ j ih =>
    intro a
    show sMov (ciF k j a).1 k j _ 0 = _
    unfold sMov gA
    rw [gU_ne (by omega), gU_ne (by omega), gU_ne (by omega)]
    exact ih a
theorem coF_l {n : Nat} {g : Nat → Int} : ∀ k, (coF n g k).1 0 = g 0 := by
  intro k
  induction k with
  | zero => rfl
  | succ k ih => exact (ciF_l n _).trans ih
set_option maxHeartbeats 4000000 in
theorem c_X2_call {l : Launch} {D : va_G} {Z : zZ} {cA : Nat → ClassId} (hZ : zOk Z) (hfl : l.stackTraces = false) (hz : ∀ A U H, Z A U H → zT9 A U H) (sz : Nat) {a : Nat → Nat} (σ : zT) (n0 : Nat) (hn : σ 0 0 = n0 ∧ n0 ≤ 7) (B : Int) (hgo : gOk (σ 0) B) (hB : B ≤ 2000000) : Met l yX2_call (ws_ yX2_call cX2_call 5 (some .int)) { frames := 2, cells := 0, slots := 0, locals := 53 } (mPc (a 3) (wPc D vwCl (tyL cA) Z (hW a cA) [] [.ref (a 0)] sz σ)) (wQi D vwCl (hW a cA) (fun r y => r = iI (sCall n0 (σ 0)).2 ∧ y = sA (sA σ 0 (sCall n0 (σ 0)).1) 1 (gA (σ 1) 1 (sCall n0 (σ 0)).2)) sz) 0 0 (wA (hW a cA) sz) := by
  refine w_metRM (cc := cX2_call) (maxL := 5) (ret := some .int) (own := RX2) (by decide) rfl rfl hW_ok (Nat.le_of_ble_eq_true rfl) ?_
  intro p e s m below meth c hX hmf hsz hK hP hD hA hE hS hR hN ls hl
  have hx := hX.1
  have hb := hX.2.1
  have hz0 := hz _ _ _ hE
  have hl : lv_has ls 5 [(0, .ref (a 0))] := hl
  have hg1 : gOk (gA (σ 0) 1 1) B := gOk_lo hgo (by omega)
  refine lv_aload_n hx hb dX2_call_0 rfl (lv_at hl 0 rfl) ?_
  refine lv_dup hx hb dX2_call_1 rfl ?_
  refine h_get hX hK hP 5 (by decide) q176 rfl dX2_call_2 ?_
  refine z_iconst hX dX2_call_5 ?_
  refine z_iadd hX dX2_call_6 ?_
  refine w_put (w := hW a cA) (x := σ) (x' := uA σ 0 1 ((σ 0 1) + 1)) hX hK hD hP hS in_X2 tyX2 tyX2_ok nmX2 0 rfl vw_X2 5 (by decide) q176 rfl rfl rfl (Nat.le_of_ble_eq_true rfl) hW_f5 dX2_call_7 (fun H locs hP hS => ?_)
  rw [show uA σ 0 1 ((σ 0 1) + 1) = sA σ 0 (gA (σ 0) 1 1) from rfl] at hP
  refine z_iconst hX dX2_call_10 ?_
  refine z_top (y := (coF n0 (gA (σ 0) 1 1) 0).2) (rfl) ?_
  refine lv_istore_n (lv' := [(1, .int (iI ((coF n0 (gA (σ 0) 1 1) 0).2))), (0, .ref (a 0))]) hx hb dX2_call_11 rfl hl (by decide) rfl (fun ls hl => ?_)
  refine z_iconst hX dX2_call_12 ?_
  refine z_top (y := ↑(0 : Nat)) (rfl) ?_
  refine W.eq (g2 := F0 m 13 ls [.int (iI (↑(0 : Nat)))]) rfl ?_
  refine lv_istore_n (lv' := [(2, .int (iI (↑(0 : Nat)))), (1, .int (iI ((coF n0 (gA (σ 0) 1 1) 0).2))), (0, .ref (a 0))]) hx hb dX2_call_13 rfl hl (by decide) rfl (fun ls hl => ?_)
  have L14 : ∀ (n : Nat) (d1 : Nat), (n0 < d1 + n) → (d1 ≤ n0) → ∀ (H : Heap) (locs : List Loc) (ls : Array Slot), va_P D vwCl (hW a cA (sA (sA σ 0 (coF n0 (gA (σ 0) 1 1) d1).1) 1 (gA (σ 1) 1 (coF n0 (gA (σ 0) 1 1) d1).2))) H → va_S (wA (hW a cA) sz) s.heap H locs → lv_has ls 5 [(0, .ref (a 0)), (1, .int (iI ((coF n0 (gA (σ 0) 1 1) d1).2))), (2, .int (iI (↑d1)))] → W p l e (headSpec (ws_ yX2_call cX2_call 5 (some .int)) { frames := 2, cells := 0, slots := 0, locals := 53 }).room s m ([.ref (a 0)] : List Value).toArray below meth c H locs 0 0 (MQ below (wQi D vwCl (hW a cA) (fun r y => r = iI (sCall n0 (σ 0)).2 ∧ y = sA (sA σ 0 (sCall n0 (σ 0)).1) 1 (gA (σ 1) 1 (sCall n0 (σ 0)).2)) sz) ([.ref (a 0)] : List Value).toArray s 0 0 (wA (hW a cA) sz)) (F0 m 14 ls []) := by
    intro n
    induction n with
    | zero =>
      intro d1 hf hd1 H locs ls hP hS hl
      exact absurd hf (by omega)
    | succ n ih14 =>
      intro d1 hf hd1 H locs ls hP hS hl
      have hgc := coF_ok hn.2 hg1 d1 hd1
      have hc0 := coF_l (n := n0) (g := gA (σ 0) 1 1) d1
      refine lv_iload_n hx hb dX2_call_14 rfl (lv_at hl 2 rfl) ?_
      refine lv_aload_n hx hb dX2_call_15 rfl (lv_at hl 0 rfl) ?_
      refine h_get hX hK hP 3 (by decide) q172 rfl dX2_call_16 ?_
      refine z_top (y := ((coF n0 (gA (σ 0) 1 1) d1).1) 0) (by rw [sA_i (by decide), sA_j]) ?_
      refine z_top (y := σ 0 0) (hc0) ?_
      refine z_icmp_ge (tgt := 76) hX (by omega) dX2_call_19 (by decide) (fun c_19 => ?_) (fun c_19 => ?_)
      · skip
        obtain rfl : n0 = d1 := by omega
        refine lv_iload_n hx hb dX2_call_76 rfl (lv_at hl 1 rfl) ?_
        exact w_iret hX hP hS (⟨rfl, rfl⟩) dX2_call_77
      · skip
        refine z_iconst hX dX2_call_22 ?_
        refine z_top (y := ↑(0 : Nat)) (rfl) ?_
        refine lv_istore_n (lv' := [(3, .int (iI (↑(0 : Nat)))), (0, .ref (a 0)), (1, .int (iI ((coF n0 (gA (σ 0) 1 1) d1).2))), (2, .int (iI (↑d1)))]) hx hb dX2_call_23 rfl hl (by decide) rfl (fun ls hl => ?_)
        have L24 : ∀ (n : Nat) (i : Nat), (n0 < i + n) → (i ≤ n0) → ∀ (H : Heap) (locs : List Loc) (ls : Array Slot), va_P D vwCl (hW a cA (sA (sA σ 0 (ciF d1 i (coF n0 (gA (σ 0) 1 1) d1)).1) 1 (gA (σ 1) 1 (ciF d1 i (coF n0 (gA (σ 0) 1 1) d1)).2))) H → va_S (wA (hW a cA) sz) s.heap H locs → lv_has ls 5 [(0, .ref (a 0)), (1, .int (iI ((ciF d1 i (coF n0 (gA (σ 0) 1 1) d1)).2))), (2, .int (iI (↑d1))), (3, .int (iI (↑i)))] → W p l e (headSpec (ws_ yX2_call cX2_call 5 (some .int)) { frames := 2, cells := 0, slots := 0, locals := 53 }).room s m ([.ref (a 0)] : List Value).toArray below meth c H locs 0 0 (MQ below (wQi D vwCl (hW a cA) (fun r y => r = iI (sCall n0 (σ 0)).2 ∧ y = sA (sA σ 0 (sCall n0 (σ 0)).1) 1 (gA (σ 1) 1 (sCall n0 (σ 0)).2)) sz) ([.ref (a 0)] : List Value).toArray s 0 0 (wA (hW a cA) sz)) (F0 m 24 ls []) := by
          intro n
          induction n with
          | zero =>
            intro i hf hi H locs ls hP hS hl
            exact absurd hf (by omega)
          | succ n ih24 =>
            intro i hf hi H locs ls hP hS hl
            have hgi := ciF_ok (k := d1) (by omega) hn.2 i (coF n0 (gA (σ 0) 1 1) d1) hi hgc
            have hi0 := ciF_l (k := d1) i (coF n0 (gA (σ 0) 1 1) d1)
            have hc1 := hgi.2.1 d1 (by omega)
            refine lv_iload_n hx hb dX2_call_24 rfl (lv_at hl 3 rfl) ?_
            refine W.eq (g2 := F0 m 25 ls [.int (iI (↑i))]) rfl ?_
            refine lv_aload_n hx hb dX2_call_25 rfl (lv_at hl 0 rfl) ?_
            refine h_get hX hK hP 3 (by decide) q172 rfl dX2_call_26 ?_
            refine z_top (y := ((ciF d1 i (coF n0 (gA (σ 0) 1 1) d1)).1) 0) (by rw [sA_i (by decide), sA_j]) ?_
            refine z_top (y := σ 0 0) (hi0.trans hc0) ?_
            refine z_icmp_ge (tgt := 70) hX (by omega) dX2_call_29 (by decide) (fun c_29 => ?_) (fun c_29 => ?_)
            · skip
              obtain rfl : n0 = i := by omega
              refine z_iinc (y := ↑(d1 + 1)) (lv' := [(2, .int (iI (↑(d1 + 1)))), (0, .ref (a 0)), (1, .int (iI ((ciF d1 n0 (coF n0 (gA (σ 0) 1 1) d1)).2))), (3, .int (iI (↑n0)))]) hX dX2_call_70 hl (k := 2) rfl (by omega) (by decide) rfl (fun ls hl => ?_)
              refine lv_goto (tgt := 14) hx hb dX2_call_73 (by decide) ?_
              exact ih14 (d1 + 1) (by omega) (by omega) _ _ _ hP hS (lv_sub hl [1, 2, 0] rfl)
            · skip
              have hdi := hgi.2.2.1 d1 i (by omega) (by omega)
              refine lv_aload_n hx hb dX2_call_32 rfl (lv_at hl 0 rfl) ?_
              refine h_get hX hK hP 1 (by decide) q168 rfl dX2_call_33 ?_
              refine lv_iload_n hx hb dX2_call_36 rfl (lv_at hl 2 rfl) ?_
              refine h_ldc hX hK hP d1 (⟨rfl, by omega⟩) dX2_call_37 ?_
              refine z_top (y := (ciF d1 i (coF n0 (gA (σ 0) 1 1) d1)).1 (5 + d1)) (rfl) ?_
              refine lv_aload_n hx hb dX2_call_38 rfl (lv_at hl 0 rfl) ?_
              refine W.eq (g2 := F0 m 39 ls [.ref (a 0), .int (iI ((ciF d1 i (coF n0 (gA (σ 0) 1 1) d1)).1 (5 + d1)))]) rfl ?_
              refine h_get hX hK hP 0 (by decide) q166 rfl dX2_call_39 ?_
              refine lv_iload_n hx hb dX2_call_42 rfl (lv_at hl 2 rfl) ?_
              refine h_row hX hK hP d1 (⟨rfl, by omega⟩) dX2_call_43 ?_
              refine lv_iload_n hx hb dX2_call_44 rfl (lv_at hl 3 rfl) ?_
              refine h_ldd hX hK hP d1 i (by omega) (⟨rfl, by omega⟩) dX2_call_45 ?_
              refine z_top (y := (ciF d1 i (coF n0 (gA (σ 0) 1 1) d1)).1 (12 + 7 * d1 + i)) (rfl) ?_
              refine z_mmin hX ⟨by unfold rng; omega, by unfold rng; omega⟩ hl.1.symm q476 ⟨Nat.le_of_ble_eq_true rfl, Nat.le_of_ble_eq_true rfl⟩ ⟨Nat.le_of_ble_eq_true rfl, Nat.le_of_ble_eq_true rfl⟩ dX2_call_46 ?_
              refine lv_istore (lv' := [(4, .int (iI (min ((ciF d1 i (coF n0 (gA (σ 0) 1 1) d1)).1 (5 + d1)) ((ciF d1 i (coF n0 (gA (σ 0) 1 1) d1)).1 (12 + 7 * d1 + i))))), (0, .ref (a 0)), (1, .int (iI ((ciF d1 i (coF n0 (gA (σ 0) 1 1) d1)).2))), (2, .int (iI (↑d1))), (3, .int (iI (↑i)))]) hx hb dX2_call_49 hl (by decide) rfl (fun ls hl => ?_)
              refine lv_aload_n hx hb dX2_call_51 rfl (lv_at hl 1 rfl) ?_
              refine lv_iload_n hx hb dX2_call_52 rfl (lv_at hl 3 rfl) ?_
              refine lv_iload_n hx hb dX2_call_53 rfl (lv_at hl 4 rfl) ?_
              refine W.eq (g2 := F0 m 54 ls [.int (iI (↑i)), .int (iI (↑d1)), .ref (a 0)]) rfl ?_
              refine lv_iload hx hb dX2_call_54 (lv_at hl 0 rfl) ?_
              refine W_mon hmf (fun hm9 => ?_)
              refine w_callv (Z := Z) hD hA hS (va_runV (As := [.int (iI (↑d1)), .int (iI (↑i)), .int (iI (min ((ciF d1 i (coF n0 (gA (σ 0) 1 1) d1)).1 (5 + d1)) ((ciF d1 i (coF n0 (gA (σ 0) 1 1) d1)).1 (12 + 7 * d1 + i))))]) (rest := []) hX.fix (c_X2_transfer hZ hfl hz _ (sA (sA σ 0 (ciF d1 i (coF n0 (gA (σ 0) 1 1) d1)).1) 1 (gA (σ 1) 1 (ciF d1 i (coF n0 (gA (σ 0) 1 1) d1)).2)) d1 i _ _ ⟨rfl, by omega⟩ ⟨rfl, by omega⟩ (min ((ciF d1 i (coF n0 (gA (σ 0) 1 1) d1)).1 (5 + d1)) ((ciF d1 i (coF n0 (gA (σ 0) 1 1) d1)).1 (12 + 7 * d1 + i)))) (cwV 3 hX.hts (lw_V q464 q466 qs3 q81 q467) rfl rfl rfl (by decide +kernel) ⟨Nat.le_of_ble_eq_true rfl, Nat.le_of_ble_eq_true rfl⟩) (mPc_V (w_preV hZ hK hD hA hE hP hS (va_recv hK hP (ci := 1) (q0 := 0) vw_X2 hW_0)) hm9) rfl rfl hl.1 rfl (lv_room (Nat.le_of_ble_eq_true rfl)) dX2_call_56 ⟨Nat.le_of_ble_eq_true rfl, Nat.le_of_ble_eq_true rfl⟩) (fun y H locs hq hP hS => ?_)
              rw [show y = sA (sA σ 0 (ciF d1 (i + 1) (coF n0 (gA (σ 0) 1 1) d1)).1) 1 (gA (σ 1) 1 (ciF d1 (i + 1) (coF n0 (gA (σ 0) 1 1) d1)).2) from hq.trans (ca_x)] at hP
              refine lv_iload_n hx hb dX2_call_59 rfl (lv_at hl 2 rfl) ?_
              refine lv_iload hx hb dX2_call_60 (lv_at hl 0 rfl) ?_
              refine z_iadd hX dX2_call_62 ?_
              refine z_top (y := (ciF d1 (i + 1) (coF n0 (gA (σ 0) 1 1) d1)).2) (rfl) ?_
              refine lv_istore_n (lv' := [(1, .int (iI ((ciF d1 (i + 1) (coF n0 (gA (σ 0) 1 1) d1)).2))), (4, .int (iI (min ((ciF d1 i (coF n0 (gA (σ 0) 1 1) d1)).1 (5 + d1)) ((ciF d1 i (coF n0 (gA (σ 0) 1 1) d1)).1 (12 + 7 * d1 + i))))), (0, .ref (a 0)), (2, .int (iI (↑d1))), (3, .int (iI (↑i)))]) hx hb dX2_call_63 rfl hl (by decide) rfl (fun ls hl => ?_)
              refine z_iinc (y := ↑(i + 1)) (lv' := [(3, .int (iI (↑(i + 1)))), (1, .int (iI ((ciF d1 (i + 1) (coF n0 (gA (σ 0) 1 1) d1)).2))), (4, .int (iI (min ((ciF d1 i (coF n0 (gA (σ 0) 1 1) d1)).1 (5 + d1)) ((ciF d1 i (coF n0 (gA (σ 0) 1 1) d1)).1 (12 + 7 * d1 + i))))), (0, .ref (a 0)), (2, .int (iI (↑d1)))]) hX dX2_call_64 hl (k := 4) rfl (by omega) (by decide) rfl (fun ls hl => ?_)
              refine lv_goto (tgt := 24) hx hb dX2_call_67 (by decide) ?_
              exact ih24 (i + 1) (by omega) (by omega) _ _ _ hP hS (lv_sub hl [3, 1, 4, 0] rfl)
        exact L24 (n0 + 1) (0) (by omega) (by omega) _ _ _ hP hS (lv_sub hl [1, 2, 3, 0] rfl)
  rw [show sA σ 0 (gA (σ 0) 1 1) = sA (sA σ 0 (gA (σ 0) 1 1)) 1 (gA (σ 1) 1 0) by rw [gA_0]; exact (sA_self (x := sA σ 0 (gA (σ 0) 1 1)) (j := 1)).symm] at hP
  exact L14 (n0 + 1) (0) (by omega) (by omega) _ _ _ hP hS (lv_sub hl [2, 1, 0] rfl)
