/-! positions, the fewest payments by sets -/
set_option maxRecDepth 100000
section
variable {p : Program} {l : Launch} {e : Env} {R : Room} {s : State} {m : MethodId} {args : Array Value} {below : List Frame} {meth : Method} {c : Code} {H : Heap} {locs : List Loc} {cells slots : Nat} {Q : State → Prop}
variable {cc : ByteArray} {pc : Nat} {ls : Array Slot} {rest : List Value} {nL : Nat} {ret : Option FieldType} {own : String}
theorem z_mmax (hX : zX p s m args meth c cc own nL ret) {v u : Int} (hr : rng v ∧ rng u) (hs : nL = ls.size) {index : Nat} (hlink : Cond.methodLink own index { cls := "java/lang/Math", name := "max", desc := "(II)I" } ∈ lw_all) (hf : 1 ≤ R.frames ∧ (rest.map fun v => v.category).sum + 13 ≤ R.locals) (hc : cells ≤ R.cells ∧ slots ≤ R.slots) (hdg : decode cc pc = .ok (.invokestatic index, 3)) (kk : W p l e R s m args below meth c H locs cells slots Q (F0 m (pc + 3) ls (.int (iI (max v u)) :: rest))) : W p l e R s m args below meth c H locs cells slots Q (F0 m pc ls (.int (iI u) :: .int (iI v) :: rest)) := by
  refine va_mmax hX.1 hX.2.1 (by rw [hX.2.2.1, hs]) hX.ow (hX.hts _ hlink) (hX.hts _ q893) (hX.hts _ q98) (hX.hts _ q894) hf.1 hf.2 hc.1 hc.2 hdg ?_
  have h9 : (if iI v < iI u then iI u else iI v) = iI (max v u) := by
    by_cases h : v < u
    · rw [if_pos ((iI_lt hr.1 hr.2).mpr h), Int.max_eq_right (by omega)]
    · rw [if_neg (fun q => h ((iI_lt hr.1 hr.2).mp q)), Int.max_eq_left (by omega)]
  rw [h9]; exact kk
end
/-- the positions that aren't 0, in order -/
def posL (g : Nat → Int) : Nat → List Int
  | 0 => []
  | i + 1 => if mNet g i ≠ 0 then posL g i ++ [mNet g i] else posL g i
def lg (l : List Int) : Nat → Int := fun k => l.getD k 0
theorem lg_app {l : List Int} {v : Int} : gU (lg l) l.length v = lg (l ++ [v]) := by
  funext k
  unfold gU lg
  by_cases e : k = l.length
  · rw [if_pos e, e]; simp
  · rw [if_neg e]
    by_cases h : k < l.length
    · simp [List.getD_eq_getElem?_getD, List.getElem?_append_left h]
    · rw [List.getD_eq_getElem?_getD, List.getD_eq_getElem?_getD, List.getElem?_eq_none (by omega), List.getElem?_eq_none (by simp; omega)]
theorem lg_all {l : List Int} : tkF (lg l) l.length = lg l := by
  funext k
  unfold tkF
  by_cases h : k < l.length
  · rw [if_pos h]
  · rw [if_neg h]
    unfold lg
    rw [List.getD_eq_getElem?_getD, List.getElem?_eq_none (by omega)]
    rfl
theorem lg_0 : (fun _ => (0 : Int)) = lg [] := rfl
theorem posL_y {g : Nat → Int} {i : Nat} (h : mNet g i ≠ 0) : posL g (i + 1) = posL g i ++ [mNet g i] := if_pos h
theorem posL_n {g : Nat → Int} {i : Nat} (h : mNet g i = 0) : posL g (i + 1) = posL g i := if_neg (fun q => q h)
theorem posL_len {g : Nat → Int} : ∀ i, (posL g i).length ≤ i := by
  intro i
  induction i with
  | zero => exact Nat.le_refl _
  | succ i ih =>
    by_cases h : mNet g i = 0
    · rw [posL_n h]; omega
    · rw [posL_y h, List.length_append, List.length_singleton]; omega
theorem posL_mem {g : Nat → Int} {v : Int} : ∀ i, v ∈ posL g i → v ≠ 0 ∧ ∃ k, k < i ∧ v = mNet g k := by
  intro i
  induction i with
  | zero => intro h; cases h
  | succ i ih =>
    intro h
    by_cases c : mNet g i = 0
    · rw [posL_n c] at h
      obtain ⟨h1, k, h2, h3⟩ := ih h
      exact ⟨h1, k, by omega, h3⟩
    · rw [posL_y c] at h
      rcases List.mem_append.mp h with h | h
      · obtain ⟨h1, k, h2, h3⟩ := ih h
        exact ⟨h1, k, by omega, h3⟩
      · rw [List.mem_singleton] at h
        exact ⟨h ▸ c, i, by omega, h⟩
theorem lg_bd {g : Nat → Int} {B : Int} (hg : gOk g B) {n : Nat} (hn : n ≤ 7) (k : Nat) : -6993 ≤ lg (posL g n) k ∧ lg (posL g n) k ≤ 6993 := by
  unfold lg
  rw [List.getD_eq_getElem?_getD]
  by_cases h : k < (posL g n).length
  · rw [List.getElem?_eq_getElem h]
    obtain ⟨-, j, hj, e⟩ := posL_mem n (List.getElem_mem h)
    show -6993 ≤ (posL g n)[k] ∧ (posL g n)[k] ≤ 6993
    rw [e]; exact mNet_bd hg (by omega)
  · rw [List.getElem?_eq_none (by omega)]
    exact ⟨by decide, by decide⟩
/-- the sum over a set of places -/
def ssF (f : Nat → Int) (s : Nat) : Nat → Int
  | 0 => 0
  | k + 1 => if s / 2 ^ k % 2 = 1 then ssF f s k + f k else ssF f s k
theorem ssF_bd {f : Nat → Int} {s : Nat} (h : ∀ k, -6993 ≤ f k ∧ f k ≤ 6993) : ∀ k : Nat, -7000 * (k : Int) ≤ ssF f s k ∧ ssF f s k ≤ 7000 * (k : Int) := by
  intro k
  induction k with
  | zero => simp [ssF]
  | succ k ih =>
    have b := h k
    unfold ssF
    split <;> omega
/-- the most groups that come to nothing, for the sets up to t -/
def gpT (f : Nat → Int) (m : Nat) : Nat → (Nat → Int)
  | 0 => fun _ => 0
  | t + 1 => gU (gpT f m t) (t + 1) (pmF (gpT f m t) (t + 1) m + bI (ssF f (t + 1) m = 0))
theorem gpT_bd {f : Nat → Int} {m : Nat} (hm : m ≤ 7) : ∀ t : Nat, t < 128 → ∀ j, 0 ≤ gpT f m t j ∧ gpT f m t j ≤ t := by
  intro t
  induction t with
  | zero => intro _ j; exact ⟨Int.le_refl _, Int.le_refl _⟩
  | succ t ih =>
    intro ht j
    have h1 := ih (by omega)
    unfold gpT gU
    split
    · have h2 := pmF_bd (tab := gpT f m t) (s := t + 1) (M := t) (by omega) (by omega) (fun j _ => h1 j) m hm
      rcases bI_01 (P := ssF f (t + 1) m = 0) with h | h <;> omega
    · have := h1 j; omega
def fpF (f : Nat → Int) (m : Nat) : Int := m - gpT f m (2 ^ m - 1) (2 ^ m - 1)
set_option maxHeartbeats 4000000 in
theorem c_X2_positions {l : Launch} {D : va_G} {Z : zZ} {cA : Nat → ClassId} (hZ : zOk Z) (hfl : l.stackTraces = false) (hz : ∀ A U H, Z A U H → zT9 A U H) (sz : Nat) {a : Nat → Nat} (σ : zT) (n0 : Nat) (hn : σ 0 0 = n0 ∧ n0 ≤ 7) (B : Int) (hgo : gOk (σ 0) B)  : Met l yX2_positions (ws_ yX2_positions cX2_positions 5 (some (.array .int))) { frames := 2, cells := 2, slots := 14, locals := 44 } (wPc D vwCl (tyL cA) Z (wL []) (hW a cA σ) [.ref (a 0)] sz zO) (nQq D (fun r ws => ∃ pv, r = some pv ∧ ws = [enI cA pv (posL (σ 0) n0).length (lg (posL (σ 0) n0))] ∧ va_D (wA (wL []) sz) ws) (wA (wL []) sz)) 2 14 (wA (wL []) sz) := by
  refine l_met (cc := cX2_positions) (maxL := 5) (ret := some (.array .int)) (own := RX2) (by decide) rfl rfl (Nat.le_of_ble_eq_true rfl) ?_
  intro p e s m below meth c hX hnm hsz hK hP hD hA hE hS hR hN ls hl
  have hx := hX.1
  have hb := hX.2.1
  have hz0 := hz _ _ _ hE
  have hl : lv_has ls 5 [(0, .ref (a 0))] := hl
  refine z_iconst hX dX2_positions_0 ?_
  refine z_top (y := ↑(posL (σ 0) 0).length) (rfl) ?_
  refine lv_istore_n (lv' := [(1, .int (iI (↑(posL (σ 0) 0).length))), (0, .ref (a 0))]) hx hb dX2_positions_1 rfl hl (by decide) rfl (fun ls hl => ?_)
  refine lv_aload_n hx hb dX2_positions_2 rfl (lv_at hl 1 rfl) ?_
  refine h_get hX hK (hR _ _ hS) 3 (by decide) q172 rfl dX2_positions_3 ?_
  refine z_newa hX hK hP hD hS hA .int 0 (ty := .int) rfl (q165) rfl (n0, .inl (fun _ => iI 0)) n0 (fun _ => rfl) (hn.1) (by omega) (by show n0 * 4 ≤ 536870912; omega) (Nat.le_of_ble_eq_true rfl) (by show 0 + n0 ≤ 14; omega) dX2_positions_6 (fun al H hP hD hS => ?_)
  have hP : va_P D vwCl [enI cA al n0 (fun _ => 0)] H := hP
  have hD : va_D _ [enI cA al n0 (fun _ => 0)] := hD
  refine lv_astore_n (lv' := [(2, .ref al), (1, .int (iI (↑(posL (σ 0) 0).length))), (0, .ref (a 0))]) hx hb dX2_positions_8 rfl hl (by decide) rfl (fun ls hl => ?_)
  refine z_iconst hX dX2_positions_9 ?_
  refine z_top (y := ↑(0 : Nat)) (rfl) ?_
  refine lv_istore_n (lv' := [(3, .int (iI (↑(0 : Nat)))), (2, .ref al), (1, .int (iI (↑(posL (σ 0) 0).length))), (0, .ref (a 0))]) hx hb dX2_positions_10 rfl hl (by decide) rfl (fun ls hl => ?_)
  have L11 : ∀ (n : Nat) (i : Nat), (n0 < i + n) → (i ≤ n0) → ∀ (H : Heap) (locs : List Loc) (ls : Array Slot), va_P D vwCl [enI cA al n0 (lg (posL (σ 0) i))] H → va_D (wA (wL []) sz) [enI cA al n0 (lg (posL (σ 0) i))] → va_S (wA (wL []) sz) s.heap H locs → lv_has ls 5 [(0, .ref (a 0)), (1, .int (iI (↑(posL (σ 0) i).length))), (2, .ref al), (3, .int (iI (↑i)))] → W p l e (headSpec (ws_ yX2_positions cX2_positions 5 (some (.array .int))) { frames := 2, cells := 2, slots := 14, locals := 44 }).room s m ([.ref (a 0)] : List Value).toArray below meth c H locs 1 n0 (MQ below (nQq D (fun r ws => ∃ pv, r = some pv ∧ ws = [enI cA pv (posL (σ 0) n0).length (lg (posL (σ 0) n0))] ∧ va_D (wA (wL []) sz) ws) (wA (wL []) sz)) ([.ref (a 0)] : List Value).toArray s 2 14 (wA (wL []) sz)) (F0 m 11 ls []) := by
    intro n
    induction n with
    | zero =>
      intro i hf hi H locs ls hP hD hS hl
      exact absurd hf (by omega)
    | succ n ih11 =>
      intro i hf hi H locs ls hP hD hS hl
      have hln := posL_len (g := σ 0) i
      refine lv_iload_n hx hb dX2_positions_11 rfl (lv_at hl 3 rfl) ?_
      refine W.eq (g2 := F0 m 12 ls [.int (iI (↑i))]) rfl ?_
      refine lv_aload_n hx hb dX2_positions_12 rfl (lv_at hl 0 rfl) ?_
      refine h_get hX hK (hR _ _ hS) 3 (by decide) q172 rfl dX2_positions_13 ?_
      refine z_icmp_ge (tgt := 44) hX (by omega) dX2_positions_16 (by decide) (fun c_16 => ?_) (fun c_16 => ?_)
      · skip
        obtain rfl : n0 = i := by omega
        refine lv_iload_n hx hb dX2_positions_44 rfl (lv_at hl 1 rfl) ?_
        refine z_newa hX hK hP hD hS hA .int 0 (ty := .int) rfl (q165) rfl ((posL (σ 0) n0).length, .inl (fun _ => iI 0)) ((posL (σ 0) n0).length) (fun _ => rfl) (rfl) (by omega) (by show (posL (σ 0) n0).length * 4 ≤ 536870912; omega) (Nat.le_of_ble_eq_true rfl) (by show n0 + (posL (σ 0) n0).length ≤ 14; omega) dX2_positions_45 (fun pv H hP hD hS => ?_)
        have hP : va_P D vwCl [enI cA al n0 (lg (posL (σ 0) n0)), enI cA pv ((posL (σ 0) n0).length) (fun _ => 0)] H := hP
        have hD : va_D _ [enI cA al n0 (lg (posL (σ 0) n0)), enI cA pv ((posL (σ 0) n0).length) (fun _ => 0)] := hD
        refine lv_astore_n (lv' := [(3, .ref pv), (0, .ref (a 0)), (1, .int (iI (↑(posL (σ 0) n0).length))), (2, .ref al)]) hx hb dX2_positions_47 rfl hl (by decide) rfl (fun ls hl => ?_)
        refine z_iconst hX dX2_positions_48 ?_
        refine z_top (y := ↑(0 : Nat)) (rfl) ?_
        refine lv_istore (lv' := [(4, .int (iI (↑(0 : Nat)))), (3, .ref pv), (0, .ref (a 0)), (1, .int (iI (↑(posL (σ 0) n0).length))), (2, .ref al)]) hx hb dX2_positions_49 hl (by decide) rfl (fun ls hl => ?_)
        have L51 : ∀ (n : Nat) (j : Nat), ((posL (σ 0) n0).length < j + n) → (j ≤ (posL (σ 0) n0).length) → ∀ (H : Heap) (locs : List Loc) (ls : Array Slot), va_P D vwCl [enI cA al n0 (lg (posL (σ 0) n0)), enI cA pv ((posL (σ 0) n0).length) (tkF (lg (posL (σ 0) n0)) j)] H → va_D (wA (wL []) sz) [enI cA al n0 (lg (posL (σ 0) n0)), enI cA pv ((posL (σ 0) n0).length) (tkF (lg (posL (σ 0) n0)) j)] → va_S (wA (wL []) sz) s.heap H locs → lv_has ls 5 [(0, .ref (a 0)), (1, .int (iI (↑(posL (σ 0) n0).length))), (2, .ref al), (3, .ref pv), (4, .int (iI (↑j)))] → W p l e (headSpec (ws_ yX2_positions cX2_positions 5 (some (.array .int))) { frames := 2, cells := 2, slots := 14, locals := 44 }).room s m ([.ref (a 0)] : List Value).toArray below meth c H locs 2 (n0 + (posL (σ 0) n0).length) (MQ below (nQq D (fun r ws => ∃ pv, r = some pv ∧ ws = [enI cA pv (posL (σ 0) n0).length (lg (posL (σ 0) n0))] ∧ va_D (wA (wL []) sz) ws) (wA (wL []) sz)) ([.ref (a 0)] : List Value).toArray s 2 14 (wA (wL []) sz)) (F0 m 51 ls []) := by
          intro n
          induction n with
          | zero =>
            intro j hf hj H locs ls hP hD hS hl
            exact absurd hf (by omega)
          | succ n ih51 =>
            intro j hf hj H locs ls hP hD hS hl
            refine lv_iload hx hb dX2_positions_51 (lv_at hl 4 rfl) ?_
            refine lv_iload_n hx hb dX2_positions_53 rfl (lv_at hl 1 rfl) ?_
            refine W.eq (g2 := F0 m 54 ls [.int (iI (↑(posL (σ 0) n0).length)), .int (iI (↑j))]) rfl ?_
            refine z_icmp_ge (tgt := 71) hX (by omega) dX2_positions_54 (by decide) (fun c_54 => ?_) (fun c_54 => ?_)
            · skip
              obtain rfl : j = (posL (σ 0) n0).length := by omega
              rw [lg_all] at hP hD
              refine lv_aload_n hx hb dX2_positions_71 rfl (lv_at hl 3 rfl) ?_
              have hP := hP.sub [1] rfl
              have hD : va_D (wA (wL []) sz) [enI cA pv (posL (σ 0) n0).length (lg (posL (σ 0) n0))] := hD.sub [1] rfl rfl
              refine W.widen (k := 2) (n := 14) (Nat.le_of_ble_eq_true rfl) (by omega) ?_
              exact n_aret hX (Or.inr ⟨_, rfl⟩) hP hS (⟨pv, rfl, rfl, hD⟩) dX2_positions_72
            · skip
              refine lv_aload_n hx hb dX2_positions_57 rfl (lv_at hl 3 rfl) ?_
              refine lv_iload hx hb dX2_positions_58 (lv_at hl 4 rfl) ?_
              refine lv_aload_n hx hb dX2_positions_60 rfl (lv_at hl 2 rfl) ?_
              refine lv_iload hx hb dX2_positions_61 (lv_at hl 4 rfl) ?_
              refine n_ald hX hK hP 0 rfl j (⟨rfl, by omega⟩) (by omega) dX2_positions_63 ?_
              refine n_ast hX hK hP hD hS 1 rfl (v := (lg (posL (σ 0) n0)) j) j (⟨rfl, by omega⟩) (by omega) dX2_positions_64 (fun H locs hP hD hS => ?_)
              have hP : va_P D vwCl [enI cA al n0 (lg (posL (σ 0) n0)), enI cA pv ((posL (σ 0) n0).length) (gU (tkF (lg (posL (σ 0) n0)) j) j ((lg (posL (σ 0) n0)) j))] H := hP
              have hD : va_D _ [enI cA al n0 (lg (posL (σ 0) n0)), enI cA pv ((posL (σ 0) n0).length) (gU (tkF (lg (posL (σ 0) n0)) j) j ((lg (posL (σ 0) n0)) j))] := hD
              rw [show (gU (tkF (lg (posL (σ 0) n0)) j) j ((lg (posL (σ 0) n0)) j)) = tkF (lg (posL (σ 0) n0)) (j + 1) from tkF_s] at hP hD
              refine z_iinc (y := ↑(j + 1)) (lv' := [(4, .int (iI (↑(j + 1)))), (0, .ref (a 0)), (1, .int (iI (↑(posL (σ 0) n0).length))), (2, .ref al), (3, .ref pv)]) hX dX2_positions_65 hl (k := 4) rfl (by omega) (by decide) rfl (fun ls hl => ?_)
              refine lv_goto (tgt := 51) hx hb dX2_positions_68 (by decide) ?_
              exact ih51 (j + 1) (by omega) (by omega) _ _ _ hP hD hS (lv_sub hl [1, 2, 3, 4, 0] rfl)
        rw [show (fun _ => (0 : Int)) = tkF (lg (posL (σ 0) n0)) 0 from tkF_0] at hP hD
        exact L51 ((posL (σ 0) n0).length + 1) (0) (by omega) (by omega) _ _ _ hP hD hS (lv_sub hl [2, 3, 4, 1, 0] rfl)
      · skip
        refine lv_aload_n hx hb dX2_positions_19 rfl (lv_at hl 0 rfl) ?_
        refine lv_iload_n hx hb dX2_positions_20 rfl (lv_at hl 3 rfl) ?_
        refine r_calli (w := wL [enI cA al n0 (lg (posL (σ 0) i))]) (x := zO) hA hP hS (va_runV (As := [.int (iI (↑i))]) (rest := []) hX.fix (c_X2_netPosition hZ _ σ n0 hn B hgo i _ ⟨rfl, by omega⟩) (cwV 1 hX.hts (lw_V q517 q518 q519 q81 q520) rfl rfl rfl (by decide +kernel) ⟨Nat.le_of_ble_eq_true rfl, Nat.le_of_ble_eq_true rfl⟩) (r_preV hZ hK hA hE (hR _ _ hS) hS (va_recv hK (hR _ _ hS) (ci := 1) (q0 := 0) vw_X2 hW_0)) rfl rfl hl.1 rfl (lv_room (Nat.le_of_ble_eq_true rfl)) dX2_positions_21 ⟨Nat.le_of_ble_eq_true rfl, by show n0 + 0 ≤ 14; omega⟩) (fun r y H locs hq hP hS => ?_)
        rw [show r = iI (mNet (σ 0) i) from hq]
        refine z_if_eq (tgt := 38) hX (by have := mNet_bd hgo (p := i) (by omega); omega) dX2_positions_24 (by decide) (fun c_24 => ?_) (fun c_24 => ?_)
        · skip
          refine z_iinc (y := ↑(i + 1)) (lv' := [(3, .int (iI (↑(i + 1)))), (0, .ref (a 0)), (1, .int (iI (↑(posL (σ 0) i).length))), (2, .ref al)]) hX dX2_positions_38 hl (k := 3) rfl (by omega) (by decide) rfl (fun ls hl => ?_)
          refine lv_goto (tgt := 11) hx hb dX2_positions_41 (by decide) ?_
          rw [show posL (σ 0) i = posL (σ 0) (i + 1) from (posL_n (by omega)).symm] at hP hD hl
          exact ih11 (i + 1) (by omega) (by omega) _ _ _ hP hD hS (lv_sub hl [1, 2, 3, 0] rfl)
        · skip
          refine lv_aload_n hx hb dX2_positions_27 rfl (lv_at hl 2 rfl) ?_
          refine lv_iload_n hx hb dX2_positions_28 rfl (lv_at hl 1 rfl) ?_
          refine lv_aload_n hx hb dX2_positions_29 rfl (lv_at hl 0 rfl) ?_
          refine W.eq (g2 := F0 m 30 ls [.ref (a 0), .int (iI (↑(posL (σ 0) i).length)), .ref al]) rfl ?_
          refine lv_iload_n hx hb dX2_positions_30 rfl (lv_at hl 3 rfl) ?_
          refine r_calli (w := wL [enI cA al n0 (lg (posL (σ 0) i))]) (x := zO) hA hP hS (va_runV (As := [.int (iI (↑i))]) (rest := [.int (iI (↑(posL (σ 0) i).length)), .ref al]) hX.fix (c_X2_netPosition hZ _ σ n0 hn B hgo i _ ⟨rfl, by omega⟩) (cwV 1 hX.hts (lw_V q517 q518 q519 q81 q520) rfl rfl rfl (by decide +kernel) ⟨Nat.le_of_ble_eq_true rfl, Nat.le_of_ble_eq_true rfl⟩) (r_preV hZ hK hA hE (hR _ _ hS) hS (va_recv hK (hR _ _ hS) (ci := 1) (q0 := 0) vw_X2 hW_0)) rfl rfl hl.1 rfl (lv_room (Nat.le_of_ble_eq_true rfl)) dX2_positions_31 ⟨Nat.le_of_ble_eq_true rfl, by show n0 + 0 ≤ 14; omega⟩) (fun r y H locs hq hP hS => ?_)
          rw [show r = iI (mNet (σ 0) i) from hq]
          refine n_ast hX hK hP hD hS 0 rfl (v := mNet (σ 0) i) ((posL (σ 0) i).length) (⟨rfl, by omega⟩) (by omega) dX2_positions_34 (fun H locs hP hD hS => ?_)
          have hP : va_P D vwCl [enI cA al n0 (gU (lg (posL (σ 0) i)) ((posL (σ 0) i).length) (mNet (σ 0) i))] H := hP
          have hD : va_D _ [enI cA al n0 (gU (lg (posL (σ 0) i)) ((posL (σ 0) i).length) (mNet (σ 0) i))] := hD
          rw [show (gU (lg (posL (σ 0) i)) ((posL (σ 0) i).length) (mNet (σ 0) i)) = lg (posL (σ 0) i ++ [mNet (σ 0) i]) from lg_app] at hP hD
          refine z_iinc (y := (((posL (σ 0) i).length + 1 : Nat) : Int)) (lv' := [(1, .int (iI ((((posL (σ 0) i).length + 1 : Nat) : Int)))), (0, .ref (a 0)), (2, .ref al), (3, .int (iI (↑i)))]) hX dX2_positions_35 hl (k := 1) rfl (by omega) (by decide) rfl (fun ls hl => ?_)
          refine z_iinc (y := ↑(i + 1)) (lv' := [(3, .int (iI (↑(i + 1)))), (1, .int (iI ((((posL (σ 0) i).length + 1 : Nat) : Int)))), (0, .ref (a 0)), (2, .ref al)]) hX dX2_positions_38 hl (k := 3) rfl (by omega) (by decide) rfl (fun ls hl => ?_)
          refine lv_goto (tgt := 11) hx hb dX2_positions_41 (by decide) ?_
          rw [show lg (posL (σ 0) i ++ [mNet (σ 0) i]) = lg (posL (σ 0) (i + 1)) by rw [posL_y c_24]] at hP hD
          rw [show (((posL (σ 0) i).length + 1 : Nat) : Int) = ((posL (σ 0) (i + 1)).length : Nat) by rw [posL_y c_24, List.length_append, List.length_singleton]] at hl
          exact ih11 (i + 1) (by omega) (by omega) _ _ _ hP hD hS (lv_sub hl [2, 1, 3, 0] rfl)
  refine W.widen (k := 1) (n := n0) (by omega) (by omega) ?_
  rw [show (fun _ => (0 : Int)) = lg (posL (σ 0) 0) from rfl] at hP hD
  exact L11 (n0 + 1) (0) (by omega) (by omega) _ _ _ hP hD hS (lv_sub hl [3, 2, 1, 0] rfl)
set_option maxHeartbeats 4000000 in
theorem c_X2_sumOf {l : Launch} {D : va_G} {Z : zZ} {cA : Nat → ClassId} (hZ : zOk Z) (hfl : l.stackTraces = false) (hz : ∀ A U H, Z A U H → zT9 A U H) (sz : Nat) {pv : Nat} (mm : Nat) (f : Nat → Int) (hm7 : mm ≤ 7) (t : Nat) (ht : t < 128) (E2 : Int) (h2 : E2 = (t : Int)) : Met l yX2_sumOf (ws_ yX2_sumOf cX2_sumOf 4 (some .int)) { frames := 0, cells := 0, slots := 0, locals := 0 } (wPc D vwCl (tyL cA) Z w0 [enI cA pv mm f] [.ref (pv), .int (iI (E2))] sz zO) (wQi D vwCl w0 (fun r _ => r = iI (ssF f t mm)) sz) 0 0 (wA w0 sz) := by
  subst h2
  refine w_metR (cc := cX2_sumOf) (maxL := 4) (ret := some .int) (own := RX2) (by decide) rfl rfl w0_ok (Nat.le_of_ble_eq_true rfl) ?_
  intro p e s m below meth c hX hsz hK hP hD hA hE hS hR hN ls hl
  have hx := hX.1
  have hb := hX.2.1
  have hz0 := hz _ _ _ hE
  have hl : lv_has ls 4 [(0, .ref pv), (1, .int (iI (↑t)))] := hl
  refine z_iconst hX dX2_sumOf_0 ?_
  refine z_top (y := ssF f t 0) (rfl) ?_
  refine lv_istore_n (lv' := [(2, .int (iI (ssF f t 0))), (0, .ref pv), (1, .int (iI (↑t)))]) hx hb dX2_sumOf_1 rfl hl (by decide) rfl (fun ls hl => ?_)
  refine z_iconst hX dX2_sumOf_2 ?_
  refine z_top (y := ↑(0 : Nat)) (rfl) ?_
  refine lv_istore_n (lv' := [(3, .int (iI (↑(0 : Nat)))), (2, .int (iI (ssF f t 0))), (0, .ref pv), (1, .int (iI (↑t)))]) hx hb dX2_sumOf_3 rfl hl (by decide) rfl (fun ls hl => ?_)
  have L4 : ∀ (n : Nat) (k : Nat), (mm < k + n) → (k ≤ mm) → ∀ (H : Heap) (locs : List Loc) (ls : Array Slot), va_P D vwCl (w0 zO) H → va_S (wA w0 sz) s.heap H locs → lv_has ls 4 [(0, .ref pv), (1, .int (iI (↑t))), (2, .int (iI (ssF f t k))), (3, .int (iI (↑k)))] → W p l e (headSpec (ws_ yX2_sumOf cX2_sumOf 4 (some .int)) { frames := 0, cells := 0, slots := 0, locals := 0 }).room s m ([.ref pv, .int (iI (↑t))] : List Value).toArray below meth c H locs 0 0 (MQ below (wQi D vwCl w0 (fun r _ => r = iI (ssF f t mm)) sz) ([.ref pv, .int (iI (↑t))] : List Value).toArray s 0 0 (wA w0 sz)) (F0 m 4 ls []) := by
    intro n
    induction n with
    | zero =>
      intro k hf hk H locs ls hP hS hl
      exact absurd hf (by omega)
    | succ n ih4 =>
      intro k hf hk H locs ls hP hS hl
      refine lv_iload_n hx hb dX2_sumOf_4 rfl (lv_at hl 3 rfl) ?_
      refine lv_aload_n hx hb dX2_sumOf_5 rfl (lv_at hl 0 rfl) ?_
      refine va_alen hX.1 hX.2.1 hK (hR _ _ hS) 0 0 rfl ty_0 (v := iI ((mm : Nat) : Int)) rfl dX2_sumOf_6 ?_
      refine z_icmp_ge (tgt := 35) hX (by omega) dX2_sumOf_7 (by decide) (fun c_7 => ?_) (fun c_7 => ?_)
      · skip
        refine lv_iload_n hx hb dX2_sumOf_35 rfl (lv_at hl 2 rfl) ?_
        refine W.eq (g2 := F0 m 36 ls [.int (iI (ssF f t k))]) rfl ?_
        exact w_iret hX hP hS (by rw [show k = mm by omega]) dX2_sumOf_36
      · skip
        refine lv_iload_n hx hb dX2_sumOf_10 rfl (lv_at hl 2 rfl) ?_
        refine lv_iload_n hx hb dX2_sumOf_11 rfl (lv_at hl 1 rfl) ?_
        refine lv_iload_n hx hb dX2_sumOf_12 rfl (lv_at hl 3 rfl) ?_
        refine z_ibit hX (t) k (by omega) (by omega) dX2_sumOf_13 ?_
        refine z_iconst hX dX2_sumOf_14 ?_
        refine z_iand1 hX ((t / 2 ^ k)) ((Nat.lt_of_le_of_lt (Nat.div_le_self _ _) (by omega))) dX2_sumOf_15 ?_
        refine z_iconst hX dX2_sumOf_16 ?_
        refine z_icmp_ne (tgt := 26) hX (by omega) dX2_sumOf_17 (by decide) (fun c_17 => ?_) (fun c_17 => ?_)
        · skip
          refine z_iconst hX dX2_sumOf_26 ?_
          refine W.eq (g2 := F0 m 27 ls [.int (iI (0)), .int (iI (ssF f t k))]) rfl ?_
          refine z_iadd hX dX2_sumOf_27 ?_
          refine z_top (y := ssF f t (k + 1)) (by show _ = if _ then _ else _; rw [if_neg (by omega), Int.add_zero]) ?_
          refine lv_istore_n (lv' := [(2, .int (iI (ssF f t (k + 1)))), (0, .ref pv), (1, .int (iI (↑t))), (3, .int (iI (↑k)))]) hx hb dX2_sumOf_28 rfl hl (by decide) rfl (fun ls hl => ?_)
          refine z_iinc (y := ↑(k + 1)) (lv' := [(3, .int (iI (↑(k + 1)))), (2, .int (iI (ssF f t (k + 1)))), (0, .ref pv), (1, .int (iI (↑t)))]) hX dX2_sumOf_29 hl (k := 3) rfl (by omega) (by decide) rfl (fun ls hl => ?_)
          refine lv_goto (tgt := 4) hx hb dX2_sumOf_32 (by decide) ?_
          exact ih4 (k + 1) (by omega) (by omega) _ _ _ hP hS (lv_sub hl [2, 3, 1, 0] rfl)
        · skip
          refine lv_aload_n hx hb dX2_sumOf_20 rfl (lv_at hl 0 rfl) ?_
          refine lv_iload_n hx hb dX2_sumOf_21 rfl (lv_at hl 3 rfl) ?_
          refine n_ald hX hK (hR _ _ hS) 0 rfl k (⟨rfl, by omega⟩) (by omega) dX2_sumOf_22 ?_
          refine lv_goto (tgt := 27) hx hb dX2_sumOf_23 (by decide) ?_
          refine z_iadd hX dX2_sumOf_27 ?_
          refine z_top (y := ssF f t (k + 1)) (by show _ = if _ then _ else _; rw [if_pos (by omega)]) ?_
          refine lv_istore_n (lv' := [(2, .int (iI (ssF f t (k + 1)))), (0, .ref pv), (1, .int (iI (↑t))), (3, .int (iI (↑k)))]) hx hb dX2_sumOf_28 rfl hl (by decide) rfl (fun ls hl => ?_)
          refine W.eq (g2 := F0 m 29 ls []) rfl ?_
          refine z_iinc (y := ↑(k + 1)) (lv' := [(3, .int (iI (↑(k + 1)))), (2, .int (iI (ssF f t (k + 1)))), (0, .ref pv), (1, .int (iI (↑t)))]) hX dX2_sumOf_29 hl (k := 3) rfl (by omega) (by decide) rfl (fun ls hl => ?_)
          refine lv_goto (tgt := 4) hx hb dX2_sumOf_32 (by decide) ?_
          exact ih4 (k + 1) (by omega) (by omega) _ _ _ hP hS (lv_sub hl [2, 3, 1, 0] rfl)
  exact L4 (mm + 1) (0) (by omega) (by omega) _ _ _ hP hS (lv_sub hl [2, 3, 1, 0] rfl)
