/-! whether a party comes again; whether there is a cycle -/
set_option maxRecDepth 100000
theorem mkJ_c {g : Nat → Int} {n : Nat} {F : Nat → Nat} {O O2 : Nat → Prop} (h : mkJ g n F O) (hO : ∀ v, v < n → (O v ↔ O2 v)) : mkJ g n F O2 := ⟨fun v hv => ⟨(h.1 v hv).1, (h.1 v hv).2.trans (hO v hv)⟩, h.2⟩
theorem last_in {S : List Nat} {p : Nat} (h1 : 1 ≤ S.length) (h : qk S (S.length - 1) = p) : p ∈ S := qk_mem.mpr ⟨S.length - 1, by omega, h⟩
theorem mkJ_open {g : Nat → Int} {n p : Nat} {F : Nat → Nat} {S : List Nat} (hJ : mkJ g n F (fun v => v ∈ S ∧ v ≠ p)) (h0 : F p = 0) (hp : p < n) (hS : p ∈ S) : mkJ g n (upN F p 1) (fun v => v ∈ S) := by
  refine ⟨fun v hv => ?_, fun v hv h2 u hu he => ?_, fun q hq => ?_⟩
  · by_cases c : v = p
    · subst c; rw [upN_e]; exact ⟨by decide, fun _ => hS, fun _ => rfl⟩
    · rw [upN_n c]
      exact ⟨(hJ.1 v hv).1, fun h => ((hJ.1 v hv).2.mp h).1, fun h => (hJ.1 v hv).2.mpr ⟨h, c⟩⟩
  · have c : v ≠ p := fun e => by subst e; rw [upN_e] at h2; cases h2
    rw [upN_n c] at h2
    have h3 := hJ.2.1 v hv h2 u hu he
    have c2 : u ≠ p := fun e => by subst e; rw [h0] at h3; cases h3
    rw [upN_n c2]; exact h3
  · obtain ⟨k, hk, h⟩ := hJ.2.2 q hq
    refine ⟨k, hk, ?_⟩
    by_cases c : qk q k = p
    · rw [c, upN_e]; decide
    · rw [upN_n c]; exact h
theorem mkJ_done {g : Nat → Int} {B : Int} (hg : gOk g B) {n p : Nat} (hn : n ≤ 7) {G : Nat → Nat} {S : List Nat} (hJ : mkJ g n G (fun v => v ∈ S)) (hp : p < n) (hS : p ∈ S) (hd : ∀ u, u < n → 0 < g (12 + 7 * p + u) → G u = 2) : mkJ g n (upN G p 2) (fun v => v ∈ S ∧ v ≠ p) := by
  have h1 : G p = 1 := (hJ.1 p hp).2.mpr hS
  have hself : ¬ 0 < g (12 + 7 * p + p) := fun q => by have := hg.2.2.2.1 p p (by omega) (by omega) (Or.inr (Or.inr rfl)); omega
  refine ⟨fun v hv => ?_, fun v hv h2 u hu he => ?_, fun q hq => ?_⟩
  · by_cases c : v = p
    · subst c; rw [upN_e]; exact ⟨by decide, Iff.intro (fun h => absurd h (by decide)) (fun h => absurd rfl h.2)⟩
    · rw [upN_n c]
      exact ⟨(hJ.1 v hv).1, fun h => ⟨(hJ.1 v hv).2.mp h, c⟩, fun h => (hJ.1 v hv).2.mpr h.1⟩
  · by_cases c : v = p
    · subst c
      have c2 : u ≠ v := fun e => by subst e; exact hself he
      rw [upN_n c2]; exact hd u hu he
    · rw [upN_n c] at h2
      have h3 := hJ.2.1 v hv h2 u hu he
      have c2 : u ≠ p := fun e => by subst e; rw [h1] at h3; cases h3
      rw [upN_n c2]; exact h3
  · refine Decidable.by_contra (fun hno => ?_)
    have hall : ∀ k, k < q.length → upN G p 2 (qk q k) = 2 := fun k hk => Decidable.by_contra (fun h => hno ⟨k, hk, h⟩)
    obtain ⟨k, hk, h⟩ := hJ.2.2 q hq
    have c : qk q k = p := Decidable.by_contra (fun c => by
      have := hall k hk
      rw [upN_n c] at this
      exact h this)
    obtain ⟨j, hj, hne, he⟩ := cOk_back hq hk
    rw [c] at hne he
    have h3 := hall j hj
    rw [upN_n hne] at h3
    have h4 := hJ.2.1 _ (hq.1.2.1 j hj) h3 p hp he
    rw [h1] at h4; cases h4
theorem qk_lst {S : List Nat} {i : Nat} : qk (S ++ [i]) S.length = i := by
  unfold qk
  simp [List.getD_eq_getElem?_getD]
theorem va_D.self_of {A : Nat → Prop} {q sz : Nat} {e e2 : va_E} (h : va_D A [(q, e2)]) (_ : va_D A [(q, e)]) : va_D (wA (wL [(q, e)]) sz) [(q, e2)] := ⟨h.1, fun k x hk => by
  cases k with
  | zero => cases hk; exact Or.inl ⟨0, e, rfl⟩
  | succ k => cases hk⟩
set_option maxHeartbeats 4000000 in
theorem c_X2_comesAgain_s {l : Launch} {D : va_G} {Z : zZ} {cA : Nat → ClassId} (hZ : zOk Z) (hfl : l.stackTraces = false) (hz : ∀ A U H, Z A U H → zT9 A U H) (sz : Nat) {a : Nat → Nat} {mq : Nat} {mk : Nat → Nat} (hmk : ∀ A U H, Z A U H → zMk mk A U H) (σ : zT) (n0 : Nat) (hn : σ 0 0 = n0 ∧ n0 ≤ 7) (B : Int) (hgo : gOk (σ 0) B) (c9 : Nat) (ih : ∀ c, c < c9 → ∀ (S : List Nat) (p1 : Nat) (F : Nat → Nat) (E1 : Int) (sz : Nat), E1 = (p1 : Int) → p1 < n0 → pOk (σ 0) n0 S → qk S (S.length - 1) = p1 → mkJ (σ 0) n0 F (fun v => v ∈ S ∧ v ≠ p1) → F p1 = 0 → newC F n0 ≤ c → Met l yX2_comesAgain (ws_ yX2_comesAgain cX2_comesAgain 5 (some .boolean)) { frames := c + 1, cells := 0, slots := 0, locals := 30 + 30 * c } (wPc D vwCl (tyL cA) Z (wL [enM cA mq n0 mk F]) (hW a cA σ) [.ref (a 0), .int (iI E1), .ref mq] sz zO) (nQi D (fun r ws => ∃ F2, ws = [enM cA mq n0 mk F2] ∧ ((r = iI 1 ∧ ∃ q, cOk (σ 0) n0 q) ∨ (r = iI 0 ∧ mkJ (σ 0) n0 F2 (fun v => v ∈ S ∧ v ≠ p1) ∧ F2 p1 = 2 ∧ (∀ v, v < n0 → F v = 2 → F2 v = 2) ∧ ∀ v, v < n0 → F2 v = 0 → F v = 0))) (wA (wL [enM cA mq n0 mk F]) sz)) 0 0 (wA (wL [enM cA mq n0 mk F]) sz)) (S : List Nat) (p1 : Nat) (F : Nat → Nat) (E1 : Int) (h1 : E1 = (p1 : Int)) (hp1 : p1 < n0) (hS9 : pOk (σ 0) n0 S) (hlast : qk S (S.length - 1) = p1) (hJ : mkJ (σ 0) n0 F (fun v => v ∈ S ∧ v ≠ p1)) (h0 : F p1 = 0) (hc9 : newC F n0 ≤ c9) : Met l yX2_comesAgain (ws_ yX2_comesAgain cX2_comesAgain 5 (some .boolean)) { frames := c9 + 1, cells := 0, slots := 0, locals := 30 + 30 * c9 } (wPc D vwCl (tyL cA) Z (wL [enM cA mq n0 mk (F)]) (hW a cA σ) [.ref (a 0), .int (iI E1), .ref mq] sz zO) (nQi D (fun r ws => ∃ F2, ws = [enM cA mq n0 mk F2] ∧ ((r = iI 1 ∧ ∃ q, cOk (σ 0) n0 q) ∨ (r = iI 0 ∧ mkJ (σ 0) n0 F2 (fun v => v ∈ S ∧ v ≠ p1) ∧ F2 p1 = 2 ∧ (∀ v, v < n0 → F v = 2 → F2 v = 2) ∧ ∀ v, v < n0 → F2 v = 0 → F v = 0))) (wA (wL [enM cA mq n0 mk (F)]) sz)) 0 0 (wA (wL [enM cA mq n0 mk (F)]) sz) := by
  subst h1
  refine l_met (cc := cX2_comesAgain) (maxL := 5) (ret := some .boolean) (own := RX2) (by decide) rfl rfl (Nat.le_of_ble_eq_true rfl) ?_
  intro p e s m below meth c hX hnm hsz hK hP hD hA hE hS hR hN ls hl
  have hx := hX.1
  have hb := hX.2.1
  have hz0 := hz _ _ _ hE
  have hl : lv_has ls 5 [(0, .ref (a 0)), (1, .int (iI (↑p1))), (2, .ref mq)] := hl
  have hmk0 := hmk _ _ _ hE
  have hpS := last_in hS9.1 hlast
  refine lv_aload_n hx hb dX2_comesAgain_0 rfl (lv_at hl 2 rfl) ?_
  refine lv_iload_n hx hb dX2_comesAgain_1 rfl (lv_at hl 1 rfl) ?_
  refine mk_gs hX hS hmk0 1 (by decide) q864 dX2_comesAgain_2 ?_
  refine mk_st hX hK hP hD hS hmk0 0 rfl p1 1 (by decide) (⟨rfl, by omega⟩) (by omega) dX2_comesAgain_5 (fun H locs hP hD hS => ?_)
  have hP : va_P D vwCl [enM cA mq n0 mk (upN F p1 1)] H := hP
  have hD : va_D _ [enM cA mq n0 mk (upN F p1 1)] := hD
  refine z_iconst hX dX2_comesAgain_6 ?_
  refine z_top (y := ↑(0 : Nat)) (rfl) ?_
  refine lv_istore_n (lv' := [(3, .int (iI (↑(0 : Nat)))), (0, .ref (a 0)), (1, .int (iI (↑p1))), (2, .ref mq)]) hx hb dX2_comesAgain_7 rfl hl (by decide) rfl (fun ls hl => ?_)
  have L8 : ∀ (n : Nat) (i : Nat) (G : Nat → Nat), (n0 < i + n) → (i ≤ n0) → (mkJ (σ 0) n0 G (fun v => v ∈ S)) → (∀ u, u < i → 0 < σ 0 (12 + 7 * p1 + u) → G u = 2) → (∀ v, v < n0 → F v = 2 → G v = 2) → (∀ v, v < n0 → G v = 0 → upN F p1 1 v = 0) → ∀ (H : Heap) (locs : List Loc) (ls : Array Slot), va_P D vwCl [enM cA mq n0 mk (G)] H → va_D (wA (wL [enM cA mq n0 mk (F)]) sz) [enM cA mq n0 mk (G)] → va_S (wA (wL [enM cA mq n0 mk (F)]) sz) s.heap H locs → lv_has ls 5 [(0, .ref (a 0)), (1, .int (iI (↑p1))), (2, .ref mq), (3, .int (iI (↑i)))] → W p l e (headSpec (ws_ yX2_comesAgain cX2_comesAgain 5 (some .boolean)) { frames := c9 + 1, cells := 0, slots := 0, locals := 30 + 30 * c9 }).room s m ([.ref (a 0), .int (iI (↑p1)), .ref mq] : List Value).toArray below meth c H locs 0 0 (MQ below (nQi D (fun r ws => ∃ F2, ws = [enM cA mq n0 mk F2] ∧ ((r = iI 1 ∧ ∃ q, cOk (σ 0) n0 q) ∨ (r = iI 0 ∧ mkJ (σ 0) n0 F2 (fun v => v ∈ S ∧ v ≠ p1) ∧ F2 p1 = 2 ∧ (∀ v, v < n0 → F v = 2 → F2 v = 2) ∧ ∀ v, v < n0 → F2 v = 0 → F v = 0))) (wA (wL [enM cA mq n0 mk (F)]) sz)) ([.ref (a 0), .int (iI (↑p1)), .ref mq] : List Value).toArray s 0 0 (wA (wL [enM cA mq n0 mk (F)]) sz)) (F0 m 8 ls []) := by
    intro n
    induction n with
    | zero =>
      intro i G hf hi hG hGd hG2 hG0 H locs ls hP hD hS hl
      exact absurd hf (by omega)
    | succ n ih8 =>
      intro i G hf hi hG hGd hG2 hG0 H locs ls hP hD hS hl
      refine lv_iload_n hx hb dX2_comesAgain_8 rfl (lv_at hl 3 rfl) ?_
      refine lv_aload_n hx hb dX2_comesAgain_9 rfl (lv_at hl 0 rfl) ?_
      refine h_get hX hK (hR _ _ hS) 3 (by decide) q172 rfl dX2_comesAgain_10 ?_
      refine W.eq (g2 := F0 m 13 ls [.int (iI (σ 0 0)), .int (iI (↑i))]) rfl ?_
      refine z_icmp_ge (tgt := 74) hX (by omega) dX2_comesAgain_13 (by decide) (fun c_13 => ?_) (fun c_13 => ?_)
      · skip
        refine lv_aload_n hx hb dX2_comesAgain_74 rfl (lv_at hl 2 rfl) ?_
        refine lv_iload_n hx hb dX2_comesAgain_75 rfl (lv_at hl 1 rfl) ?_
        refine mk_gs hX hS hmk0 2 (by decide) q866 dX2_comesAgain_76 ?_
        refine mk_st hX hK hP hD hS hmk0 0 rfl p1 2 (by decide) (⟨rfl, by omega⟩) (by omega) dX2_comesAgain_79 (fun H locs hP hD hS => ?_)
        have hP : va_P D vwCl [enM cA mq n0 mk (upN G p1 2)] H := hP
        have hD : va_D _ [enM cA mq n0 mk (upN G p1 2)] := hD
        refine z_iconst hX dX2_comesAgain_80 ?_
        exact n_zret hX hP hS (by decide) (⟨_, rfl, Or.inr ⟨rfl, mkJ_done hgo hn.2 hG hp1 hpS (fun u hu he => hGd u (by omega) he), upN_e, fun v hv h2 => by
            have c : v ≠ p1 := fun e => by subst e; rw [h0] at h2; cases h2
            rw [upN_n c]; exact hG2 v hv h2, fun v hv h2 => by
            by_cases c : v = p1
            · subst c; exact h0
            · rw [upN_n c] at h2
              have h3 := hG0 v hv h2
              rw [upN_n c] at h3; exact h3⟩⟩) dX2_comesAgain_81
      · skip
        refine lv_aload_n hx hb dX2_comesAgain_16 rfl (lv_at hl 0 rfl) ?_
        refine h_get hX hK (hR _ _ hS) 0 (by decide) q166 rfl dX2_comesAgain_17 ?_
        refine lv_iload_n hx hb dX2_comesAgain_20 rfl (lv_at hl 1 rfl) ?_
        refine W.eq (g2 := F0 m 21 ls [.int (iI (↑p1)), .ref (a 1)]) rfl ?_
        refine h_row (a := a) hX hK (hR _ _ hS) p1 (⟨rfl, by omega⟩) dX2_comesAgain_21 ?_
        refine lv_iload_n hx hb dX2_comesAgain_22 rfl (lv_at hl 3 rfl) ?_
        refine h_ldd hX hK (hR _ _ hS) p1 i (by omega) (⟨rfl, by omega⟩) dX2_comesAgain_23 ?_
        refine z_if_le (tgt := 31) hX (by have := hgo.2.2.1 p1 i (by omega) (by omega); omega) dX2_comesAgain_24 (by decide) (fun c_24 => ?_) (fun c_24 => ?_)
        · skip
          refine z_iconst hX dX2_comesAgain_31 ?_
          refine lv_istore (lv' := [(4, .int (iI (0))), (0, .ref (a 0)), (1, .int (iI (↑p1))), (2, .ref mq), (3, .int (iI (↑i)))]) hx hb dX2_comesAgain_32 hl (by decide) rfl (fun ls hl => ?_)
          refine lv_iload hx hb dX2_comesAgain_34 (lv_at hl 0 rfl) ?_
          refine z_if_eq (tgt := 68) hX (by decide) dX2_comesAgain_36 (by decide) (fun h9 => ?_) (fun h9 => absurd h9 (by decide))
          refine z_iinc (y := ↑(i + 1)) (lv' := [(3, .int (iI (↑(i + 1)))), (4, .int (iI (0))), (0, .ref (a 0)), (1, .int (iI (↑p1))), (2, .ref mq)]) hX dX2_comesAgain_68 hl (k := 4) rfl (by omega) (by decide) rfl (fun ls hl => ?_)
          refine lv_goto (tgt := 8) hx hb dX2_comesAgain_71 (by decide) ?_
          exact ih8 (i + 1) (G) (by omega) (by omega) (hG) (fun u hu he => by
                by_cases c : u = i
                · subst c; first | exact absurd he (by omega) | (have h8 := (hG.1 u (by omega)).1; have h7 : G u ≠ 1 := fun e9 => c_45 (by rw [e9]); have h6 : G u ≠ 0 := fun e9 => c_54 (by rw [e9]); omega)
                · exact hGd u (by omega) he) (hG2) (hG0) _ _ _ hP hD hS (lv_sub hl [2, 3, 4, 0] rfl)
        · skip
          refine W.eq (g2 := F0 m 27 ls []) rfl ?_
          refine z_iconst hX dX2_comesAgain_27 ?_
          refine lv_goto (tgt := 32) hx hb dX2_comesAgain_28 (by decide) ?_
          refine lv_istore (lv' := [(4, .int (iI (1))), (0, .ref (a 0)), (1, .int (iI (↑p1))), (2, .ref mq), (3, .int (iI (↑i)))]) hx hb dX2_comesAgain_32 hl (by decide) rfl (fun ls hl => ?_)
          refine lv_iload hx hb dX2_comesAgain_34 (lv_at hl 0 rfl) ?_
          refine z_if_eq (tgt := 68) hX (by decide) dX2_comesAgain_36 (by decide) (fun h9 => absurd h9 (by decide)) (fun h9 => ?_)
          refine lv_aload_n hx hb dX2_comesAgain_39 rfl (lv_at hl 3 rfl) ?_
          refine lv_iload_n hx hb dX2_comesAgain_40 rfl (lv_at hl 4 rfl) ?_
          refine mk_ld hX hK hP 0 rfl i (⟨rfl, by omega⟩) (by omega) dX2_comesAgain_41 ?_
          refine mk_gs hX hS hmk0 1 (by decide) q864 dX2_comesAgain_42 ?_
          refine lv_acmp_eq (tgt := 66) hx hb dX2_comesAgain_45 (by decide) (fun c_45 => ?_) (fun c_45 => ?_)
          · skip
            refine W.eq (g2 := F0 m 66 ls []) rfl ?_
            refine z_iconst hX dX2_comesAgain_66 ?_
            exact n_zret hX hP hS (by decide) (⟨_, rfl, Or.inl ⟨rfl, by
                obtain ⟨j, hj, ej⟩ := qk_mem.mp ((hG.1 i (by omega)).2.mp ((mk_eq hmk0 (hG.1 i (by omega)).1 (by decide)).mp c_45))
                refine ⟨S.drop j, cOk_drop hS9 (pOk_len hS9) ?_ (by rw [hlast, ej]; exact c_24)⟩
                have hne : j ≠ S.length - 1 := fun e9 => by
                  rw [e9, hlast] at ej
                  subst ej
                  have := hgo.2.2.2.1 p1 p1 (by omega) (by omega) (Or.inr (Or.inr rfl))
                  omega
                omega⟩⟩) dX2_comesAgain_67
          · skip
            refine lv_aload_n hx hb dX2_comesAgain_48 rfl (lv_at hl 3 rfl) ?_
            refine lv_iload_n hx hb dX2_comesAgain_49 rfl (lv_at hl 4 rfl) ?_
            refine mk_ld hX hK hP 0 rfl i (⟨rfl, by omega⟩) (by omega) dX2_comesAgain_50 ?_
            refine mk_gs hX hS hmk0 0 (by decide) q858 dX2_comesAgain_51 ?_
            refine lv_acmp_ne (tgt := 68) hx hb dX2_comesAgain_54 (by decide) (fun c_54 => ?_) (fun c_54 => ?_)
            · skip
              refine z_iinc (y := ↑(i + 1)) (lv' := [(3, .int (iI (↑(i + 1)))), (4, .int (iI (1))), (0, .ref (a 0)), (1, .int (iI (↑p1))), (2, .ref mq)]) hX dX2_comesAgain_68 hl (k := 4) rfl (by omega) (by decide) rfl (fun ls hl => ?_)
              refine lv_goto (tgt := 8) hx hb dX2_comesAgain_71 (by decide) ?_
              exact ih8 (i + 1) (G) (by omega) (by omega) (hG) (fun u hu he => by
                    by_cases c : u = i
                    · subst c; first | exact absurd he (by omega) | (have h8 := (hG.1 u (by omega)).1; have h7 : G u ≠ 1 := fun e9 => c_45 (by rw [e9]); have h6 : G u ≠ 0 := fun e9 => c_54 (by rw [e9]); omega)
                    · exact hGd u (by omega) he) (hG2) (hG0) _ _ _ hP hD hS (lv_sub hl [2, 3, 4, 0] rfl)
            · skip
              refine lv_aload_n hx hb dX2_comesAgain_57 rfl (lv_at hl 1 rfl) ?_
              refine W.eq (g2 := F0 m 58 ls [.ref (a 0)]) rfl ?_
              refine lv_iload_n hx hb dX2_comesAgain_58 rfl (lv_at hl 4 rfl) ?_
              refine lv_aload_n hx hb dX2_comesAgain_59 rfl (lv_at hl 3 rfl) ?_
              have hGi : G i = 0 := (mk_eq hmk0 (hG.1 i (by omega)).1 (by decide)).mp c_54
              have hiS : i ∉ S := fun h => by have := (hG.1 i (by omega)).2.mpr h; omega
              have hS2 : pOk (σ 0) n0 (S ++ [i]) := pOk_app hS9 (by omega) (by rw [hlast]; exact c_24) hiS
              have hmem : ∀ v, v < n0 → (v ∈ S ↔ v ∈ S ++ [i] ∧ v ≠ i) := fun v hv => ⟨fun h => ⟨List.mem_append_left _ h, fun e => hiS (e ▸ h)⟩, fun h => (List.mem_append.mp h.1).elim id (fun h9 => absurd (List.mem_singleton.mp h9) h.2)⟩
              have hnc : newC G n0 ≤ newC (upN F p1 1) n0 := newC_le hG0
              rw [newC_up hp1 h0 (by decide)] at hnc
              have hnn := newC_nn (F := F) (n := n0)
              have hnG := newC_nn (F := G) (n := n0)
              have hP9 : va_P D vwCl ([enM cA mq n0 mk G] ++ []) H := hP
              have hD9 : va_D _ ([enM cA mq n0 mk G] ++ []) := hD
              refine l_calli hP9 hD9 hA hS (va_runV (As := [.int (iI (↑i)), .ref mq]) (rest := []) hX.fix (ih (c9 - 1) (by omega) (S ++ [i]) i G _ _ rfl (by omega) hS2 (by rw [List.length_append, List.length_singleton, Nat.add_sub_cancel]; exact qk_lst) (mkJ_c hG hmem) hGi (by omega)) (cwV 2 hX.hts (lw_V q860 q862 qs16 q81 q863) rfl rfl rfl (by decide +kernel) ⟨by show c9 - 1 + 1 + 1 ≤ c9 + 1; omega, by show 8 + (5 + 11) + (30 + 30 * (c9 - 1)) ≤ 30 + 30 * c9; omega⟩) (l_preV hZ hK (D_l hD9) hA hE (P_l hP9) (hR _ _ hS) (n_out hN (D_l hD9) hA hS (A0 := fun _ => True)) hS (va_recv hK (hR _ _ hS) (ci := 1) (q0 := 0) vw_X2 hW_0)) rfl rfl hl.1 rfl (lv_room (Nat.le_of_ble_eq_true rfl)) dX2_comesAgain_60 ⟨Nat.le_of_ble_eq_true rfl, Nat.le_of_ble_eq_true rfl⟩) (fun r w1 h => by obtain ⟨F2, rfl, -⟩ := h; exact ((D_l hD9).set (p := 0) rfl).self_of (D_l hD9)) (fun r w1 H locs hq hP hD hS => ?_)
              obtain ⟨G2, rfl, hq⟩ := hq
              have hP : va_P D vwCl [enM cA mq n0 mk (G2)] H := hP
              have hD : va_D _ [enM cA mq n0 mk (G2)] := hD
              obtain ⟨z, hz9, rfl⟩ : ∃ z : Int, (z = 0 ∨ z = 1) ∧ r = iI z := by
                rcases hq with h | h
                · exact ⟨1, Or.inr rfl, h.1⟩
                · exact ⟨0, Or.inl rfl, h.1⟩
              refine z_if_eq (tgt := 68) hX (by omega) dX2_comesAgain_63 (by decide) (fun c_63 => ?_) (fun c_63 => ?_)
              · skip
                have hq9 : mkJ (σ 0) n0 G2 (fun v => v ∈ S ++ [i] ∧ v ≠ i) ∧ G2 i = 2 ∧ (∀ v, v < n0 → G v = 2 → G2 v = 2) ∧ ∀ v, v < n0 → G2 v = 0 → G v = 0 := by
                  rcases hq with h | h
                  · exact absurd ((iI_eq (a := z) (b := 1) (by unfold rng; omega) (by unfold rng; omega)).mp h.1) (by omega)
                  · exact h.2
                obtain ⟨hJ1, hq2, hq3, hq4⟩ := hq9
                have hJ2 := mkJ_c hJ1 (O2 := fun v => v ∈ S) (fun v hv => (hmem v hv).symm)
                have hGd2 : ∀ u, u < i → 0 < σ 0 (12 + 7 * p1 + u) → G2 u = 2 := fun u hu he => hq3 u (by omega) (hGd u hu he)
                refine z_iinc (y := ↑(i + 1)) (lv' := [(3, .int (iI (↑(i + 1)))), (4, .int (iI (1))), (0, .ref (a 0)), (1, .int (iI (↑p1))), (2, .ref mq)]) hX dX2_comesAgain_68 hl (k := 4) rfl (by omega) (by decide) rfl (fun ls hl => ?_)
                refine lv_goto (tgt := 8) hx hb dX2_comesAgain_71 (by decide) ?_
                exact ih8 (i + 1) (G2) (by omega) (by omega) (hJ2) (fun u hu he => by
                      by_cases c : u = i
                      · subst c; exact hq2
                      · exact hGd2 u (by omega) he) (fun v hv h2 => hq3 v hv (hG2 v hv h2)) (fun v hv h2 => hG0 v hv (hq4 v hv h2)) _ _ _ hP hD hS (lv_sub hl [2, 3, 4, 0] rfl)
              · skip
                refine z_iconst hX dX2_comesAgain_66 ?_
                exact n_zret hX hP hS (by decide) (⟨_, rfl, Or.inl ⟨rfl, by
                    rcases hq with h | h
                    · exact h.2
                    · have h9 := (iI_eq (a := z) (b := 0) (by unfold rng; omega) rng_0).mp h.1
                      exact absurd h9 c_63⟩⟩) dX2_comesAgain_67
  exact L8 (n0 + 1) (0) (upN F p1 1) (by omega) (by omega) (mkJ_open hJ h0 hp1 hpS) (fun u hu => absurd hu (by omega)) (fun v hv h2 => by
        have c : v ≠ p1 := fun e => by subst e; rw [h0] at h2; cases h2
        rw [upN_n c]; exact h2) (fun v hv h => h) _ _ _ hP hD hS (lv_sub hl [1, 2, 3, 0] rfl)
theorem c_X2_comesAgain {l : Launch} {D : va_G} {Z : zZ} {cA : Nat → ClassId} (hZ : zOk Z) (hfl : l.stackTraces = false) (hz : ∀ A U H, Z A U H → zT9 A U H) {a : Nat → Nat} {mq : Nat} {mk : Nat → Nat} (hmk : ∀ A U H, Z A U H → zMk mk A U H) (σ : zT) (n0 : Nat) (hn : σ 0 0 = n0 ∧ n0 ≤ 7) (B : Int) (hgo : gOk (σ 0) B) : ∀ (c : Nat), ∀ (S : List Nat) (p1 : Nat) (F : Nat → Nat) (E1 : Int) (sz : Nat), E1 = (p1 : Int) → p1 < n0 → pOk (σ 0) n0 S → qk S (S.length - 1) = p1 → mkJ (σ 0) n0 F (fun v => v ∈ S ∧ v ≠ p1) → F p1 = 0 → newC F n0 ≤ c → Met l yX2_comesAgain (ws_ yX2_comesAgain cX2_comesAgain 5 (some .boolean)) { frames := c + 1, cells := 0, slots := 0, locals := 30 + 30 * c } (wPc D vwCl (tyL cA) Z (wL [enM cA mq n0 mk F]) (hW a cA σ) [.ref (a 0), .int (iI E1), .ref mq] sz zO) (nQi D (fun r ws => ∃ F2, ws = [enM cA mq n0 mk F2] ∧ ((r = iI 1 ∧ ∃ q, cOk (σ 0) n0 q) ∨ (r = iI 0 ∧ mkJ (σ 0) n0 F2 (fun v => v ∈ S ∧ v ≠ p1) ∧ F2 p1 = 2 ∧ (∀ v, v < n0 → F v = 2 → F2 v = 2) ∧ ∀ v, v < n0 → F2 v = 0 → F v = 0))) (wA (wL [enM cA mq n0 mk F]) sz)) 0 0 (wA (wL [enM cA mq n0 mk F]) sz) := by
  intro c
  induction c using Nat.strongRecOn with
  | _ c ih => exact fun S p1 F E1 sz h1 h2 h3 h4 h5 h6 h7 => c_X2_comesAgain_s hZ hfl hz sz hmk σ n0 hn B hgo c ih S p1 F E1 h1 h2 h3 h4 h5 h6 h7
