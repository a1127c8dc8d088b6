/-! cycles by leaving out -/
set_option maxRecDepth 100000
theorem clr_nat {v k : Nat} (hv : v < 2 ^ 31) (hk : k < 31) (hb : v / 2 ^ k % 2 = 1) : v &&& (2 ^ k ^^^ (2 ^ 32 - 1)) = v ^^^ 2 ^ k := by
  apply Nat.eq_of_testBit_eq
  intro i
  rw [Nat.testBit_and, Nat.testBit_xor, Nat.testBit_xor, Nat.testBit_two_pow_sub_one, Nat.testBit_two_pow]
  have h1 : v.testBit k = true := by rw [Nat.testBit_eq_decide_div_mod_eq]; exact decide_eq_true hb
  by_cases e : k = i
  · subst e
    rw [h1]
    have : k < 32 := by omega
    simp [this]
  · by_cases h32 : i < 32
    · simp [e, h32]
    · have h2 : v.testBit i = false := Nat.testBit_lt_two_pow (Nat.lt_of_lt_of_le hv (Nat.pow_le_pow_right (by decide) (by omega)))
      simp [e, h2]
section
variable {p : Program} {l : Launch} {e : Env} {R : Room} {s : State} {m : MethodId} {args : Array Value} {below : List Frame} {meth : Method} {c : Code} {H : Heap} {locs : List Loc} {cells slots : Nat} {Q : State → Prop}
variable {cc : ByteArray} {pc : Nat} {ls : Array Slot} {rest : List Value} {own : String} {nL : Nat} {ret : Option FieldType}
/-- a bit is taken away: v & ~(1 << k) -/
theorem z_clr (hX : zX p s m args meth c cc own nL ret) (v k : Nat) (hv : v < 2 ^ 31) (hk : k < 31) (hbit : v / 2 ^ k % 2 = 1) (d0 : decode cc pc = .ok (.iconst (-1), 1)) (d1 : decode cc (pc + 1) = .ok (.ixor, 1)) (d2 : decode cc (pc + 2) = .ok (.iand, 1)) (kk : W p l e R s m args below meth c H locs cells slots Q (F0 m (pc + 3) ls (.int (iI ((v ^^^ 2 ^ k : Nat) : Int)) :: rest))) : W p l e R s m args below meth c H locs cells slots Q (F0 m pc ls (.int (iI ((2 ^ k : Nat) : Int)) :: .int (iI (v : Int)) :: rest)) := by
  refine z_iconst hX d0 ?_
  refine lv_ixor hX.1 hX.2.1 d1 ?_
  refine lv_iand hX.1 hX.2.1 d2 ?_
  have hk2 : 2 ^ k < 2 ^ 31 := Nat.pow_lt_pow_right (by decide) hk
  have e : iI (v : Int) &&& (iI ((2 ^ k : Nat) : Int) ^^^ iI (-1)) = iI ((v ^^^ 2 ^ k : Nat) : Int) := by
    rw [iI_nat, iI_nat, iI_nat]
    show Int32.ofNat v &&& (Int32.ofNat (2 ^ k) ^^^ iI (-1)) = Int32.ofNat (v ^^^ 2 ^ k)
    apply Int32.toBitVec.inj
    rw [Int32.toBitVec_and, Int32.toBitVec_xor]
    apply BitVec.eq_of_toNat_eq
    rw [BitVec.toNat_and, BitVec.toNat_xor]
    have h1 : (iI (-1)).toBitVec.toNat = 2 ^ 32 - 1 := by decide
    rw [h1]
    simp only [Int32.toBitVec_ofNat', BitVec.toNat_ofNat]
    rw [Nat.mod_eq_of_lt (by omega), Nat.mod_eq_of_lt (by omega), Nat.mod_eq_of_lt (Nat.lt_trans (Nat.xor_lt_two_pow hv hk2) (by decide))]
    exact clr_nat hv hk hbit
  rw [e]; exact kk
end
abbrev bitP (L p : Nat) : Prop := L / 2 ^ p % 2 = 1
theorem bit_tb {L p : Nat} : bitP L p ↔ L.testBit p = true := by
  rw [Nat.testBit_eq_decide_div_mod_eq]; simp
theorem bit_x {L k i : Nat} (h : i ≠ k) : bitP (L ^^^ 2 ^ k) i ↔ bitP L i := by
  rw [bit_tb, bit_tb, Nat.testBit_xor, Nat.testBit_two_pow]
  simp [Ne.symm h]
theorem bit_full {n p : Nat} : bitP (2 ^ n - 1) p ↔ p < n := by
  rw [bit_tb, Nat.testBit_two_pow_sub_one]; simp
theorem bit_in {L n p : Nat} (hL : L < 2 ^ n) (h : bitP L p) : p < n := by
  by_cases e : p < n
  · exact e
  · rw [bit_tb, Nat.testBit_lt_two_pow (Nat.lt_of_lt_of_le hL (Nat.pow_le_pow_right (by decide) (by omega)))] at h
    cases h
/-- every cycle's parties are in L -/
def cycIn (g : Nat → Int) (n L : Nat) : Prop := ∀ q, cOk g n q → ∀ k, k < q.length → bitP L (qk q k)
theorem cycIn_x {g : Nat → Int} {n L i : Nat} (h : cycIn g n L) (hn : n ≤ 7) (hi : ¬ owX g n L i) : cycIn g n (L ^^^ 2 ^ i) := by
  intro q hq k hk
  have hne : qk q k ≠ i := fun e => by
    apply hi
    have hlen : 0 < q.length := by omega
    have hj : (k + (q.length - 1)) % q.length < q.length := Nat.mod_lt _ hlen
    have hjk : ((k + (q.length - 1)) % q.length + 1) % q.length = k := by
      rw [Nat.mod_add_mod, show k + (q.length - 1) + 1 = k + q.length by omega, Nat.add_mod_right, Nat.mod_eq_of_lt hk]
    have he := cOk_edge hq hj
    have hb := h q hq _ hj
    obtain ⟨a, b, -, -, ha, -, -, h9, -⟩ := eI_lt hq hn hj
    refine ⟨qk q ((k + (q.length - 1)) % q.length), by omega, hb, ?_⟩
    unfold eI at he
    rw [hjk, e] at he
    exact he
  exact (bit_x hne).mpr (h q hq k hk)
/-- what is left when nobody can be left out -/
def leftP (g : Nat → Int) (n L : Nat) : Prop := L < 2 ^ n ∧ cycIn g n L ∧ ∀ p, p < n → bitP L p → owX g n L p
set_option maxHeartbeats 4000000 in
theorem c_X2_hasCycleByLeavingOut {l : Launch} {D : va_G} {Z : zZ} {cA : Nat → ClassId} (hZ : zOk Z) (sz : Nat) {a : Nat → Nat} (σ : zT) (n0 : Nat) (hn : σ 0 0 = n0 ∧ n0 ≤ 7) (B : Int) (hgo : gOk (σ 0) B) : Met l yX2_hasCycleByLeavingOut (ws_ yX2_hasCycleByLeavingOut cX2_hasCycleByLeavingOut 4 (some .boolean)) { frames := 1, cells := 0, slots := 0, locals := 23 } (wPc D vwCl (tyL cA) Z w0 (hW a cA σ) [.ref (a 0)] sz zO) (wQi D vwCl w0 (fun r _ => ∃ L, r = iI (bI (L ≠ 0)) ∧ leftP (σ 0) n0 L) sz) 0 0 (wA w0 sz) := by
  refine w_met (cc := cX2_hasCycleByLeavingOut) (maxL := 4) (ret := some .boolean) (own := RX2) (by decide) rfl rfl w0_ok (Nat.le_of_ble_eq_true rfl) ?_
  intro p e s m below meth c hX hsz hK hP hD hA hE hS hR ls hl
  have hx := hX.1
  have hb := hX.2.1
  have hl : lv_has ls 4 [(0, .ref (a 0))] := hl
  have h1n : 0 < 2 ^ n0 := Nat.two_pow_pos n0
  refine z_iconst hX dX2_hasCycleByLeavingOut_0 ?_
  refine lv_aload_n hx hb dX2_hasCycleByLeavingOut_1 rfl (lv_at hl 0 rfl) ?_
  refine h_get hX hK (hR _ _ hS) 3 (by decide) q172 rfl dX2_hasCycleByLeavingOut_2 ?_
  refine z_top (y := ↑n0) (hn.1) ?_
  refine z_ishl1 hX n0 ((by omega)) dX2_hasCycleByLeavingOut_5 ?_
  refine z_iconst hX dX2_hasCycleByLeavingOut_6 ?_
  refine z_isub hX dX2_hasCycleByLeavingOut_7 ?_
  refine z_top (y := ((2 ^ n0 - 1 : Nat) : Int)) (by have := Nat.two_pow_pos n0; omega) ?_
  refine lv_istore_n (lv' := [(1, .int (iI (((2 ^ n0 - 1 : Nat) : Int)))), (0, .ref (a 0))]) hx hb dX2_hasCycleByLeavingOut_8 rfl hl (by decide) rfl (fun ls hl => ?_)
  refine z_iconst hX dX2_hasCycleByLeavingOut_9 ?_
  refine lv_istore_n (lv' := [(2, .int (iI (1))), (1, .int (iI (((2 ^ n0 - 1 : Nat) : Int)))), (0, .ref (a 0))]) hx hb dX2_hasCycleByLeavingOut_10 rfl hl (by decide) rfl (fun ls hl => ?_)
  have L11 : ∀ (n : Nat) (L : Nat) (z : Int), (2 * L + z < n) → (L < 2 ^ n0 ∧ cycIn (σ 0) n0 L) → (z = 0 ∨ z = 1) → (z = 0 → ∀ p, p < n0 → bitP L p → owX (σ 0) n0 L p) → ∀ (H : Heap) (locs : List Loc) (ls : Array Slot), va_P D vwCl (w0 zO) H → va_S (wA w0 sz) s.heap H locs → lv_has ls 4 [(0, .ref (a 0)), (1, .int (iI (↑L))), (2, .int (iI (z)))] → W p l e (headSpec (ws_ yX2_hasCycleByLeavingOut cX2_hasCycleByLeavingOut 4 (some .boolean)) { frames := 1, cells := 0, slots := 0, locals := 23 }).room s m ([.ref (a 0)] : List Value).toArray below meth c H locs 0 0 (MQ below (wQi D vwCl w0 (fun r _ => ∃ L, r = iI (bI (L ≠ 0)) ∧ leftP (σ 0) n0 L) sz) ([.ref (a 0)] : List Value).toArray s 0 0 (wA w0 sz)) (F0 m 11 ls []) := by
    intro n
    induction n with
    | zero =>
      intro L z hf hL hz1 hex H locs ls hP hS hl
      exact absurd hf (by omega)
    | succ n ih11 =>
      intro L z hf hL hz1 hex H locs ls hP hS hl
      have h128 : 2 ^ n0 ≤ 128 := Nat.pow_le_pow_right (by decide) hn.2
      obtain ⟨N9, hN9⟩ : ∃ N9, N9 = n := ⟨n, rfl⟩
      have hf11 : 2 * (L : Int) + z < (N9 : Int) + 1 := by omega
      refine W.eq (g2 := F0 m 11 ls []) rfl ?_
      refine lv_iload_n hx hb dX2_hasCycleByLeavingOut_11 rfl (lv_at hl 2 rfl) ?_
      refine z_if_eq (tgt := 64) hX (by omega) dX2_hasCycleByLeavingOut_12 (by decide) (fun c_12 => ?_) (fun c_12 => ?_)
      · skip
        refine lv_iload_n hx hb dX2_hasCycleByLeavingOut_64 rfl (lv_at hl 1 rfl) ?_
        refine z_if_eq (tgt := 72) hX (by have := hL.1; omega) dX2_hasCycleByLeavingOut_65 (by decide) (fun c_65 => ?_) (fun c_65 => ?_)
        · skip
          refine z_iconst hX dX2_hasCycleByLeavingOut_72 ?_
          exact w_zret hX hP hS (by decide) (⟨L, by rw [bI_f (fun h => h (by omega))], hL.1, hL.2, hex (by omega)⟩) dX2_hasCycleByLeavingOut_73
        · skip
          refine z_iconst hX dX2_hasCycleByLeavingOut_68 ?_
          refine lv_goto (tgt := 73) hx hb dX2_hasCycleByLeavingOut_69 (by decide) ?_
          exact w_zret hX hP hS (by decide) (⟨L, by rw [bI_t (by omega)], hL.1, hL.2, hex (by omega)⟩) dX2_hasCycleByLeavingOut_73
      · skip
        refine z_iconst hX dX2_hasCycleByLeavingOut_15 ?_
        refine W.eq (g2 := F0 m 16 ls [.int (iI (0))]) rfl ?_
        refine lv_istore_n (lv' := [(2, .int (iI (0))), (0, .ref (a 0)), (1, .int (iI (↑L)))]) hx hb dX2_hasCycleByLeavingOut_16 rfl hl (by decide) rfl (fun ls hl => ?_)
        refine z_iconst hX dX2_hasCycleByLeavingOut_17 ?_
        refine z_top (y := ↑(0 : Nat)) (rfl) ?_
        refine lv_istore_n (lv' := [(3, .int (iI (↑(0 : Nat)))), (2, .int (iI (0))), (0, .ref (a 0)), (1, .int (iI (↑L)))]) hx hb dX2_hasCycleByLeavingOut_18 rfl hl (by decide) rfl (fun ls hl => ?_)
        have L19 : ∀ (n : Nat) (i M : Nat) (z2 : Int), (n0 < i + n) → (i ≤ n0) → ((M < 2 ^ n0 ∧ cycIn (σ 0) n0 M) ∧ M ≤ L ∧ (z2 = 1 → M < L) ∧ (z2 = 0 → M = L ∧ ∀ p, p < i → bitP M p → owX (σ 0) n0 M p)) → (z2 = 0 ∨ z2 = 1) → ∀ (H : Heap) (locs : List Loc) (ls : Array Slot), va_P D vwCl (w0 zO) H → va_S (wA w0 sz) s.heap H locs → lv_has ls 4 [(0, .ref (a 0)), (1, .int (iI (↑M))), (2, .int (iI (z2))), (3, .int (iI (↑i)))] → W p l e (headSpec (ws_ yX2_hasCycleByLeavingOut cX2_hasCycleByLeavingOut 4 (some .boolean)) { frames := 1, cells := 0, slots := 0, locals := 23 }).room s m ([.ref (a 0)] : List Value).toArray below meth c H locs 0 0 (MQ below (wQi D vwCl w0 (fun r _ => ∃ L, r = iI (bI (L ≠ 0)) ∧ leftP (σ 0) n0 L) sz) ([.ref (a 0)] : List Value).toArray s 0 0 (wA w0 sz)) (F0 m 19 ls []) := by
          intro n
          induction n with
          | zero =>
            intro i M z2 hf hi hM hz2 H locs ls hP hS hl
            exact absurd hf (by omega)
          | succ n ih19 =>
            intro i M z2 hf hi hM hz2 H locs ls hP hS hl
            refine lv_iload_n hx hb dX2_hasCycleByLeavingOut_19 rfl (lv_at hl 3 rfl) ?_
            refine lv_aload_n hx hb dX2_hasCycleByLeavingOut_20 rfl (lv_at hl 0 rfl) ?_
            refine h_get hX hK (hR _ _ hS) 3 (by decide) q172 rfl dX2_hasCycleByLeavingOut_21 ?_
            refine z_icmp_ge (tgt := 61) hX (by omega) dX2_hasCycleByLeavingOut_24 (by decide) (fun c_24 => ?_) (fun c_24 => ?_)
            · skip
              refine lv_goto (tgt := 11) hx hb dX2_hasCycleByLeavingOut_61 (by decide) ?_
              have hm1 := hM.2.1
              have hm2 := hM.2.2.1
              exact ih11 (M) (z2) (hz2.elim (fun h => by omega) (fun h => by have := hm2 h; omega)) (⟨hM.1.1, hM.1.2⟩) (hz2) (fun h p9 hp9 hb9 => (hM.2.2.2 h).2 p9 (by omega) hb9) _ _ _ hP hS (lv_sub hl [0, 1, 2] rfl)
            · skip
              refine lv_iload_n hx hb dX2_hasCycleByLeavingOut_27 rfl (lv_at hl 1 rfl) ?_
              refine lv_iload_n hx hb dX2_hasCycleByLeavingOut_28 rfl (lv_at hl 3 rfl) ?_
              refine W.eq (g2 := F0 m 29 ls [.int (iI (↑i)), .int (iI (↑M))]) rfl ?_
              refine z_ibit hX (M) i (by have := hM.1.1; omega) (by omega) dX2_hasCycleByLeavingOut_29 ?_
              refine z_iconst hX dX2_hasCycleByLeavingOut_30 ?_
              refine z_iand1 hX ((M / 2 ^ i)) ((Nat.lt_of_le_of_lt (Nat.div_le_self _ _) (by have := hM.1.1; omega))) dX2_hasCycleByLeavingOut_31 ?_
              refine z_iconst hX dX2_hasCycleByLeavingOut_32 ?_
              refine z_icmp_ne (tgt := 55) hX (by omega) dX2_hasCycleByLeavingOut_33 (by decide) (fun c_33 => ?_) (fun c_33 => ?_)
              · skip
                refine z_iinc (y := ↑(i + 1)) (lv' := [(3, .int (iI (↑(i + 1)))), (0, .ref (a 0)), (1, .int (iI (↑M))), (2, .int (iI (z2)))]) hX dX2_hasCycleByLeavingOut_55 hl (k := 3) rfl (by omega) (by decide) rfl (fun ls hl => ?_)
                refine lv_goto (tgt := 19) hx hb dX2_hasCycleByLeavingOut_58 (by decide) ?_
                exact ih19 (i + 1) (M) (z2) (by omega) (by omega) (⟨hM.1, hM.2.1, hM.2.2.1, fun h => ⟨(hM.2.2.2 h).1, fun p9 hp9 hb9 => by
                      by_cases e9 : p9 = i
                      · subst e9; first | exact c_42 | exact absurd hb9 (by omega)
                      · exact (hM.2.2.2 h).2 p9 (by omega) hb9⟩⟩) (hz2) _ _ _ hP hS (lv_sub hl [1, 2, 3, 0] rfl)
              · skip
                refine lv_aload_n hx hb dX2_hasCycleByLeavingOut_36 rfl (lv_at hl 0 rfl) ?_
                refine lv_iload_n hx hb dX2_hasCycleByLeavingOut_37 rfl (lv_at hl 3 rfl) ?_
                refine lv_iload_n hx hb dX2_hasCycleByLeavingOut_38 rfl (lv_at hl 1 rfl) ?_
                refine W.eq (g2 := F0 m 39 ls [.int (iI (↑M)), .int (iI (↑i)), .ref (a 0)]) rfl ?_
                refine r_calli hA hP hS (va_runV (As := [.int (iI (↑i)), .int (iI (↑M))]) (rest := []) hX.fix (c_X2_isOwed hZ _ σ n0 hn B hgo i _ ⟨rfl, by omega⟩ M _ ⟨rfl, by have := hM.1.1; omega⟩) (cwV 2 hX.hts (lw_V q876 q878 qs17 q81 q879) rfl rfl rfl (by decide +kernel) ⟨Nat.le_of_ble_eq_true rfl, Nat.le_of_ble_eq_true rfl⟩) (r_preV hZ hK hA hE (hR _ _ hS) hS (va_recv hK (hR _ _ hS) (ci := 1) (q0 := 0) vw_X2 hW_0)) rfl rfl hl.1 rfl (lv_room (Nat.le_of_ble_eq_true rfl)) dX2_hasCycleByLeavingOut_39 ⟨Nat.le_of_ble_eq_true rfl, Nat.le_of_ble_eq_true rfl⟩) (fun r y H locs hq hP hS => ?_)
                rw [show r = iI (bI (owX (σ 0) n0 M i)) from hq]
                refine z_if_neB (tgt := 55) hX dX2_hasCycleByLeavingOut_42 (by decide) (fun c_42 => ?_) (fun c_42 => ?_)
                · skip
                  refine z_iinc (y := ↑(i + 1)) (lv' := [(3, .int (iI (↑(i + 1)))), (0, .ref (a 0)), (1, .int (iI (↑M))), (2, .int (iI (z2)))]) hX dX2_hasCycleByLeavingOut_55 hl (k := 3) rfl (by omega) (by decide) rfl (fun ls hl => ?_)
                  refine lv_goto (tgt := 19) hx hb dX2_hasCycleByLeavingOut_58 (by decide) ?_
                  exact ih19 (i + 1) (M) (z2) (by omega) (by omega) (⟨hM.1, hM.2.1, hM.2.2.1, fun h => ⟨(hM.2.2.2 h).1, fun p9 hp9 hb9 => by
                        by_cases e9 : p9 = i
                        · subst e9; first | exact c_42 | exact absurd hb9 (by omega)
                        · exact (hM.2.2.2 h).2 p9 (by omega) hb9⟩⟩) (hz2) _ _ _ hP hS (lv_sub hl [1, 2, 3, 0] rfl)
                · skip
                  refine lv_iload_n hx hb dX2_hasCycleByLeavingOut_45 rfl (lv_at hl 1 rfl) ?_
                  refine z_iconst hX dX2_hasCycleByLeavingOut_46 ?_
                  refine lv_iload_n hx hb dX2_hasCycleByLeavingOut_47 rfl (lv_at hl 3 rfl) ?_
                  refine z_ishl1 hX i ((by omega)) dX2_hasCycleByLeavingOut_48 ?_
                  refine z_clr hX M i (by have := hM.1.1; omega) (by omega) (by omega) dX2_hasCycleByLeavingOut_49 dX2_hasCycleByLeavingOut_50 dX2_hasCycleByLeavingOut_51 ?_
                  refine lv_istore_n (lv' := [(1, .int (iI (((M ^^^ 2 ^ i : Nat) : Int)))), (0, .ref (a 0)), (2, .int (iI (z2))), (3, .int (iI (↑i)))]) hx hb dX2_hasCycleByLeavingOut_52 rfl hl (by decide) rfl (fun ls hl => ?_)
                  refine z_iconst hX dX2_hasCycleByLeavingOut_53 ?_
                  refine W.eq (g2 := F0 m 54 ls [.int (iI (1))]) rfl ?_
                  refine lv_istore_n (lv' := [(2, .int (iI (1))), (1, .int (iI (((M ^^^ 2 ^ i : Nat) : Int)))), (0, .ref (a 0)), (3, .int (iI (↑i)))]) hx hb dX2_hasCycleByLeavingOut_54 rfl hl (by decide) rfl (fun ls hl => ?_)
                  refine z_iinc (y := ↑(i + 1)) (lv' := [(3, .int (iI (↑(i + 1)))), (2, .int (iI (1))), (1, .int (iI (((M ^^^ 2 ^ i : Nat) : Int)))), (0, .ref (a 0))]) hX dX2_hasCycleByLeavingOut_55 hl (k := 3) rfl (by omega) (by decide) rfl (fun ls hl => ?_)
                  refine lv_goto (tgt := 19) hx hb dX2_hasCycleByLeavingOut_58 (by decide) ?_
                  exact ih19 (i + 1) (M ^^^ 2 ^ i) (1) (by omega) (by omega) (by
                        have hlt := xor_lt (s := M) (k := i) (by omega) (by omega) (by omega)
                        exact ⟨⟨by omega, cycIn_x hM.1.2 hn.2 c_42⟩, by omega, fun _ => by omega, fun h => absurd h (by decide)⟩) (Or.inr rfl) _ _ _ hP hS (lv_sub hl [3, 2, 1, 0] rfl)
        exact L19 (n0 + 1) (0) (L) (0) (by omega) (by omega) (⟨hL, Nat.le_refl _, fun h => absurd h (by decide), fun _ => ⟨rfl, fun p hp => absurd hp (by omega)⟩⟩) (Or.inl rfl) _ _ _ hP hS (lv_sub hl [2, 3, 1, 0] rfl)
  exact L11 (2 * (2 ^ n0 - 1) + 2) (2 ^ n0 - 1) (1) (by omega) (⟨by omega, fun q hq k hk => bit_full.mpr (hq.1.2.1 k hk)⟩) (Or.inr rfl) (fun h => absurd h (by decide)) _ _ _ hP hS (lv_sub hl [2, 1, 0] rfl)
