/-! running a program, in plain terms -/
set_option maxRecDepth 100000
theorem opF_f {k : Nat} {a b d C z : Int} {g G : Nat → Int} (h : opF k a b d g = (C, G, z)) : (0 ≤ C ∧ C ≤ 4) ∧ (C ≠ 0 → G = g ∧ z = 0) := by
  have key : ∀ (X V : Int) (S : Nat → Int), (0 ≤ X ∧ X ≤ 4) → (if X ≠ 0 then (X, g, 0) else (0, S, V)) = (C, G, z) → (0 ≤ C ∧ C ≤ 4) ∧ (C ≠ 0 → G = g ∧ z = 0) := by
    intro X V S hX e
    split at e
    · cases e; exact ⟨hX, fun _ => ⟨rfl, rfl⟩⟩
    · cases e; exact ⟨by omega, fun q => absurd rfl q⟩
  have k0 : ∀ (V : Int) (S : Nat → Int), ((0 : Int), S, V) = (C, G, z) → (0 ≤ C ∧ C ≤ 4) ∧ (C ≠ 0 → G = g ∧ z = 0) := by
    intro V S e
    cases e; exact ⟨by omega, fun q => absurd rfl q⟩
  unfold opF at h
  split at h
  · exact key _ _ _ (by unfold cAdd; split <;> (try split) <;> omega) h
  split at h
  · exact key _ _ _ (by unfold cDep; split <;> (try split) <;> omega) h
  split at h
  · exact key _ _ _ (by unfold cOwe; split <;> (try split) <;> (try split) <;> omega) h
  split at h
  · exact key _ _ _ (by unfold cPay; split <;> (try split) <;> (try split) <;> (try split) <;> omega) h
  split at h
  · exact key _ _ _ (by unfold cPair; split <;> (try split) <;> omega) h
  split at h
  · cases hq : lookF g (g 0).toNat with
    | none => rw [hq] at h; cases h; exact ⟨by omega, fun _ => ⟨rfl, rfl⟩⟩
    | some q => rw [hq] at h; exact k0 _ _ h
  split at h
  · exact k0 _ _ h
  split at h
  · exact key _ _ _ (by unfold cDecl; split <;> (try split) <;> omega) h
  split at h
  · exact k0 _ _ h
  · exact k0 _ _ h
/-- the commands one by one: how many were done, the refusal, the last answer, the row -/
def rnF (t : Nat → Int) (tm : Nat) : Nat → Nat → Int → (Nat → Int) → Nat × Int × Int × (Nat → Int)
  | 0, d, got, g => (d, 0, got, g)
  | n + 1, d, got, g => if d < tm then (if (opF (t (4 * d)).toNat (t (4 * d + 1)) (t (4 * d + 2)) (t (4 * d + 3)) g).1 = 0 then rnF t tm n (d + 1) (opF (t (4 * d)).toNat (t (4 * d + 1)) (t (4 * d + 2)) (t (4 * d + 3)) g).2.2 (opF (t (4 * d)).toNat (t (4 * d + 1)) (t (4 * d + 2)) (t (4 * d + 3)) g).2.1 else (d, (opF (t (4 * d)).toNat (t (4 * d + 1)) (t (4 * d + 2)) (t (4 * d + 3)) g).1, (opF (t (4 * d)).toNat (t (4 * d + 1)) (t (4 * d + 2)) (t (4 * d + 3)) g).2.2, (opF (t (4 * d)).toNat (t (4 * d + 1)) (t (4 * d + 2)) (t (4 * d + 3)) g).2.1)) else (d, 0, got, g)
theorem rnF_e {t : Nat → Int} {tm n d : Nat} {got : Int} {g : Nat → Int} (h : ¬ d < tm) : rnF t tm n d got g = (d, 0, got, g) := by
  cases n with
  | zero => rfl
  | succ n => exact if_neg h
theorem rnF_s {t : Nat → Int} {tm n d : Nat} {got z C : Int} {g G : Nat → Int} (h : d < tm) (ho : opF (t (4 * d)).toNat (t (4 * d + 1)) (t (4 * d + 2)) (t (4 * d + 3)) g = (C, G, z)) : rnF t tm (n + 1) d got g = if C = 0 then rnF t tm n (d + 1) z G else (d, C, z, G) := by
  rw [rnF, if_pos h, ho]
theorem rn_step {σb τ y : zT} {n6 k : Nat} {a b d z : Int} {G : Nat → Int} (hE : xE scr τ (uA (sA σb 0 G) 8 0 0)) (h7 : σb 7 0 = 1) (hq : opR τ n6 k a b d z y) : ∃ C1 G1, opF k a b d G = (C1, G1, z) ∧ xE scr y (uA (sA σb 0 G1) 8 0 C1) := by
  obtain ⟨hz, hy⟩ := hq
  have h0 : τ 0 = G := by rw [hE 0 (by decide), uA_sA, sA_i (by decide), sA_j]
  have h7' : τ 7 0 ≠ 0 := by rw [hE 7 (by decide), uA_nj (by decide), sA_i (by decide), h7]; decide
  rw [h0] at hz hy
  cases ho : opF k a b d G with
  | mk C1 q =>
    obtain ⟨G1, z1⟩ := q
    rw [ho] at hz hy
    subst hz
    refine ⟨C1, G1, rfl, xE_tr hy ?_⟩
    unfold afF
    by_cases e : C1 = 0
    · subst e
      rw [if_neg (show ¬ (0 : Int) ≠ 0 by decide), ← kF_w h7', show uA (sA σb 0 G1) 8 0 0 = sA (uA (uA (sA σb 0 G) 8 0 0) 8 0 0) 0 G1 from by rw [uA_uA, ← uA_out (by decide), sA_sA]]
      exact xE_s (xE_u hE (by decide))
    · rw [if_pos e, (((opF_f ho).2 e).1 : G1 = G), ← uA_uA (x := sA σb 0 G) (v := 0) (u := C1)]
      exact xE_u hE (by decide)
abbrev scr2 : List Nat := [3, 4, 15, 16, 17, 18, 19, 20, 21]
theorem xE_w {y y' : zT} (h : xE scr y y') : xE scr2 y y' := fun i hi => h i (fun e => hi (by revert e; simp only [scr, scr2, List.mem_cons, List.not_mem_nil, or_false]; omega))
theorem xE_p {x y : zT} {a : Nat} {t : Nat → Int} (h : xE scr2 x y) : xE scr2 (pS x a t) y := by
  unfold pS
  exact xE_o (by rw [uA_sA]; exact xE_o h (by decide)) (by decide)
/-- what run answers and leaves -/
def runR (x : zT) (n6 len : Nat) : Int → zT → Prop := fun z y => ∃ (b : Bool) (a : Nat) (t : Nat → Int) (tm : Nat), pgmF (x 9) len 16 0 (0, x 20) = ((b, a, t), tm) ∧ rgT (y 20) ∧ (b = false → z = 0 ∧ xE scr2 y (uA (uA (uA x 11 0 a) 10 0 0) 8 0 1)) ∧ (b = true → ∃ d C got G, rnF t tm 16 0 0 (x 0) = (d, C, got, G) ∧ (C ≠ 0 → z = 0 ∧ xE scr2 y (uA (uA (uA x 10 0 0) 12 0 (d : Nat)) 8 0 2)) ∧ (C = 0 → z = (tm : Nat) ∧ xE scr2 y (sA (kF 0 (uA x 10 0 0) n6) 0 G)))
/- what lies beyond the row is left -/
theorem sMov_hi {g : Nat → Int} {d k i : Nat} {v : Int} (hd : d < 7) (hk : k < 7) (hi : 61 ≤ i) : sMov g d k v i = g i := by
  unfold sMov gA; rw [gU_ne (by omega), gU_ne (by omega), gU_ne (by omega)]
theorem sNets_hi {g : Nat → Int} {n : Nat} {q : List Nat} (h : cOk g n q) (hn : n ≤ 7) {i : Nat} (hi : 61 ≤ i) : sNets g q i = g i := by
  rcases sNets_at h hn (i := i) (by omega) with ⟨j, h1, h2, _⟩ | h1
  · obtain ⟨a, b, h3, h4, -, -, h5, -⟩ := eI_lt h hn h1
    omega
  · exact h1.2
theorem naF_hi {n : Nat} (hn : n ≤ 7) : ∀ (F : Nat) (g : Nat → Int) (k : Nat), 61 ≤ k → (naF n F g).1 k = g k := by
  intro F
  induction F with
  | zero => intro g k _; rfl
  | succ F ih =>
    intro g k hk
    cases hq : lookF g n with
    | none => rw [naF_none hq]
    | some q => rw [naF_some hq]; exact (ih _ k hk).trans (sNets_hi (lookF_ok hq) hn hk)
theorem ciF_hi {k n i : Nat} (hk : k < 7) (hn : n ≤ 7) (hi : 61 ≤ i) : ∀ (j : Nat) (a : (Nat → Int) × Int), j ≤ n → (ciF k j a).1 i = a.1 i := by
  intro j
  induction j with
  | zero => intro a _; rfl
  | succ j ih => intro a hj; exact (sMov_hi hk (by omega) hi).trans (ih a (by omega))
theorem coF_hi {n i : Nat} {g : Nat → Int} (hn : n ≤ 7) (hi : 61 ≤ i) : ∀ k, k ≤ n → (coF n g k).1 i = g i := by
  intro k
  induction k with
  | zero => intro _; rfl
  | succ k ih => intro hk; exact (ciF_hi (by omega) hn hi n _ (Nat.le_refl _)).trans (ih (by omega))
theorem opF_hi {k : Nat} {a b d B : Int} {g : Nat → Int} (h : gOk g B) {i : Nat} (hi : 61 ≤ i) : (opF k a b d g).2.1 i = g i := by
  have h1 := h.1
  unfold opF
  split
  · split
    · rfl
    · next e =>
      have e : cAdd g a = 0 := Decidable.not_not.mp e
      unfold cAdd at e
      split at e
      · omega
      · split at e
        · omega
        · show sAdd g (g 0).toNat a i = g i
          unfold sAdd; rw [gU_ne (by omega), gU_ne (by omega)]
  split
  · split
    · rfl
    · next e =>
      have e : cDep g a b = 0 := Decidable.not_not.mp e
      unfold cDep at e
      split at e
      · omega
      · next q1 =>
        have q1 : mIs g a := Decidable.not_not.mp q1
        exact gU_ne (by omega)
  split
  · split
    · rfl
    · next e =>
      have e : cOwe g a b d = 0 := Decidable.not_not.mp e
      unfold cOwe at e
      split at e
      · omega
      · next q1 =>
        have q1 : mIs g a ∧ mIs g b := Decidable.not_not.mp q1
        exact gU_ne (by omega)
  split
  · split
    · rfl
    · next e =>
      have e : cPay g a b d = 0 := Decidable.not_not.mp e
      unfold cPay at e
      split at e
      · omega
      · next q1 =>
        have q1 : mIs g a ∧ mIs g b := Decidable.not_not.mp q1
        exact sMov_hi (by omega) (by omega) hi
  split
  · split
    · rfl
    · next e =>
      have e : cPair g a b = 0 := Decidable.not_not.mp e
      unfold cPair at e
      split at e
      · omega
      · next q1 =>
        have q1 : mIs g a ∧ mIs g b := Decidable.not_not.mp q1
        show sPair g a.toNat b.toNat _ i = g i
        unfold sPair gA; rw [gU_ne (by omega), gU_ne (by omega), gU_ne (by omega)]
  split
  · cases hq : lookF g (g 0).toNat with
    | none => rfl
    | some q => exact sNets_hi (lookF_ok hq) (by omega) hi
  split
  · exact naF_hi (by omega) _ _ _ hi
  split
  · split
    · rfl
    · next e =>
      have e : cDecl g a = 0 := Decidable.not_not.mp e
      unfold cDecl at e
      split at e
      · omega
      · next q1 =>
        have q1 : mIs g a := Decidable.not_not.mp q1
        exact sFall_hi (by omega) hi
  split
  · exact faF_hi (by omega) _ _ _ hi
  · refine (coF_hi (by omega) hi _ (Nat.le_refl _)).trans (gU_ne (by omega))
/-- after a program that stops: what stood before comes back -/
theorem run_back {σb τ : zT} {C : Int} {g G : Nat → Int} {d : Nat} (hE : xE scr τ (uA (sA σb 0 G) 8 0 C)) (h3 : ∀ k, k < 61 → σb 3 k = g k) (hG : ∀ k, 61 ≤ k → G k = g k) : xE scr2 (uA (uA (cpF (uA τ 7 0 0) 3 0 0 0 61) 12 0 (d : Int)) 8 0 2) (uA (uA (uA (sA σb 0 g) 7 0 0) 12 0 (d : Int)) 8 0 2) := by
  have e3 : τ 3 = σb 3 := by rw [hE 3 (by decide), uA_sA, sA_i (by decide), sA_i (by decide)]
  have e0 : τ 0 = G := by rw [hE 0 (by decide), uA_sA, sA_i (by decide), sA_j]
  have ec : cpF (uA τ 7 0 0) 3 0 0 0 61 = sA (uA τ 7 0 0) 0 g := by
    unfold cpF
    refine sA_f (fun k => ?_)
    by_cases hk : k < 61
    · rw [if_pos (by omega), uA_nj (by decide), e3]
      simpa using h3 k hk
    · rw [if_neg (by omega), uA_nj (by decide), e0]
      exact hG k (by omega)
  have ee : uA (uA (sA (uA (uA (sA σb 0 G) 8 0 C) 7 0 0) 0 g) 12 0 (d : Int)) 8 0 2 = uA (uA (uA (sA σb 0 g) 7 0 0) 12 0 (d : Int)) 8 0 2 := by
    funext i
    by_cases h8 : i = 8
    · subst h8; funext k; by_cases hk : k = 0 <;> simp [uA, sA, hk]
    · by_cases h12 : i = 12
      · subst h12; simp [uA, sA]
      · by_cases h0 : i = 0
        · subst h0; simp [uA, sA]
        · by_cases h7 : i = 7
          · subst h7; simp [uA, sA]
          · simp [uA, sA, h8, h12, h0, h7]
  rw [ec, ← ee]
  exact xE_u (xE_u (xE_s (xE_u (xE_w hE) (by decide))) (by decide)) (by decide)
theorem rgT_of {t1 t : Nat → Int} (h : t = t1) (hr : rgT t1) : rgT t := by rw [h]; exact hr
theorem run_t1 {σ σb : zT} {d : Nat} (h7 : σ 7 0 = 0) (hb0 : σb 0 = σ 0) (hbx : xE scr2 σb (uA (uA (uA σ 10 0 0) 8 0 0) 7 0 1)) : xE scr2 (uA (uA (uA (sA σb 0 (σ 0)) 7 0 0) 12 0 (d : Int)) 8 0 2) (uA (uA (uA σ 10 0 0) 12 0 (d : Int)) 8 0 2) := by
  rw [← hb0, sA_self]
  have ee : uA (uA (uA (uA (uA (uA σ 10 0 0) 8 0 0) 7 0 1) 7 0 0) 12 0 (d : Int)) 8 0 2 = uA (uA (uA σ 10 0 0) 12 0 (d : Int)) 8 0 2 := by
    funext i
    by_cases h8 : i = 8
    · subst h8; funext k; by_cases hk : k = 0 <;> simp [uA, hk]
    · by_cases h12 : i = 12
      · subst h12; simp [uA]
      · by_cases e7 : i = 7
        · subst e7; funext k; by_cases hk : k = 0
          · subst hk; simp [uA, h7]
          · simp [uA, hk]
        · simp [uA, h8, h12, e7]
  rw [← ee]
  exact xE_u (xE_u (xE_u hbx (by decide)) (by decide)) (by decide)
theorem kR1 {X : zT} {F : Nat → Int} {v : Int} : (uA (sA X 1 F) 6 0 v) 1 = F := by rw [uA_sA, sA_i (by decide), sA_j]
theorem run_t2 {σ σb τ : zT} {G : Nat → Int} {n6 : Nat} (h7 : σ 7 0 = 0) (hE : xE scr τ (uA (sA σb 0 G) 8 0 0)) (hb3 : ∀ k, k < 61 → σb 3 k = σ 0 k) (hbx : xE scr2 σb (uA (uA (uA σ 10 0 0) 8 0 0) 7 0 1)) : xE scr2 (kF 3 (uA τ 7 0 0) n6) (sA (kF 0 (uA σ 10 0 0) n6) 0 G) := by
  have e3 : τ 3 = σb 3 := by rw [hE 3 (by decide), uA_sA, sA_i (by decide), sA_i (by decide)]
  have hall : ∀ i, i ∉ scr2 → τ i = uA (sA (uA (uA (uA σ 10 0 0) 8 0 0) 7 0 1) 0 G) 8 0 0 i := fun i hi => by
    have h1 := xE_w hE i hi
    rw [h1]
    exact xE_u (xE_s hbx) (by decide) i hi
  unfold kF
  rw [if_pos (uA_eq _ _ _ _), if_pos (show (uA σ 10 0 0) 7 0 = 0 by rw [uA_nj (by decide)]; exact h7)]
  intro i hi
  have hi' := hall i hi
  have h1 := hall 1 (by decide)
  by_cases e1 : i = 1
  · subst e1
    rw [sA_i (show (1 : Nat) ≠ 0 by decide), kR1, kR1]
    funext k
    have hr : uA τ 7 0 0 1 = σ 1 := by rw [uA_sA, sA_i (by decide), h1]; simp [uA, sA]
    have hs : uA σ 10 0 0 1 = σ 1 := by rw [uA_sA, sA_i (by decide)]
    have h30 : uA τ 7 0 0 3 = σb 3 := by rw [uA_sA, sA_i (by decide)]; exact e3
    have h00 : uA σ 10 0 0 0 = σ 0 := by rw [uA_sA, sA_i (by decide)]
    rw [hr, hs, h30, h00]
    generalize (if n6 = 8 then 7 else n6) = q
    by_cases hk : 61 * q ≤ k ∧ k < 61 * q + 61
    · rw [if_pos hk, if_pos hk]; exact hb3 _ (by omega)
    · rw [if_neg hk, if_neg hk]
  · by_cases e0 : i = 0
    · subst e0
      rw [uA_sA, sA_i (by decide), sA_i (by decide), uA_sA, sA_i (by decide), uA_sA, sA_i (by decide), sA_j, hi', uA_sA, sA_i (by decide), sA_j]
    · rw [sA_i e0]
      by_cases e6 : i = 6
      · subst e6
        funext k
        by_cases hk : k = 0
        · subst hk; simp [uA]
        · simp [uA, sA, hk, hi']
      · by_cases e8 : i = 8
        · subst e8
          funext k
          by_cases hk : k = 0
          · subst hk; simp [uA, sA]
          · simp [uA, sA, hk, hi']
        · by_cases e7 : i = 7
          · subst e7
            funext k
            by_cases hk : k = 0
            · subst hk; simp [uA, sA, h7]
            · simp [uA, sA, hk, hi']
          · simp [uA, sA, e1, e6, e8, e7, hi', e0]
