/-! what a command does, in plain terms: its refusal, the row after it, its answer -/
set_option maxRecDepth 100000
theorem gOk_mono {g : Nat → Int} {B C : Int} (h : gOk g B) (hC : B ≤ C) : gOk g C := by
  obtain ⟨a1, a2, a3, a4, a5, a6⟩ := h
  exact ⟨a1, fun k hk => ⟨(a2 k hk).1, by have := (a2 k hk).2; omega⟩, a3, a4, a5, by omega⟩
theorem gOk_dbt {g : Nat → Int} {B v : Int} {i j : Nat} (h : gOk g B) (hi : i < 7) (hj : j < 7) (h0 : 0 ≤ v ∧ v ≤ 999) (hz : (g 0 ≤ i ∨ g 0 ≤ j ∨ i = j) → v = 0) : gOk (gU g (12 + 7 * i + j) v) B := by
  obtain ⟨a1, a2, a3, a4, a5, a6⟩ := h
  refine ⟨by rw [gU_ne (by omega)]; exact a1, fun k hk => by rw [gU_ne (by omega)]; exact a2 k hk, fun a b ha hb => ?_, fun a b ha hb hq => ?_, fun k hk hq => ?_, by rw [cash_oth (by omega)]; exact a6⟩
  · unfold gU; split
    · exact h0
    · exact a3 a b ha hb
  · rw [gU_ne (by omega)] at hq
    unfold gU; split
    · exact hz (by omega)
    · exact a4 a b ha hb hq
  · rw [gU_ne (by omega)] at hq ⊢
    exact a5 k hk hq
theorem gOk_csh {g : Nat → Int} {B C v : Int} {i : Nat} (h : gOk g B) (hi : i < 7) (h0 : 0 ≤ v) (hz : g 0 ≤ i → v = 0) (hS : sg (fun k => g (5 + k)) 7 - g (5 + i) + v ≤ C) : gOk (gU g (5 + i) v) C := by
  obtain ⟨a1, a2, a3, a4, a5, a6⟩ := h
  refine ⟨by rw [gU_ne (by omega)]; exact a1, gOk_cash (fun k hk => ?_) (by rw [cash_upd hi]; exact hS), fun a b ha hb => by rw [gU_ne (by omega)]; exact a3 a b ha hb, fun a b ha hb hq => by rw [gU_ne (by omega)] at hq ⊢; exact a4 a b ha hb hq, fun k hk hq => ?_, by rw [cash_upd hi]; exact hS⟩
  · unfold gU; split
    · exact h0
    · exact (a2 k hk).1
  · rw [gU_ne (by omega)] at hq
    unfold gU; split
    · exact hz (by omega)
    · exact a5 k hk hq
theorem sAdd_ok {g : Nat → Int} {B v : Int} (h : gOk g B) (h7 : g 0 ≠ 7) (h0 : 0 ≤ v ∧ v ≤ 999) : gOk (sAdd g (g 0).toNat v) (B + 999) := by
  obtain ⟨a1, a2, a3, a4, a5, a6⟩ := h
  have hn : (g 0).toNat < 7 := by omega
  have hz := a5 _ hn (by omega)
  have e0 : sAdd g (g 0).toNat v 0 = g 0 + 1 := by unfold sAdd; exact gU_eq
  have es : sg (fun k => sAdd g (g 0).toNat v (5 + k)) 7 ≤ B + 999 := by
    unfold sAdd; rw [cash_oth (by omega), cash_upd hn]; omega
  have ec : ∀ k : Nat, k < 7 → sAdd g (g 0).toNat v (5 + k) = if k = (g 0).toNat then v else g (5 + k) := by
    intro k hk
    unfold sAdd; rw [gU_ne (by omega)]; unfold gU
    split
    · rw [if_pos (by omega)]
    · rw [if_neg (by omega)]
  have ed : ∀ k : Nat, 12 ≤ k → sAdd g (g 0).toNat v k = g k := by
    intro k hk
    unfold sAdd; rw [gU_ne (by omega), gU_ne (by omega)]
  refine ⟨by rw [e0]; omega, gOk_cash (fun k hk => ?_) es, fun i j hi hj => by rw [ed _ (by omega)]; exact a3 i j hi hj, fun i j hi hj hq => ?_, fun k hk hq => ?_, es⟩
  · rw [ec k hk]; split
    · exact h0.1
    · exact (a2 k hk).1
  · rw [ed _ (by omega)]; rw [e0] at hq; exact a4 i j hi hj (by omega)
  · rw [e0] at hq; rw [ec k hk, if_neg (by omega)]; exact a5 k hk (by omega)
theorem sPair_ok {g : Nat → Int} {B v : Int} {d k : Nat} (h : gOk g B) (hd : d < 7) (hk : k < 7) (hne : d ≠ k) (h0 : 0 ≤ v) (h1 : v ≤ g (12 + 7 * d + k)) (h2 : v ≤ g (12 + 7 * k + d)) : gOk (sPair g d k v) B := by
  have b1 := h.2.2.1 d k hd hk
  have b2 := h.2.2.1 k d hk hd
  unfold sPair gA
  refine gOk_lo ?_ (by omega)
  have e : gU g (12 + 7 * d + k) (g (12 + 7 * d + k) + -v) (12 + 7 * k + d) = g (12 + 7 * k + d) := gU_ne (by omega)
  rw [e]
  refine gOk_dbt (gOk_dbt h hd hk (by omega) (fun q => ?_)) hk hd (by omega) (fun q => ?_)
  · have := h.2.2.2.1 d k hd hk q; omega
  · rw [gU_ne (by omega)] at q
    have := h.2.2.2.1 k d hk hd q; omega
theorem naF_ok {n : Nat} {B : Int} (hn : n ≤ 7) : ∀ (F : Nat) (g : Nat → Int), gOk g B → gOk (naF n F g).1 B := by
  intro F
  induction F with
  | zero => intro g h; exact h
  | succ F ih =>
    intro g h
    cases hq : lookF g n with
    | none => rw [naF_none hq]; exact h
    | some q => rw [naF_some hq]; exact ih _ (sNets_ok (lookF_ok hq) hn h)
theorem faF_ok {n : Nat} {B : Int} (hB : B ≤ 2000000) (hn : n ≤ 7) : ∀ (F : Nat) (g : Nat → Int), gOk g B → gOk (faF n F g).1 B := by
  intro F
  induction F with
  | zero => intro g h; exact h
  | succ F ih =>
    intro g h
    by_cases hq : wkF g n < 0
    · rw [faF_none hq]; exact h
    · rw [faF_some hq]
      have hw := wkF_bd (g := g) n
      exact ih _ (sFall_ok h hB (by omega) (hw.2.2 (by omega))).1
theorem ciF_ok {k n : Nat} {B : Int} (hk : k < 7) (hn : n ≤ 7) : ∀ (j : Nat) (a : (Nat → Int) × Int), j ≤ n → gOk a.1 B → gOk (ciF k j a).1 B := by
  intro j
  induction j with
  | zero => intro a _ h; exact h
  | succ j ih =>
    intro a hj h
    have h2 := ih a (by omega) h
    have b1 := h2.2.1 k hk
    have b2 := h2.2.2.1 k j hk (by omega)
    exact (sMov_ok h2 hk (by omega) (by omega) (Int.min_le_left _ _) (Int.min_le_right _ _)).1
theorem coF_ok {n : Nat} {B : Int} {g : Nat → Int} (hn : n ≤ 7) (h : gOk g B) : ∀ k, k ≤ n → gOk (coF n g k).1 B := by
  intro k
  induction k with
  | zero => intro _; exact h
  | succ k ih => intro hk; exact ciF_ok (by omega) hn n _ (Nat.le_refl _) (ih (by omega))
theorem sCall_ok {n : Nat} {B : Int} {g : Nat → Int} (hn : n ≤ 7) (h : gOk g B) : gOk (sCall n g).1 B := by
  unfold sCall gA
  exact coF_ok hn (gOk_lo h (by omega)) n (Nat.le_refl _)
/-- a command: which, what it is told; its refusal, the row after it, its answer -/
def opF (k : Nat) (a b d : Int) (g : Nat → Int) : Int × (Nat → Int) × Int :=
  if k = 0 then (if cAdd g a ≠ 0 then (cAdd g a, g, 0) else (0, sAdd g (g 0).toNat a, g 0))
  else if k = 1 then (if cDep g a b ≠ 0 then (cDep g a b, g, 0) else (0, gA g (5 + a.toNat) b, g (5 + a.toNat) + b))
  else if k = 2 then (if cOwe g a b d ≠ 0 then (cOwe g a b d, g, 0) else (0, gA g (12 + 7 * a.toNat + b.toNat) d, g (12 + 7 * a.toNat + b.toNat) + d))
  else if k = 3 then (if cPay g a b d ≠ 0 then (cPay g a b d, g, 0) else (0, sMov g a.toNat b.toNat d, sMov g a.toNat b.toNat d (12 + 7 * a.toNat + b.toNat)))
  else if k = 4 then (if cPair g a b ≠ 0 then (cPair g a b, g, 0) else (0, sPair g a.toNat b.toNat (min (g (12 + 7 * a.toNat + b.toNat)) (g (12 + 7 * b.toNat + a.toNat))), min (g (12 + 7 * a.toNat + b.toNat)) (g (12 + 7 * b.toNat + a.toNat))))
  else if k = 5 then (match lookF g (g 0).toNat with | none => (1, g, 0) | some q => (0, sNets g q, smF g q q.length))
  else if k = 6 then (0, (naF (g 0).toNat ((gMu g).toNat + 1) g).1, (((naF (g 0).toNat ((gMu g).toNat + 1) g).2 : Nat) : Int))
  else if k = 7 then (if cDecl g a ≠ 0 then (cDecl g a, g, 0) else (0, sFall g a.toNat, mOb g a.toNat - g (5 + a.toNat)))
  else if k = 8 then (0, (faF (g 0).toNat ((gNo g).toNat + 1) g).1, (((faF (g 0).toNat ((gNo g).toNat + 1) g).2 : Nat) : Int))
  else (0, (sCall (g 0).toNat g).1, (sCall (g 0).toNat g).2)
theorem opF_ok {k : Nat} {a b d B : Int} {g : Nat → Int} (h : gOk g B) (hB : B ≤ 2000000) : gOk (opF k a b d g).2.1 (B + 999) := by
  have hm : gOk g (B + 999) := gOk_mono h (by omega)
  have h1 := h.1
  unfold opF
  split
  · split
    · exact hm
    · next e =>
      have e : cAdd g a = 0 := Decidable.not_not.mp e
      unfold cAdd at e
      split at e
      · omega
      · split at e
        · omega
        · exact sAdd_ok h (by assumption) (by omega)
  split
  · split
    · exact hm
    · next e =>
      have e : cDep g a b = 0 := Decidable.not_not.mp e
      unfold cDep at e
      split at e
      · omega
      · split at e
        · omega
        · next q1 q2 =>
          have q1 : mIs g a := Decidable.not_not.mp q1
          have q2 : mAm b := Decidable.not_not.mp q2
          have b1 := h.2.1 a.toNat (by omega)
          have b2 := h.2.2.2.2.2
          exact gOk_csh h (by omega) (by omega) (fun z => by omega) (by omega)
  split
  · split
    · exact hm
    · next e =>
      have e : cOwe g a b d = 0 := Decidable.not_not.mp e
      unfold cOwe at e
      split at e
      · omega
      · split at e
        · omega
        · split at e
          · omega
          · next q1 q2 q3 =>
            have q1 : mIs g a ∧ mIs g b := Decidable.not_not.mp q1
            have b1 := h.2.2.1 a.toNat b.toNat (by omega) (by omega)
            have q4 : a ≠ b ∧ mAm d := ⟨fun e => q2 (Or.inl e), Decidable.not_not.mp (fun e => q2 (Or.inr e))⟩
            exact gOk_mono (gOk_dbt h (by omega) (by omega) (by omega) (fun z => by omega)) (by omega)
  split
  · split
    · exact hm
    · next e =>
      have e : cPay g a b d = 0 := Decidable.not_not.mp e
      unfold cPay at e
      split at e
      · omega
      · split at e
        · omega
        · split at e
          · omega
          · split at e
            · omega
            · next q1 q2 q3 q4 =>
              have q1 : mIs g a ∧ mIs g b := Decidable.not_not.mp q1
              have q5 : a ≠ b ∧ mAm d := ⟨fun e => q2 (Or.inl e), Decidable.not_not.mp (fun e => q2 (Or.inr e))⟩
              exact gOk_mono (sMov_ok h (by omega) (by omega) (by omega) (by omega) (by omega)).1 (by omega)
  split
  · split
    · exact hm
    · next e =>
      have e : cPair g a b = 0 := Decidable.not_not.mp e
      unfold cPair at e
      split at e
      · omega
      · split at e
        · omega
        · next q1 q2 =>
          have q1 : mIs g a ∧ mIs g b := Decidable.not_not.mp q1
          have b1 := h.2.2.1 a.toNat b.toNat (by omega) (by omega)
          have b2 := h.2.2.1 b.toNat a.toNat (by omega) (by omega)
          exact gOk_mono (sPair_ok h (by omega) (by omega) (by omega) (by omega) (Int.min_le_left _ _) (Int.min_le_right _ _)) (by omega)
  split
  · cases hq : lookF g (g 0).toNat with
    | none => exact hm
    | some q => exact gOk_mono (sNets_ok (lookF_ok hq) (by omega) h) (by omega)
  split
  · exact gOk_mono (naF_ok (by omega) _ _ h) (by omega)
  split
  · split
    · exact hm
    · next e =>
      have e : cDecl g a = 0 := Decidable.not_not.mp e
      unfold cDecl at e
      split at e
      · omega
      · split at e
        · omega
        · next q1 q2 =>
          have q1 : mIs g a := Decidable.not_not.mp q1
          exact gOk_mono (sFall_ok h hB (by omega) (Decidable.not_not.mp q2)).1 (by omega)
  split
  · exact gOk_mono (faF_ok hB (by omega) _ _ h) (by omega)
  · exact gOk_mono (sCall_ok (by omega) h) (by omega)
