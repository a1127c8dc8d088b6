/-! netting a cycle, in pure Lean -/
set_option maxRecDepth 100000
theorem cOk_edge {g : Nat → Int} {n : Nat} {q : List Nat} (h : cOk g n q) {j : Nat} (hj : j < q.length) : 0 < g (eI q j) := by
  obtain ⟨⟨h1, h2, h3, h4⟩, h5, h6, h7⟩ := h
  unfold eI
  by_cases e : j + 1 < q.length
  · rw [Nat.mod_eq_of_lt e]; exact h4 j e
  · rw [show j + 1 = q.length by omega, Nat.mod_self, show j = q.length - 1 by omega]; exact h7
theorem eI_lt {g : Nat → Int} {n : Nat} {q : List Nat} (h : cOk g n q) (hn : n ≤ 7) {j : Nat} (hj : j < q.length) : ∃ a b, a < 7 ∧ b < 7 ∧ a < n ∧ b < n ∧ eI q j = 12 + 7 * a + b ∧ a = qk q j ∧ b = qk q ((j + 1) % q.length) := by
  have a := h.1.2.1 j hj
  have b := h.1.2.1 ((j + 1) % q.length) (Nat.mod_lt _ (by omega))
  exact ⟨_, _, by omega, by omega, a, b, rfl, rfl, rfl⟩
theorem eI_inj {g : Nat → Int} {n : Nat} {q : List Nat} (h : cOk g n q) (hn : n ≤ 7) {i j : Nat} (hi : i < q.length) (hj : j < q.length) (e : eI q i = eI q j) : i = j := by
  obtain ⟨a, b, h1, h2, -, -, h3, h4, -⟩ := eI_lt h hn hi
  obtain ⟨a', b', h1', h2', -, -, h3', h4', -⟩ := eI_lt h hn hj
  exact h.1.2.2.1 i j hi hj (by omega)
theorem smF_le {g : Nat → Int} {q : List Nat} : ∀ k j, j < k → smF g q k ≤ g (eI q j) := by
  intro k
  induction k with
  | zero => intro j hj; omega
  | succ k ih =>
    intro j hj
    show min (smF g q k) (g (eI q k)) ≤ _
    by_cases e : j = k
    · rw [e]; omega
    · have := ih j (by omega); omega
theorem smF_999 {g : Nat → Int} {q : List Nat} : ∀ k, smF g q k ≤ 999 := by
  intro k
  induction k with
  | zero => exact Int.le_refl _
  | succ k ih => show min (smF g q k) (g (eI q k)) ≤ _; omega
theorem smF_pos {g : Nat → Int} {q : List Nat} : ∀ k, (∀ j, j < k → 0 < g (eI q j)) → 0 < smF g q k := by
  intro k
  induction k with
  | zero => intro _; show (0 : Int) < 999; decide
  | succ k ih =>
    intro h
    have a := ih (fun j hj => h j (by omega))
    have b := h k (by omega)
    show 0 < min (smF g q k) (g (eI q k))
    omega
theorem nsF_at {g : Nat → Int} {n : Nat} {q : List Nat} {v : Int} (h : cOk g n q) (hn : n ≤ 7) : ∀ k, k ≤ q.length → ∀ i, (∃ j, j < k ∧ eI q j = i ∧ nsF g q v k i = g i - v) ∨ ((∀ j, j < k → eI q j ≠ i) ∧ nsF g q v k i = g i) := by
  intro k
  induction k with
  | zero => intro _ i; exact Or.inr ⟨fun j hj => by omega, rfl⟩
  | succ k ih =>
    intro hk i
    have e : nsF g q v (k + 1) = gU (nsF g q v k) (eI q k) (nsF g q v k (eI q k) + -v) := rfl
    rw [e]
    by_cases hi : i = eI q k
    · subst hi
      rw [gU_eq]
      refine Or.inl ⟨k, by omega, rfl, ?_⟩
      rcases ih (by omega) (eI q k) with ⟨j, a, b, c⟩ | ⟨a, b⟩
      · have := eI_inj h hn (by omega) (by omega) b; omega
      · rw [b]; omega
    · rw [gU_ne hi]
      rcases ih (by omega) i with ⟨j, a, b, c⟩ | ⟨a, b⟩
      · exact Or.inl ⟨j, by omega, b, c⟩
      · refine Or.inr ⟨fun j hj => ?_, b⟩
        by_cases ej : j = k
        · rw [ej]; exact fun z => hi z.symm
        · exact a j (by omega)
theorem sg_lt {f h : Nat → Int} {n : Nat} (hle : ∀ k, k < n → f k ≤ h k) {k : Nat} (hk : k < n) (hlt : f k < h k) : sg f n < sg h n := by
  induction n with
  | zero => omega
  | succ n ih =>
    rw [sg_succ, sg_succ]
    have a := hle n (by omega)
    have le : ∀ m, m ≤ n → sg f m ≤ sg h m := by
      intro m
      induction m with
      | zero => intro _; exact Int.le_refl _
      | succ m ihm =>
        intro hm
        rw [sg_succ, sg_succ]
        have := ihm (by omega)
        have := hle m (by omega)
        omega
    by_cases e : k = n
    · subst e
      have := le k (Nat.le_refl _)
      omega
    · have := ih (fun k hk => hle k (by omega)) (by omega)
      omega
theorem sNets_at {g : Nat → Int} {n : Nat} {q : List Nat} (h : cOk g n q) (hn : n ≤ 7) {i : Nat} (hi : i ≠ 2) : (∃ j, j < q.length ∧ eI q j = i ∧ sNets g q i = g i - smF g q q.length) ∨ ((∀ j, j < q.length → eI q j ≠ i) ∧ sNets g q i = g i) := by
  have e : sNets g q i = nsF g q (smF g q q.length) q.length i := gU_ne hi
  rw [e]
  exact nsF_at h hn _ (Nat.le_refl _) i
theorem sNets_2 {g : Nat → Int} {n : Nat} {q : List Nat} (h : cOk g n q) (hn : n ≤ 7) : sNets g q 2 = g 2 + q.length * smF g q q.length := by
  have e : sNets g q 2 = nsF g q (smF g q q.length) q.length 2 + q.length * smF g q q.length := by unfold sNets gA; rw [gU_eq]
  rw [e]
  rcases nsF_at (v := smF g q q.length) h hn _ (Nat.le_refl _) 2 with ⟨j, a, b, c⟩ | ⟨a, b⟩
  · obtain ⟨x, y, -, -, -, -, h3, -⟩ := eI_lt h hn a
    omega
  · rw [b]
theorem sNets_lo {g : Nat → Int} {n : Nat} {q : List Nat} (h : cOk g n q) (hn : n ≤ 7) {i : Nat} (hi : i < 12) (h2 : i ≠ 2) : sNets g q i = g i := by
  rcases sNets_at h hn h2 with ⟨j, a, b, c⟩ | ⟨a, b⟩
  · obtain ⟨x, y, -, -, -, -, h3, -⟩ := eI_lt h hn a
    omega
  · exact b
theorem sNets_ok {g : Nat → Int} {n : Nat} {q : List Nat} {B : Int} (h : cOk g n q) (hn : n ≤ 7) (hg : gOk g B) : gOk (sNets g q) B := by
  obtain ⟨h1, h2, h3, h4, h5, h6⟩ := hg
  have e0 := sNets_lo h hn (i := 0) (by omega) (by omega)
  have pos := smF_pos (g := g) (q := q) q.length (fun j hj => cOk_edge h hj)
  refine ⟨by rw [e0]; exact h1, fun k hk => by rw [sNets_lo h hn (by omega) (by omega)]; exact h2 k hk, fun i j hi hj => ?_, fun i j hi hj hz => ?_, fun k hk hz => by rw [sNets_lo h hn (by omega) (by omega)]; rw [e0] at hz; exact h5 k hk hz, by rw [sg_congr (g := fun k => g (5 + k)) (fun k hk => sNets_lo h hn (by omega) (by omega))]; exact h6⟩
  · have b := h3 i j hi hj
    rcases sNets_at h hn (i := 12 + 7 * i + j) (by omega) with ⟨k, a, e, c⟩ | ⟨a, c⟩
    · have d := smF_le (g := g) (q := q) q.length k a
      rw [e] at d
      omega
    · omega
  · rw [e0] at hz
    have b := h4 i j hi hj hz
    rcases sNets_at h hn (i := 12 + 7 * i + j) (by omega) with ⟨k, a, e, c⟩ | ⟨a, c⟩
    · have d := cOk_edge h a
      rw [e] at d
      omega
    · omega
theorem sNets_mu {g : Nat → Int} {n : Nat} {q : List Nat} (h : cOk g n q) (hn : n ≤ 7) : gMu (sNets g q) < gMu g := by
  have pos := smF_pos (g := g) (q := q) q.length (fun j hj => cOk_edge h hj)
  obtain ⟨a, b, h1, h2, -, -, h3, -⟩ := eI_lt h hn (j := 0) (by have := h.2.1; omega)
  unfold gMu
  refine sg_lt (fun k hk => ?_) (k := 7 * a + b) (by omega) ?_
  · rcases sNets_at h hn (i := 12 + k) (by omega) with ⟨j, x, e, c⟩ | ⟨x, c⟩ <;> omega
  · rcases sNets_at h hn (i := 12 + (7 * a + b)) (by omega) with ⟨j, x, e, c⟩ | ⟨x, c⟩
    · omega
    · exact absurd (show eI q 0 = 12 + (7 * a + b) by omega) (x 0 (by have := h.2.1; omega))
theorem gMu_nn {g : Nat → Int} {B : Int} (hg : gOk g B) : 0 ≤ gMu g ∧ gMu g ≤ 48951 := by
  have := sg_bd (f := fun k => g (12 + k)) (n := 49) (M := 999) (fun k hk => by
    have := hg.2.2.1 (k / 7) (k % 7) (by omega) (by omega)
    rw [show 12 + 7 * (k / 7) + k % 7 = 12 + k by omega] at this
    exact this)
  unfold gMu; omega
theorem naF_none {n f : Nat} {g : Nat → Int} (h : lookF g n = none) : naF n (f + 1) g = (g, 0) := by
  show (match lookF g n with | none => (g, 0) | some q => ((naF n f (sNets g q)).1, (naF n f (sNets g q)).2 + 1)) = _
  rw [h]
theorem naF_some {n f : Nat} {g : Nat → Int} {q : List Nat} (h : lookF g n = some q) : naF n (f + 1) g = ((naF n f (sNets g q)).1, (naF n f (sNets g q)).2 + 1) := by
  show (match lookF g n with | none => (g, 0) | some q => ((naF n f (sNets g q)).1, (naF n f (sNets g q)).2 + 1)) = _
  rw [h]
def lkI (g : Nat → Int) (n s f : Nat) : Option (List Nat) := fnd g n (s - 1) [f]
def lkS (g : Nat → Int) (n s : Nat) : Option (List Nat) := tryF (lkI g n s) 0 n
theorem lookF_e {g : Nat → Int} {n : Nat} : lookF g n = tryF (lkS g n) 2 (n + 1 - 2) := rfl
theorem agr_1 {c : Nat → Int} {f : Nat} : agr (gU c 0 (f : Int)) [f] := by
  intro k hk
  have : k = 0 := by simp at hk; omega
  subst this
  exact gU_eq
/-- what looking for a cycle leaves -/
def lR (g : Nat → Int) (n : Nat) (c' : Nat → Int) (z : Int) : Prop := (∃ q, lookF g n = some q ∧ z = q.length ∧ agr c' q) ∨ (lookF g n = none ∧ z = 0)
def lP (x : zT) (n : Nat) : Int → zT → Prop := fun z y => ∃ c', y = sA x 15 c' ∧ lR (x 0) n c' z
theorem lR_z {g : Nat → Int} {n : Nat} {c' : Nat → Int} {z : Int} (hn : n ≤ 7) (h : lR g n c' z) : z = 0 ∨ (2 ≤ z ∧ z ≤ 7) := by
  rcases h with ⟨q, h1, h2, -⟩ | h
  · have := lookF_ok h1
    have a := this.2.1
    have b := this.2.2.1
    omega
  · exact Or.inl h.2
def ncR (x : zT) (n n6 : Nat) : Int → zT → Prop := fun z y => ∃ c', (lookF (x 0) n = none ∧ z = 0 ∧ y = uA (sA x 15 c') 8 0 1) ∨ (∃ q, lookF (x 0) n = some q ∧ z = smF (x 0) q q.length ∧ y = sA (kF 0 (sA x 15 c') n6) 0 (sNets (x 0) q))
def naR (x : zT) (n n6 F : Nat) : Int → zT → Prop := fun z y => ∃ c', y = sA (sA (kF 0 x n6) 15 c') 0 (naF n F (x 0)).1 ∧ z = ((naF n F (x 0)).2 : Nat)
def hcR (x : zT) (n : Nat) : Int → zT → Prop := fun z y => ∃ c', y = sA (uA x 8 0 0) 15 c' ∧ z = bI ((lookF (x 0) n).isSome = true)
def qR (x : zT) (n : Nat) (V : List Nat → Int) : Int → zT → Prop := fun z y => ∃ c', (lookF (x 0) n = none ∧ z = 0 ∧ y = uA (sA x 15 c') 8 0 1) ∨ (∃ q, lookF (x 0) n = some q ∧ z = V q ∧ y = uA (sA x 15 c') 8 0 0)
def cpR (x : zT) (n : Nat) (P : Int) : Int → zT → Prop := fun z y => ∃ c', (lookF (x 0) n = none ∧ z = 0 ∧ y = uA (sA x 15 c') 8 0 1) ∨ (∃ q, lookF (x 0) n = some q ∧ (((0 ≤ P ∧ P ≤ (q.length : Int) - 1) ∧ z = (qk q P.toNat : Int) ∧ y = uA (sA x 15 c') 8 0 0) ∨ (¬ (0 ≤ P ∧ P ≤ (q.length : Int) - 1) ∧ z = 0 ∧ y = uA (sA x 15 c') 8 0 2)))
theorem lR_some {g : Nat → Int} {n : Nat} {c' : Nat → Int} {z : Int} (h : lR g n c' z) (hz : z ≠ 0) : ∃ q, lookF g n = some q ∧ z = ((q.length : Nat) : Int) ∧ agr c' q := by
  rcases h with h | h
  · exact h
  · exact absurd h.2 hz
theorem lR_none {g : Nat → Int} {n : Nat} {c' : Nat → Int} {z : Int} (h : lR g n c' z) (hz : z = 0) : lookF g n = none := by
  rcases h with ⟨q, h1, h2, h3⟩ | h
  · have := (lookF_ok h1).2.1; omega
  · exact h.1
