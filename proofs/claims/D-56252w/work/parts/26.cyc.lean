/-! looking for a cycle, in pure Lean -/
set_option maxRecDepth 100000
def tryF {α : Type} (f : Nat → Option α) : Nat → Nat → Option α
  | _, 0 => none
  | lo, n + 1 => match f lo with
    | some x => some x
    | none => tryF f (lo + 1) n
theorem tryF_0 {α : Type} {f : Nat → Option α} {lo : Nat} : tryF f lo 0 = none := rfl
theorem tryF_some {α : Type} {f : Nat → Option α} {lo n : Nat} {x : α} (h : f lo = some x) : tryF f lo (n + 1) = some x := by
  show (match f lo with | some x => some x | none => tryF f (lo + 1) n) = _
  rw [h]
theorem tryF_none {α : Type} {f : Nat → Option α} {lo n : Nat} (h : f lo = none) : tryF f lo (n + 1) = tryF f (lo + 1) n := by
  show (match f lo with | some x => some x | none => tryF f (lo + 1) n) = _
  rw [h]
theorem tryF_of {α : Type} {f : Nat → Option α} {P : α → Prop} (hf : ∀ k x, f k = some x → P x) : ∀ n lo x, tryF f lo n = some x → P x := by
  intro n
  induction n with
  | zero => intro lo x h; cases h
  | succ n ih =>
    intro lo x h
    cases hk : f lo with
    | none => rw [tryF_none hk] at h; exact ih _ _ h
    | some y => rw [tryF_some hk] at h; cases h; exact hf _ _ hk
theorem tryF_ofB {α : Type} {f : Nat → Option α} {P : α → Prop} {N M : Nat} (hf : ∀ k x, M ≤ k → k < N → f k = some x → P x) : ∀ n lo x, M ≤ lo → lo + n ≤ N → tryF f lo n = some x → P x := by
  intro n
  induction n with
  | zero => intro lo x _ _ h; cases h
  | succ n ih =>
    intro lo x hM hN h
    cases hk : f lo with
    | none => rw [tryF_none hk] at h; exact ih _ _ (by omega) (by omega) h
    | some y => rw [tryF_some hk] at h; cases h; exact hf _ _ hM (by omega) hk
theorem tryF_no {α : Type} {f : Nat → Option α} : ∀ n lo, (∀ k, lo ≤ k → k < lo + n → f k = none) → tryF f lo n = none := by
  intro n
  induction n with
  | zero => intro lo _; rfl
  | succ n ih => intro lo h; rw [tryF_none (h lo (by omega) (by omega))]; exact ih _ (fun k h1 h2 => h k (by omega) (by omega))
theorem tryF_all {α : Type} {f : Nat → Option α} : ∀ n lo, tryF f lo n = none → ∀ k, lo ≤ k → k < lo + n → f k = none := by
  intro n
  induction n with
  | zero => intro lo _ k h1 h2; omega
  | succ n ih =>
    intro lo h k h1 h2
    cases hk : f lo with
    | some y => rw [tryF_some hk] at h; cases h
    | none =>
      rw [tryF_none hk] at h
      by_cases e : k = lo
      · rw [e]; exact hk
      · exact ih _ h k (by omega) (by omega)
abbrev qk (p : List Nat) (k : Nat) : Nat := p.getD k 0
theorem qk_lt {p : List Nat} {x k : Nat} (h : k < p.length) : qk (p ++ [x]) k = qk p k := by
  simp [qk, List.getD, List.getElem?_append_left h]
theorem qk_last {p : List Nat} {x : Nat} : qk (p ++ [x]) p.length = x := by simp [qk, List.getD]
theorem qk_mem {p : List Nat} {x : Nat} : x ∈ p ↔ ∃ k, k < p.length ∧ qk p k = x := by
  rw [List.mem_iff_getElem]
  constructor
  · rintro ⟨k, h, e⟩
    exact ⟨k, h, by rw [← e]; simp [qk, List.getD, List.getElem?_eq_getElem h]⟩
  · rintro ⟨k, h, e⟩
    exact ⟨k, h, by rw [← e]; simp [qk, List.getD, List.getElem?_eq_getElem h]⟩
def agr (c : Nat → Int) (p : List Nat) : Prop := ∀ k, k < p.length → c k = (qk p k : Int)
theorem agr_app {c : Nat → Int} {p : List Nat} {x : Nat} (h : agr c p) : agr (gU c p.length x) (p ++ [x]) := by
  intro k hk
  rw [List.length_append] at hk
  by_cases e : k = p.length
  · rw [e, gU_eq, qk_last]
  · have h2 : k < p.length := by simp at hk; omega
    rw [gU_ne e, qk_lt h2, h k h2]
theorem agr_of {c : Nat → Int} {p : List Nat} {x : Nat} (h : agr c (p ++ [x])) : agr c p := fun k hk => by
  rw [h k (by rw [List.length_append]; omega), qk_lt hk]
def fnd (g : Nat → Int) (n : Nat) : Nat → List Nat → Option (List Nat)
  | 0, p => if 0 < g (12 + 7 * qk p (p.length - 1) + qk p 0) then some p else none
  | r + 1, p => tryF (fun nx => if 0 < g (12 + 7 * qk p (p.length - 1) + nx) ∧ nx ∉ p then fnd g n r (p ++ [nx]) else none) (qk p 0 + 1) (n - (qk p 0 + 1))
def fnB (g : Nat → Int) (n r : Nat) (p : List Nat) : Nat → Option (List Nat) := fun nx => if 0 < g (12 + 7 * qk p (p.length - 1) + nx) ∧ nx ∉ p then fnd g n r (p ++ [nx]) else none
theorem fnd_s {g : Nat → Int} {n r : Nat} {p : List Nat} : fnd g n (r + 1) p = tryF (fnB g n r p) (qk p 0 + 1) (n - (qk p 0 + 1)) := rfl
/-- parties below n, each once, each owing the next -/
def pOk (g : Nat → Int) (n : Nat) (p : List Nat) : Prop := 1 ≤ p.length ∧ (∀ k, k < p.length → qk p k < n) ∧ (∀ i j, i < p.length → j < p.length → qk p i = qk p j → i = j) ∧ ∀ k, k + 1 < p.length → 0 < g (12 + 7 * qk p k + qk p (k + 1))
theorem pOk_1 {g : Nat → Int} {n f : Nat} (h : f < n) : pOk g n [f] := by
  refine ⟨by simp, ?_, ?_, ?_⟩
  · intro k hk
    have : k = 0 := by simp at hk; omega
    subst this; exact h
  · intro i j hi hj _
    simp at hi hj; omega
  · intro k hk; simp at hk
theorem pOk_app {g : Nat → Int} {n x : Nat} {p : List Nat} (h : pOk g n p) (hx : x < n) (hg : 0 < g (12 + 7 * qk p (p.length - 1) + x)) (hm : x ∉ p) : pOk g n (p ++ [x]) := by
  obtain ⟨h1, h2, h3, h4⟩ := h
  have hl : (p ++ [x]).length = p.length + 1 := by simp
  have qkx : ∀ k, k < p.length + 1 → qk (p ++ [x]) k = if k < p.length then qk p k else x := by
    intro k hk
    by_cases e : k < p.length
    · rw [qk_lt e, if_pos e]
    · rw [if_neg e, show k = p.length by omega, qk_last]
  refine ⟨by omega, ?_, ?_, ?_⟩
  · intro k hk
    rw [qkx k (by omega)]
    split
    · exact h2 k (by assumption)
    · exact hx
  · intro i j hi hj e
    rw [qkx i (by omega), qkx j (by omega)] at e
    by_cases a : i < p.length <;> by_cases b : j < p.length
    · rw [if_pos a, if_pos b] at e; exact h3 i j a b e
    · rw [if_pos a, if_neg b] at e; exact absurd (qk_mem.mpr ⟨i, a, e⟩) hm
    · rw [if_neg a, if_pos b] at e; exact absurd (qk_mem.mpr ⟨j, b, e.symm⟩) hm
    · omega
  · intro k hk
    rw [qkx k (by omega), qkx (k + 1) (by omega), if_pos (by omega)]
    by_cases b : k + 1 < p.length
    · rw [if_pos b]; exact h4 k b
    · rw [if_neg b, show k = p.length - 1 by omega]; exact hg
theorem fnd_ok {g : Nat → Int} {n : Nat} : ∀ r p q, pOk g n p → fnd g n r p = some q → pOk g n q ∧ q.length = p.length + r ∧ 0 < g (12 + 7 * qk q (q.length - 1) + qk q 0) := by
  intro r
  induction r with
  | zero =>
    intro p q hp h
    unfold fnd at h
    split at h
    · cases h; exact ⟨hp, rfl, by assumption⟩
    · cases h
  | succ r ih =>
    intro p q hp h
    rw [fnd_s] at h
    refine tryF_ofB (N := n) (M := 0) (P := fun q => pOk g n q ∧ q.length = p.length + (r + 1) ∧ 0 < g (12 + 7 * qk q (q.length - 1) + qk q 0)) (fun k x _ hk hx => ?_) _ _ _ (Nat.zero_le _) ?_ h
    · unfold fnB at hx
      split at hx
      · next hc =>
        obtain ⟨a, b, c⟩ := ih _ _ (pOk_app hp hk hc.1 hc.2) hx
        refine ⟨a, ?_, c⟩
        rw [b, List.length_append]; simp; omega
      · cases hx
    · have := hp.2.1 0 hp.1
      omega
def lookF (g : Nat → Int) (n : Nat) : Option (List Nat) := tryF (fun s => tryF (fun f => fnd g n (s - 1) [f]) 0 n) 2 (n - 1)
/-- a cycle -/
def cOk (g : Nat → Int) (n : Nat) (q : List Nat) : Prop := pOk g n q ∧ 2 ≤ q.length ∧ q.length ≤ n ∧ 0 < g (12 + 7 * qk q (q.length - 1) + qk q 0)
theorem lookF_ok {g : Nat → Int} {n : Nat} {q : List Nat} (h : lookF g n = some q) : cOk g n q := by
  unfold lookF at h
  by_cases hn : n = 0
  · subst hn; cases h
  refine tryF_ofB (N := n + 1) (M := 2) (P := cOk g n) (fun s x hs0 hs hx => ?_) _ _ _ (by omega) (by omega) h
  refine tryF_ofB (N := n) (M := 0) (P := cOk g n) (fun f x _ hf hx => ?_) _ _ _ (Nat.zero_le _) (by omega) hx
  obtain ⟨a, b, c⟩ := fnd_ok _ _ _ (pOk_1 hf) hx
  simp at b
  exact ⟨a, by omega, by omega, c⟩
/-- the place of the cycle's i-th debt -/
def eI (q : List Nat) (i : Nat) : Nat := 12 + 7 * qk q i + qk q ((i + 1) % q.length)
def smF (g : Nat → Int) (q : List Nat) : Nat → Int
  | 0 => 999
  | k + 1 => min (smF g q k) (g (eI q k))
def nsF (g : Nat → Int) (q : List Nat) (v : Int) : Nat → (Nat → Int)
  | 0 => g
  | k + 1 => gA (nsF g q v k) (eI q k) (-v)
def sNets (g : Nat → Int) (q : List Nat) : Nat → Int := gA (nsF g q (smF g q q.length) q.length) 2 (q.length * smF g q q.length)
def naF (n : Nat) : Nat → (Nat → Int) → (Nat → Int) × Nat
  | 0, g => (g, 0)
  | f + 1, g => match lookF g n with
    | none => (g, 0)
    | some q => ((naF n f (sNets g q)).1, (naF n f (sNets g q)).2 + 1)
/-- the sum of all debts -/
def gMu (g : Nat → Int) : Int := sg (fun k => g (12 + k)) 49
def gP (x : zT) (F : Option (List Nat)) (p : List Nat) : Int → zT → Prop := fun z y => ∃ c', y = sA x 15 c' ∧ ((∃ q, F = some q ∧ z = 1 ∧ agr c' q) ∨ (F = none ∧ z = 0 ∧ agr c' p))
def cdn (g : Nat → Int) (p : List Nat) (nx k : Nat) : Prop := 0 < g (12 + 7 * qk p (p.length - 1) + nx) ∧ ∀ j, 1 ≤ j → j < k → qk p j ≠ nx
theorem cdn_s {g : Nat → Int} {p : List Nat} {nx k : Nat} (h : cdn g p nx k) (hk : qk p k ≠ nx) : cdn g p nx (k + 1) := ⟨h.1, fun j h1 h2 => by
  by_cases e : j = k
  · rw [e]; exact hk
  · exact h.2 j h1 (by omega)⟩
theorem cdn_f {g : Nat → Int} {p : List Nat} {nx k : Nat} (h : ¬ cdn g p nx k) : ¬ cdn g p nx (k + 1) := fun q => h ⟨q.1, fun j h1 h2 => q.2 j h1 (by omega)⟩
theorem cdn_e {g : Nat → Int} {p : List Nat} {nx k : Nat} (h1 : 1 ≤ k) (h : qk p k = nx) : ¬ cdn g p nx (k + 1) := fun q => q.2 k h1 (by omega) h
theorem cdn_iff {g : Nat → Int} {p : List Nat} {nx : Nat} (h : qk p 0 < nx) : cdn g p nx p.length ↔ (0 < g (12 + 7 * qk p (p.length - 1) + nx) ∧ nx ∉ p) := by
  unfold cdn
  rw [qk_mem]
  constructor
  · rintro ⟨a, b⟩
    refine ⟨a, ?_⟩
    rintro ⟨k, hk, e⟩
    by_cases z : k = 0
    · subst z; omega
    · exact b k (by omega) hk e
  · rintro ⟨a, b⟩
    exact ⟨a, fun j h1 h2 e => b ⟨j, h2, e⟩⟩
theorem fnB_no {g : Nat → Int} {n r : Nat} {p : List Nat} {nx : Nat} (hf : qk p 0 < nx) (h : ¬ cdn g p nx p.length) : fnB g n r p nx = none := if_neg (fun q => h ((cdn_iff hf).mpr q))
theorem fnB_yes {g : Nat → Int} {n r : Nat} {p : List Nat} {nx : Nat} (hf : qk p 0 < nx) (h : cdn g p nx p.length) : fnB g n r p nx = fnd g n r (p ++ [nx]) := if_pos ((cdn_iff hf).mp h)
theorem zmod (a b : Nat) : ((a : Int) + 1) % (b : Int) = (((a + 1) % b : Nat) : Int) := by
  rw [Int.natCast_emod]; rfl
