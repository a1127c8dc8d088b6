/-! rows of ints: what the operations do to the house's row g (0 parties, 1 day, 2 netted, 3 written off, 4 fallen, 5.. cash, 12.. debts by sevens) -/
set_option maxRecDepth 100000
theorem fitZ {E : Int} (h : E = 0 ∨ E = 1) : fits .boolean (.int (iI E)) = true := by
  rcases h with rfl | rfl <;> decide
def gU (g : Nat → Int) (k : Nat) (v : Int) : Nat → Int := fun k' => if k' = k then v else g k'
theorem gU_eq {g : Nat → Int} {k : Nat} {v : Int} : gU g k v k = v := if_pos rfl
theorem gU_ne {g : Nat → Int} {k k' : Nat} {v : Int} (h : k' ≠ k) : gU g k v k' = g k' := if_neg h
theorem gU_uu {g : Nat → Int} {k : Nat} {v u : Int} : gU (gU g k v) k u = gU g k u := by
  funext i; unfold gU; split <;> rfl
theorem gU_comm {g : Nat → Int} {k j : Nat} {v u : Int} (h : k ≠ j) : gU (gU g k v) j u = gU (gU g j u) k v := by
  funext i; unfold gU
  by_cases h1 : i = j
  · rw [if_pos h1, if_neg (by omega), if_pos h1]
  · rw [if_neg h1]
    by_cases h2 : i = k
    · rw [if_pos h2, if_pos h2]
    · rw [if_neg h2, if_neg h2, if_neg h1]
theorem gU_self {g : Nat → Int} {k : Nat} : gU g k (g k) = g := by
  funext i; unfold gU; split
  · next h => rw [h]
  · rfl
theorem sA_j {x : zT} {j : Nat} {f : Nat → Int} : sA x j f j = f := if_pos rfl
theorem sA_i {x : zT} {j i : Nat} {f : Nat → Int} (h : i ≠ j) : sA x j f i = x i := if_neg h
theorem sA_self {x : zT} {j : Nat} : sA x j (x j) = x := by
  funext i; unfold sA; split
  · next h => rw [h]
  · rfl
theorem uA_sA (x : zT) (j k : Nat) (v : Int) : uA x j k v = sA x j (gU (x j) k v) := rfl
theorem sA_sA {x : zT} {j : Nat} {f h : Nat → Int} : sA (sA x j f) j h = sA x j h := by
  funext i; unfold sA; split <;> rfl
theorem sA_comm {x : zT} {j i : Nat} {f h : Nat → Int} (hj : i ≠ j) : sA (sA x j f) i h = sA (sA x i h) j f := by
  funext a; unfold sA
  by_cases h1 : a = i
  · rw [if_pos h1, if_neg (by omega), if_pos h1]
  · rw [if_neg h1]
    by_cases h2 : a = j
    · rw [if_pos h2, if_pos h2]
    · rw [if_neg h2, if_neg h2, if_neg h1]
theorem uA_uA {x : zT} {j k : Nat} {v u : Int} : uA (uA x j k v) j k u = uA x j k u := by
  rw [uA_sA, uA_sA, uA_sA, sA_sA, sA_j, gU_uu]
theorem uA_in {x : zT} {j k : Nat} {v : Int} {f : Nat → Int} : uA (sA x j f) j k v = sA x j (gU f k v) := by
  rw [uA_sA, sA_sA, sA_j]
theorem uA_out {x : zT} {j k i : Nat} {v : Int} {f : Nat → Int} (h : j ≠ i) : uA (sA x i f) j k v = sA (uA x j k v) i f := by
  rw [uA_sA, uA_sA, sA_comm h, sA_i h]
theorem sA_f {x : zT} {j : Nat} {f h : Nat → Int} (e : ∀ k, f k = h k) : sA x j f = sA x j h := by rw [funext e]
/-- the twin's keeping of a row before a change -/
def kF (j : Nat) (x : zT) (n : Nat) : zT :=
  if x 7 0 = 0 then uA (sA (uA x 8 0 0) 1 (fun k => if 61 * (if n = 8 then 7 else n) ≤ k ∧ k < 61 * (if n = 8 then 7 else n) + 61 then x j (k - 61 * (if n = 8 then 7 else n)) else if n = 8 ∧ k < 427 then x 1 (k + 61) else x 1 k)) 6 0 (((if n = 8 then 7 else n : Nat) : Int) + 1) else uA x 8 0 0
theorem kF_u8 {j n : Nat} {x : zT} {v : Int} (hj : j ≠ 8) : kF j (uA x 8 0 v) n = kF j x n := by
  have h1 : uA x 8 0 v 7 = x 7 := sA_i (by decide)
  have h2 : uA x 8 0 v 1 = x 1 := sA_i (by decide)
  have h3 : uA x 8 0 v j = x j := sA_i hj
  unfold kF
  rw [h1, h2, h3, uA_uA]
theorem kF_i {j n i : Nat} {x : zT} (h1 : i ≠ 1) (h2 : i ≠ 6) (h3 : i ≠ 8) : kF j x n i = x i := by
  unfold kF
  split
  · rw [uA_sA, sA_i h2, sA_i h1, uA_sA, sA_i h3]
  · rw [uA_sA, sA_i h3]
theorem kF_8 {j n : Nat} {x : zT} : kF j x n 8 0 = 0 := by
  unfold kF
  split
  · rw [uA_sA, sA_i (by decide), sA_i (by decide), uA_eq]
  · rw [uA_eq]
def cpF (x : zT) (j1 a1 j2 a2 : Nat) (i : Nat) : zT := sA x j2 (fun k => if a2 ≤ k ∧ k < a2 + i then x j1 (a1 + (k - a2)) else x j2 k)
theorem cpF_0 {x : zT} {j1 a1 j2 a2 : Nat} : cpF x j1 a1 j2 a2 0 = x := by
  unfold cpF
  rw [sA_f (h := x j2) (fun k => if_neg (by omega)), sA_self]
theorem cpF_s {x : zT} {j1 a1 j2 a2 i : Nat} : uA (cpF x j1 a1 j2 a2 i) j2 (a2 + i) (x j1 (a1 + i)) = cpF x j1 a1 j2 a2 (i + 1) := by
  unfold cpF
  rw [uA_in]
  refine sA_f (fun k => ?_)
  unfold gU
  by_cases h : k = a2 + i
  · subst h
    rw [if_pos rfl, if_pos (by omega)]
    congr 1; omega
  · rw [if_neg h]
    dsimp only
    by_cases h2 : a2 ≤ k ∧ k < a2 + i
    · rw [if_pos h2, if_pos (by omega)]
    · rw [if_neg h2, if_neg (by omega)]
theorem cpF_i {x : zT} {j1 a1 j2 a2 i a : Nat} (h : a ≠ j2) : cpF x j1 a1 j2 a2 i a = x a := sA_i h
def shF (f : Nat → Int) (i : Nat) : Nat → Int := fun k => if k < i then f (k + 61) else f k
theorem shF_0 {f : Nat → Int} : shF f 0 = f := by
  funext k; exact if_neg (by omega)
theorem shF_r {f : Nat → Int} {i k : Nat} (h : i ≤ k) : shF f i k = f k := if_neg (by omega)
theorem shF_s {f : Nat → Int} {i : Nat} : gU (shF f i) i (f (i + 61)) = shF f (i + 1) := by
  funext k
  unfold gU shF
  by_cases h : k = i
  · subst h
    rw [if_pos rfl, if_pos (by omega)]
  · rw [if_neg h]
    by_cases h2 : k < i
    · rw [if_pos h2, if_pos (by omega)]
    · rw [if_neg h2, if_neg (by omega)]
theorem kF_w {j n : Nat} {x : zT} (h7 : x 7 0 ≠ 0) : uA x 8 0 0 = kF j x n := by
  unfold kF; rw [if_neg h7]
theorem kF_t {j n : Nat} {x : zT} (h7 : x 7 0 = 0) (h6 : x 6 0 = n) (hn : n ≠ 8) (hj : j ≠ 8) : uA (cpF (uA x 8 0 0) j 0 1 (61 * n) 61) 6 0 (x 6 0 + 1) = kF j x n := by
  unfold kF
  rw [if_pos h7, if_neg hn, h6]
  congr 1
  unfold cpF
  refine sA_f (fun k => ?_)
  rw [uA_sA, sA_i hj, sA_i (by decide), Nat.zero_add, if_neg (c := n = 8 ∧ k < 427) (fun h => hn h.1)]
theorem kF_f {j : Nat} {x : zT} (h7 : x 7 0 = 0) (h6 : x 6 0 = 8) (hj : j ≠ 8) (hj1 : j ≠ 1) (hj6 : j ≠ 6) : uA (cpF (uA (sA (uA x 8 0 0) 1 (shF (x 1) 427)) 6 0 (x 6 0 - 1)) j 0 1 (61 * 7) 61) 6 0 (x 6 0 - 1 + 1) = kF j x 8 := by
  unfold kF
  rw [if_pos h7, if_pos rfl]
  funext a k
  by_cases a6 : a = 6
  · subst a6
    by_cases k0 : k = 0 <;> simp [uA, sA, cpF, h6, k0]
  · by_cases a1 : a = 1
    · subst a1
      simp [uA, sA, cpF, shF, hj, hj1, hj6]
    · by_cases a8 : a = 8
      · subst a8
        simp [uA, sA, cpF]
      · simp [uA, sA, cpF, a6, a1, a8]
/-- how a change ends: refused with its number, or made -/
def oR (x : zT) (n : Nat) (C : Int) (G : Nat → Int) (V : Int) : Int → zT → Prop := fun z y => (C ≠ 0 ∧ y = uA x 8 0 C ∧ z = 0) ∨ (C = 0 ∧ y = sA (kF 0 x n) 0 G ∧ z = V)
theorem oR_f {x : zT} {n : Nat} {C : Int} {G : Nat → Int} {V k : Int} (h : C = k) (hk : k ≠ 0) : ∃ z, iI 0 = iI z ∧ oR x n C G V z (uA x 8 0 k) := ⟨0, rfl, Or.inl ⟨by rw [h]; exact hk, by rw [h], rfl⟩⟩
theorem oR_t {x : zT} {n : Nat} {C : Int} {G : Nat → Int} {V : Int} (h : C = 0) : ∃ z, iI V = iI z ∧ oR x n C G V z (sA (kF 0 x n) 0 G) := ⟨V, rfl, Or.inr ⟨h, rfl, rfl⟩⟩
abbrev mIs (g : Nat → Int) (P : Int) : Prop := 0 ≤ P ∧ P ≤ g 0 - 1
abbrev mAm (a : Int) : Prop := 1 ≤ a ∧ a ≤ 999
def mOb (g : Nat → Int) (p : Nat) : Int := sg (fun k => g (12 + 7 * p + k)) 7
def mCl (g : Nat → Int) (p : Nat) : Int := sg (fun k => g (12 + 7 * k + p)) 7
def mNet (g : Nat → Int) (p : Nat) : Int := mCl g p - mOb g p
def mLk (g : Nat → Int) (p : Nat) : Int := mOb g p - g (5 + p) - mCl g p
/-- adding to a place -/
def gA (g : Nat → Int) (k : Nat) (v : Int) : Nat → Int := gU g k (g k + v)
def sMov (g : Nat → Int) (d c : Nat) (a : Int) : Nat → Int := gA (gA (gA g (12 + 7 * d + c) (-a)) (5 + d) (-a)) (5 + c) a
def cAdd (g : Nat → Int) (a : Int) : Int := if ¬ (0 ≤ a ∧ a ≤ 999) then 1 else if g 0 = 7 then 2 else 0
def sAdd (g : Nat → Int) (n : Nat) (a : Int) : Nat → Int := gU (gU g (5 + n) a) 0 (g 0 + 1)
def cDep (g : Nat → Int) (p a : Int) : Int := if ¬ mIs g p then 1 else if ¬ mAm a then 2 else 0
def cOwe (g : Nat → Int) (d c a : Int) : Int := if ¬ (mIs g d ∧ mIs g c) then 1 else if d = c ∨ ¬ mAm a then 2 else if g (12 + 7 * d.toNat + c.toNat) + a > 999 then 3 else 0
def cPay (g : Nat → Int) (d c a : Int) : Int := if ¬ (mIs g d ∧ mIs g c) then 1 else if d = c ∨ ¬ mAm a then 2 else if g (12 + 7 * d.toNat + c.toNat) < a then 3 else if g (5 + d.toNat) < a then 4 else 0
def cPair (g : Nat → Int) (d c : Int) : Int := if ¬ (mIs g d ∧ mIs g c) then 1 else if d = c then 2 else 0
def sPair (g : Nat → Int) (d c : Nat) (a : Int) : Nat → Int := gA (gA (gA g (12 + 7 * d + c) (-a)) (12 + 7 * c + d) (-a)) 2 (2 * a)
/-- the row is a house's: parties, cash up to B, debts up to 999, none where no parties are -/
def gOk (g : Nat → Int) (B : Int) : Prop := (0 ≤ g 0 ∧ g 0 ≤ 7) ∧ (∀ k : Nat, k < 7 → 0 ≤ g (5 + k) ∧ g (5 + k) ≤ B) ∧ (∀ i j : Nat, i < 7 → j < 7 → 0 ≤ g (12 + 7 * i + j) ∧ g (12 + 7 * i + j) ≤ 999) ∧ (∀ i j : Nat, i < 7 → j < 7 → (g 0 ≤ i ∨ g 0 ≤ j ∨ i = j) → g (12 + 7 * i + j) = 0) ∧ (∀ k : Nat, k < 7 → g 0 ≤ k → g (5 + k) = 0) ∧ sg (fun k => g (5 + k)) 7 ≤ B
theorem mOb_bd {g : Nat → Int} {B : Int} (h : gOk g B) {p : Nat} (hp : p < 7) : 0 ≤ mOb g p ∧ mOb g p ≤ 6993 := by
  have := sg_bd (f := fun k => g (12 + 7 * p + k)) (n := 7) (M := 999) (fun k hk => h.2.2.1 p k hp hk)
  unfold mOb; omega
theorem mCl_bd {g : Nat → Int} {B : Int} (h : gOk g B) {p : Nat} (hp : p < 7) : 0 ≤ mCl g p ∧ mCl g p ≤ 6993 := by
  have := sg_bd (f := fun k => g (12 + 7 * k + p)) (n := 7) (M := 999) (fun k hk => h.2.2.1 k p hk hp)
  unfold mCl; omega
