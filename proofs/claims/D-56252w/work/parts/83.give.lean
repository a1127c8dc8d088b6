/-! shares, given coin by coin -/
set_option maxRecDepth 100000
theorem mLeft_cn {g : Nat → Int} {B : Int} (hg : gOk g B) {p : Nat} (hp : p < 7) (h : 0 < mOb g p) : 0 ≤ mLeft g p ∧ mLeft g p ≤ mCn g p := by
  have hdm : ∀ k, g (5 + p) * g (12 + 7 * p + k) = mOb g p * mPt g p k + mRm g p k := fun k => (Int.mul_ediv_add_emod _ _).symm
  have h1 : g (5 + p) * mOb g p = mOb g p * sg (fun k => mPt g p k) 7 + sg (fun k => mRm g p k) 7 := by
    rw [show g (5 + p) * mOb g p = sg (fun k => g (5 + p) * g (12 + 7 * p + k)) 7 from (sg_cmul 7).symm, ← sg_cmul, ← sg_add]
    exact sg_congr (fun k _ => hdm k)
  have h2 : mOb g p * mLeft g p = sg (fun k => mRm g p k) 7 := by
    unfold mLeft
    rw [Int.mul_sub, Int.mul_comm (mOb g p) (g (5 + p))]
    omega
  have h3 : 0 ≤ sg (fun k => mRm g p k) 7 := by
    have := sg_le (f := fun _ => 0) (h := fun k => mRm g p k) 7 (fun k _ => (mRm_bd h).1)
    rw [sg_zero 7 (fun _ _ => rfl)] at this
    exact this
  have h4 : sg (fun k => mRm g p k) 7 ≤ mOb g p * mCn g p := by
    unfold mCn
    rw [← sg_cmul]
    refine sg_le 7 (fun k hk => ?_)
    have hd := (hg.2.2.1 p k hp hk).1
    by_cases h0 : 0 < g (12 + 7 * p + k)
    · rw [bI_t h0, Int.mul_one]; exact Int.le_of_lt (mRm_bd h).2
    · rw [bI_f h0, Int.mul_zero]
      have h9 : g (12 + 7 * p + k) = 0 := by omega
      unfold mRm
      rw [h9, Int.mul_zero, Int.zero_emod]
      exact Int.le_refl _
  refine ⟨?_, ?_⟩
  · by_cases e : 0 ≤ mLeft g p
    · exact e
    · have := Int.mul_neg_of_pos_of_neg h (show mLeft g p < 0 by omega); omega
  · exact Int.le_of_mul_le_mul_left (show mOb g p * mLeft g p ≤ mOb g p * mCn g p by omega) h
theorem mCn_7 {g : Nat → Int} {p : Nat} : 0 ≤ mCn g p ∧ mCn g p ≤ 7 := by
  have := sg_bd (f := fun k => bI (0 < g (12 + 7 * p + k))) (n := 7) (M := 1) (fun k _ => by rcases bI_01 (P := 0 < g (12 + 7 * p + k)) with h | h <;> omega)
  unfold mCn; omega
/-- who has a coin more after L coins -/
def hmF (g : Nat → Int) (p : Nat) (L : Int) (k : Nat) : Int := bI (0 < g (12 + 7 * p + k) ∧ mRank g p k < L)
/-- the best so far of those that have none -/
def bsF (g : Nat → Int) (p : Nat) (L : Int) : Nat → Int
  | 0 => -1
  | i + 1 => if 0 < g (12 + 7 * p + i) ∧ ¬ mRank g p i < L ∧ (bsF g p L i = -1 ∨ mRm g p (bsF g p L i).toNat < mRm g p i) then i else bsF g p L i
theorem bs_bd {g : Nat → Int} {p : Nat} {L : Int} : ∀ i, -1 ≤ bsF g p L i ∧ bsF g p L i < i := by
  intro i
  induction i with
  | zero => rw [show bsF g p L 0 = -1 from rfl]; exact ⟨by decide, by decide⟩
  | succ i ih =>
    unfold bsF
    split
    · exact ⟨by omega, by omega⟩
    · exact ⟨ih.1, by omega⟩
theorem bs_t {g : Nat → Int} {p : Nat} {L : Int} {i : Nat} (h1 : 0 < g (12 + 7 * p + i)) (h2 : ¬ mRank g p i < L) (h3 : bsF g p L i = -1 ∨ mRm g p (bsF g p L i).toNat < mRm g p i) : bsF g p L (i + 1) = i := if_pos ⟨h1, h2, h3⟩
theorem bs_f {g : Nat → Int} {p : Nat} {L : Int} {i : Nat} (h : ¬ (0 < g (12 + 7 * p + i) ∧ ¬ mRank g p i < L ∧ (bsF g p L i = -1 ∨ mRm g p (bsF g p L i).toNat < mRm g p i))) : bsF g p L (i + 1) = bsF g p L i := if_neg h
theorem bs_max {g : Nat → Int} {p : Nat} {L : Int} : ∀ i, (bsF g p L i = -1 → ∀ k, k < i → 0 < g (12 + 7 * p + k) → mRank g p k < L) ∧ (0 ≤ bsF g p L i → 0 < g (12 + 7 * p + (bsF g p L i).toNat) ∧ ¬ mRank g p (bsF g p L i).toNat < L ∧ ∀ k, k < i → k ≠ (bsF g p L i).toNat → 0 < g (12 + 7 * p + k) → ¬ mRank g p k < L → mAh g p k (bsF g p L i).toNat) := by
  intro i
  induction i with
  | zero => rw [show bsF g p L 0 = -1 from rfl]; exact ⟨fun _ k hk => by omega, fun h => absurd h (by decide)⟩
  | succ i ih =>
    have hbd := bs_bd (g := g) (p := p) (L := L) i
    by_cases c : 0 < g (12 + 7 * p + i) ∧ ¬ mRank g p i < L ∧ (bsF g p L i = -1 ∨ mRm g p (bsF g p L i).toNat < mRm g p i)
    · rw [bs_t c.1 c.2.1 c.2.2]
      refine ⟨fun h => by omega, fun _ => ?_⟩
      rw [Int.toNat_natCast]
      refine ⟨c.1, c.2.1, fun k hk hne hc hr => ?_⟩
      rcases c.2.2 with e | e
      · exact absurd (ih.1 e k (by omega) hc) hr
      · refine ⟨c.1, Or.inl ?_⟩
        by_cases hb0 : 0 ≤ bsF g p L i
        · by_cases e2 : k = (bsF g p L i).toNat
          · rw [e2]; omega
          · obtain ⟨-, h9⟩ := (ih.2 hb0).2.2 k (by omega) e2 hc hr
            omega
        · exact absurd (ih.1 (by omega) k (by omega) hc) hr
    · rw [bs_f c]
      refine ⟨fun h k hk hc => ?_, fun h => ⟨(ih.2 h).1, (ih.2 h).2.1, fun k hk hne hc hr => ?_⟩⟩
      · by_cases e : k = i
        · subst e
          by_cases hr : mRank g p k < L
          · exact hr
          · exact absurd ⟨hc, hr, Or.inl h⟩ c
        · exact ih.1 h k (by omega) hc
      · by_cases e : k = i
        · subst e
          have h9 : ¬ mRm g p (bsF g p L k).toNat < mRm g p k := fun q => c ⟨hc, hr, Or.inr q⟩
          refine ⟨(ih.2 h).1, ?_⟩
          by_cases e2 : mRm g p (bsF g p L k).toNat = mRm g p k
          · exact Or.inr ⟨by omega, by omega⟩
          · exact Or.inl (by omega)
        · exact (ih.2 h).2.2 k (by omega) hne hc hr
theorem sg_ex {f h : Nat → Int} : ∀ n, sg f n < sg h n → ∃ k, k < n ∧ f k < h k := by
  intro n
  induction n with
  | zero => intro q; exact absurd (show (0 : Int) < 0 from q) (by decide)
  | succ n ih =>
    intro q
    rw [sg_succ, sg_succ] at q
    by_cases c : f n < h n
    · exact ⟨n, by omega, c⟩
    · obtain ⟨k, h1, h2⟩ := ih (by omega)
      exact ⟨k, by omega, h2⟩
theorem bs_rank {g : Nat → Int} {B : Int} (hg : gOk g B) {n : Nat} (hn : g 0 = n ∧ n ≤ 7) {p : Nat} (hp : p < 7) {L : Nat} (hL : (L : Int) < mCn g p) : 0 ≤ bsF g p L n ∧ mRank g p (bsF g p L n).toNat = L ∧ 0 < g (12 + 7 * p + (bsF g p L n).toNat) := by
  have hbd := bs_bd (g := g) (p := p) (L := L) n
  have hlt : ∀ k, k < 7 → 0 < g (12 + 7 * p + k) → k < n := fun k hk hc => by
    by_cases e : k < n
    · exact e
    · have := hg.2.2.2.1 p k hp hk (Or.inr (Or.inl (by omega))); omega
  have hcnt := rank_cnt (g := g) (p := p) L (by omega)
  obtain ⟨k, hk, hkl⟩ := sg_ex (f := fun k => bI (0 < g (12 + 7 * p + k) ∧ mRank g p k < L)) (h := fun k => bI (0 < g (12 + 7 * p + k))) 7 (by rw [hcnt]; exact hL)
  have hc : 0 < g (12 + 7 * p + k) ∧ ¬ mRank g p k < L := by
    by_cases c : 0 < g (12 + 7 * p + k)
    · refine ⟨c, fun q => ?_⟩
      rw [bI_t (P := 0 < g (12 + 7 * p + k) ∧ mRank g p k < L) ⟨c, q⟩, bI_t c] at hkl
      omega
    · rw [bI_f (P := 0 < g (12 + 7 * p + k)) c] at hkl
      rcases bI_01 (P := 0 < g (12 + 7 * p + k) ∧ mRank g p k < L) with h | h <;> omega
  have hm := bs_max (g := g) (p := p) (L := L) n
  have hb0 : 0 ≤ bsF g p L n := by
    by_cases e : 0 ≤ bsF g p L n
    · exact e
    · exact absurd (hm.1 (by omega) k (hlt k hk hc.1) hc.1) hc.2
  obtain ⟨m1, m2, m3⟩ := hm.2 hb0
  refine ⟨hb0, ?_, m1⟩
  have h5 : mRank g p (bsF g p L n).toNat ≤ L := by
    have : sg (fun j => mAhB g p (bsF g p L n).toNat j) 7 ≤ sg (fun j => bI (0 < g (12 + 7 * p + j) ∧ mRank g p j < L)) 7 := by
      refine sg_le 7 (fun j hj => ?_)
      rcases mAh_d g p (bsF g p L n).toNat j with a | a
      · rw [mAhB_t a, bI_t (P := 0 < g (12 + 7 * p + j) ∧ mRank g p j < L) ⟨a.1, Decidable.by_contra (fun q => ?_)⟩]
        · exact Int.le_refl _
        · have hne : j ≠ (bsF g p L n).toNat := fun e => by rw [e] at a; exact mAh_ir a
          exact mAh_ir (mAh_tr a (m3 j (hlt j hj a.1) hne a.1 q))
      · rw [mAhB_f a]
        rcases bI_01 (P := 0 < g (12 + 7 * p + j) ∧ mRank g p j < L) with h | h <;> omega
    rw [hcnt] at this
    exact this
  omega
theorem hm_0 {g : Nat → Int} {p n : Nat} : (fun _ => (0 : Int)) = tkF (hmF g p 0) n := by
  funext k
  unfold tkF hmF
  have := (mRank_bd (g := g) (p := p) (c := k) (i := 7) (Nat.le_refl _)).1
  rw [bI_f (fun q => by have h9 : sg (fun j => mAhB g p k j) 7 < 0 := q.2; omega)]
  split <;> rfl
theorem hm_s {g : Nat → Int} {p n b L : Nat} (hn : n ≤ 7) (hb : b < n) (hr : mRank g p b = L) (hc : 0 < g (12 + 7 * p + b)) : gU (tkF (hmF g p L) n) b 1 = tkF (hmF g p ((L + 1 : Nat) : Int)) n := by
  funext k
  unfold gU tkF
  by_cases e : k = b
  · subst e
    rw [if_pos rfl, if_pos hb]
    exact (bI_t ⟨hc, by omega⟩).symm
  · rw [if_neg e]
    by_cases hk : k < n
    · rw [if_pos hk, if_pos hk]
      unfold hmF
      by_cases c : 0 < g (12 + 7 * p + k)
      · have hne : mRank g p k ≠ L := by
          rcases mAh_to (g := g) (p := p) e c hc with h | h
          · have := mRank_lt (g := g) (p := p) (a := k) (b := b) (by omega) h; omega
          · have := mRank_lt (g := g) (p := p) (a := b) (b := k) (by omega) h; omega
        by_cases r : mRank g p k < L
        · rw [bI_t (P := _ ∧ mRank g p k < (L : Int)) ⟨c, r⟩, bI_t (P := _ ∧ mRank g p k < ((L + 1 : Nat) : Int)) ⟨c, by omega⟩]
        · rw [bI_f (P := _ ∧ mRank g p k < (L : Int)) (fun q => r q.2), bI_f (P := _ ∧ mRank g p k < ((L + 1 : Nat) : Int)) (fun q => by have := q.2; omega)]
      · rw [bI_f (P := _ ∧ mRank g p k < (L : Int)) (fun q => c q.1), bI_f (P := _ ∧ mRank g p k < ((L + 1 : Nat) : Int)) (fun q => c q.1)]
    · rw [if_neg hk, if_neg hk]
theorem mSh_h {g : Nat → Int} {B : Int} (hg : gOk g B) {p k : Nat} (hp : p < 7) (hk : k < 7) : mSh g p k = mPt g p k + bI (0 < g (12 + 7 * p + k) ∧ mRank g p k < mLeft g p) := by
  have hd := (hg.2.2.1 p k hp hk).1
  unfold mSh
  by_cases h0 : g (12 + 7 * p + k) = 0
  · rw [if_pos h0, bI_f (fun q => by have := q.1; omega)]
    unfold mPt
    rw [h0, Int.mul_zero, Int.zero_ediv]
    rfl
  · rw [if_neg h0]
    by_cases h9 : mRank g p k < mLeft g p
    · rw [bI_t h9, bI_t ⟨by omega, h9⟩]
    · rw [bI_f h9, bI_f (fun q => h9 q.2)]
