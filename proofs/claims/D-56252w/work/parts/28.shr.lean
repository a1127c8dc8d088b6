/-! shares of an insolvent party's cash, and its fall -/
set_option maxRecDepth 100000
theorem cxd {a b : Int} (ha : 0 ≤ a ∧ a ≤ 2000000) (hb : 0 ≤ b ∧ b ≤ 999) : 0 ≤ a * b ∧ a * b ≤ 1998000000 := by
  refine ⟨Int.mul_nonneg ha.1 hb.1, ?_⟩
  have h := Int.mul_le_mul ha.2 hb.2 hb.1 (by decide : (0 : Int) ≤ 2000000)
  simpa using h
def mRm (g : Nat → Int) (p k : Nat) : Int := g (5 + p) * g (12 + 7 * p + k) % mOb g p
def mPt (g : Nat → Int) (p k : Nat) : Int := g (5 + p) * g (12 + 7 * p + k) / mOb g p
def mAh (g : Nat → Int) (p c k : Nat) : Prop := 0 < g (12 + 7 * p + k) ∧ (0 < mRm g p k - mRm g p c ∨ (mRm g p k - mRm g p c = 0 ∧ k < c))
theorem mAh_d (g : Nat → Int) (p c k : Nat) : mAh g p c k ∨ ¬ mAh g p c k := Decidable.em (0 < g (12 + 7 * p + k) ∧ (0 < mRm g p k - mRm g p c ∨ (mRm g p k - mRm g p c = 0 ∧ k < c)))
def mAhB (g : Nat → Int) (p c k : Nat) : Int := bI (0 < g (12 + 7 * p + k) ∧ (0 < mRm g p k - mRm g p c ∨ (mRm g p k - mRm g p c = 0 ∧ k < c)))
theorem mAhB_t {g : Nat → Int} {p c k : Nat} (h : mAh g p c k) : mAhB g p c k = 1 := bI_t h
theorem mAhB_f {g : Nat → Int} {p c k : Nat} (h : ¬ mAh g p c k) : mAhB g p c k = 0 := bI_f h
theorem mAhB_01 {g : Nat → Int} {p c k : Nat} : 0 ≤ mAhB g p c k ∧ mAhB g p c k ≤ 1 := by
  rcases mAh_d g p c k with h | h
  · rw [mAhB_t h]; decide
  · rw [mAhB_f h]; decide
def mLeft (g : Nat → Int) (p : Nat) : Int := g (5 + p) - sg (fun k => mPt g p k) 7
def mRank (g : Nat → Int) (p c : Nat) : Int := sg (fun k => mAhB g p c k) 7
def mSh (g : Nat → Int) (p c : Nat) : Int := if g (12 + 7 * p + c) = 0 then 0 else mPt g p c + bI (mRank g p c < mLeft g p)
theorem mRm_bd {g : Nat → Int} {p k : Nat} (h : 0 < mOb g p) : 0 ≤ mRm g p k ∧ mRm g p k < mOb g p := ⟨Int.emod_nonneg _ (by omega), Int.emod_lt_of_pos _ h⟩
theorem le_sg {f : Nat → Int} {n : Nat} (h : ∀ k, k < n → 0 ≤ f k) {k : Nat} (hk : k < n) : f k ≤ sg f n := by
  induction n with
  | zero => omega
  | succ n ih =>
    have nn : ∀ m, m ≤ n → 0 ≤ sg f m := by
      intro m
      induction m with
      | zero => intro _; exact Int.le_refl _
      | succ m ihm => intro hm; rw [sg_succ]; have := ihm (by omega); have := h m (by omega); omega
    rw [sg_succ]
    have := nn n (Nat.le_refl _)
    by_cases e : k = n
    · rw [e]; omega
    · have := ih (fun k hk => h k (by omega)) (by omega)
      have := h n (by omega)
      omega
theorem mPt_bd {g : Nat → Int} {B : Int} (hg : gOk g B) {p k : Nat} (hp : p < 7) (hk : k < 7) (h : 0 < mOb g p) : 0 ≤ mPt g p k ∧ mPt g p k ≤ g (5 + p) := by
  have hc := (hg.2.1 p hp).1
  have hd := (hg.2.2.1 p k hp hk).1
  have hle : g (12 + 7 * p + k) ≤ mOb g p := le_sg (f := fun k => g (12 + 7 * p + k)) (fun k hk => (hg.2.2.1 p k hp hk).1) hk
  refine ⟨Int.ediv_nonneg (Int.mul_nonneg hc hd) (by omega), ?_⟩
  have := Int.mul_le_mul_of_nonneg_left hle hc
  exact Int.le_trans (Int.ediv_le_ediv h this) (by rw [Int.mul_ediv_cancel _ (by omega)]; exact Int.le_refl _)
theorem mLeft_bd {g : Nat → Int} {B : Int} (hg : gOk g B) (hB : B ≤ 2000000) {p : Nat} (hp : p < 7) (h : 0 < mOb g p) {i : Nat} (hi : i ≤ 7) : -14000000 ≤ g (5 + p) - sg (fun k => mPt g p k) i ∧ g (5 + p) - sg (fun k => mPt g p k) i ≤ 2000000 := by
  have hc := hg.2.1 p hp
  have := sg_bd (f := fun k => mPt g p k) (n := i) (M := 2000000) (fun k hk => by
    have := mPt_bd hg hp (show k < 7 by omega) h
    omega)
  have : (i : Int) * 2000000 ≤ 14000000 := by omega
  omega
theorem mRank_bd {g : Nat → Int} {p c i : Nat} (hi : i ≤ 7) : 0 ≤ sg (fun k => mAhB g p c k) i ∧ sg (fun k => mAhB g p c k) i ≤ 7 := by
  have := sg_bd (f := fun k => mAhB g p c k) (n := i) (M := 1) (fun k _ => mAhB_01)
  omega
def fil (f h : Nat → Int) (i : Nat) : Nat → Int := fun k => if k < i then f k else h k
theorem fil_0 {f h : Nat → Int} : fil f h 0 = h := by
  funext k; exact if_neg (by omega)
theorem fil_s {f h : Nat → Int} {i : Nat} : gU (fil f h i) i (f i) = fil f h (i + 1) := by
  funext k
  unfold gU fil
  by_cases e : k = i
  · subst e; rw [if_pos rfl, if_pos (by omega)]
  · rw [if_neg e]
    by_cases e2 : k < i
    · rw [if_pos e2, if_pos (by omega)]
    · rw [if_neg e2, if_neg (by omega)]
theorem fil_r {f h : Nat → Int} {i k : Nat} (e : k < i) : fil f h i k = f k := if_pos e
def flF (g : Nat → Int) (p : Nat) : Nat → (Nat → Int)
  | 0 => g
  | i + 1 => gU (gA (flF g p i) (5 + i) (mSh g p i)) (12 + 7 * p + i) 0
def sFall (g : Nat → Int) (p : Nat) : Nat → Int := gA (gA (gU (flF g p 7) (5 + p) 0) 3 (mOb g p - g (5 + p))) 4 1
def cDecl (g : Nat → Int) (P : Int) : Int := if ¬ mIs g P then 1 else if ¬ 0 < mLk g P.toNat then 2 else 0
def wkF (g : Nat → Int) : Nat → Int
  | 0 => -1
  | i + 1 => if 0 < mLk g i ∧ (wkF g i < 0 ∨ mLk g i > mLk g (wkF g i).toNat) then i else wkF g i
theorem wkF_bd {g : Nat → Int} : ∀ i, -1 ≤ wkF g i ∧ wkF g i < i ∧ (0 ≤ wkF g i → 0 < mLk g (wkF g i).toNat) := by
  intro i
  induction i with
  | zero => rw [show wkF g 0 = -1 from rfl]; exact ⟨by decide, by decide, fun h => absurd h (by decide)⟩
  | succ i ih =>
    unfold wkF
    split
    · next h => exact ⟨by omega, by omega, fun _ => by rw [Int.toNat_natCast]; exact h.1⟩
    · exact ⟨ih.1, by omega, ih.2.2⟩
def faF (n : Nat) : Nat → (Nat → Int) → (Nat → Int) × Nat
  | 0, g => (g, 0)
  | f + 1, g => if wkF g n < 0 then (g, 0) else ((faF n f (sFall g (wkF g n).toNat)).1, (faF n f (sFall g (wkF g n).toNat)).2 + 1)
theorem sg_upd {f : Nat → Int} {j : Nat} {v : Int} : ∀ n, j < n → sg (fun k => if k = j then v else f k) n = sg f n - f j + v := by
  intro n
  induction n with
  | zero => intro h; omega
  | succ n ih =>
    intro h
    rw [sg_succ, sg_succ]
    by_cases e : j = n
    · subst e
      rw [if_pos rfl, sg_congr (g := f) (fun k hk => if_neg (by omega))]
      omega
    · rw [if_neg (by omega), ih (by omega)]
      omega
theorem sg_add {f h : Nat → Int} : ∀ n, sg (fun k => f k + h k) n = sg f n + sg h n := by
  intro n
  induction n with
  | zero => rfl
  | succ n ih => rw [sg_succ, sg_succ, sg_succ, ih]; omega
theorem sg_zero {f : Nat → Int} : ∀ n, (∀ k, k < n → f k = 0) → sg f n = 0 := by
  intro n
  induction n with
  | zero => intro _; rfl
  | succ n ih => intro h; rw [sg_succ, ih (fun k hk => h k (by omega)), h n (by omega)]; rfl
theorem sg_cmul {f : Nat → Int} {v : Int} : ∀ n, sg (fun k => v * f k) n = v * sg f n := by
  intro n
  induction n with
  | zero => exact (Int.mul_zero v).symm
  | succ n ih => rw [sg_succ, sg_succ, ih, Int.mul_add]
theorem sg_le {f h : Nat → Int} : ∀ n, (∀ k, k < n → f k ≤ h k) → sg f n ≤ sg h n := by
  intro n
  induction n with
  | zero => intro _; exact Int.le_refl _
  | succ n ih => intro hk; rw [sg_succ, sg_succ]; have := ih (fun k h => hk k (by omega)); have := hk n (by omega); omega
theorem minE {P : Nat → Prop} {r : Nat → Int} : ∀ n, (∃ k, k < n ∧ P k) → ∃ b, b < n ∧ P b ∧ ∀ k, k < n → P k → r b ≤ r k := by
  intro n
  induction n with
  | zero => rintro ⟨k, h, _⟩; omega
  | succ n ih =>
    intro hx
    by_cases h : ∃ k, k < n ∧ P k
    · obtain ⟨b, h1, h2, h3⟩ := ih h
      by_cases hn : P n ∧ r n < r b
      · refine ⟨n, by omega, hn.1, fun k hk hp => ?_⟩
        by_cases e : k = n
        · rw [e]; exact Int.le_refl _
        · have := h3 k (by omega) hp; omega
      · refine ⟨b, by omega, h2, fun k hk hp => ?_⟩
        by_cases e : k = n
        · subst e
          have : ¬ r k < r b := fun q => hn ⟨hp, q⟩
          omega
        · exact h3 k (by omega) hp
    · obtain ⟨k, hk, hp⟩ := hx
      have e : k = n := by
        by_cases e : k = n
        · exact e
        · exact absurd ⟨k, by omega, hp⟩ h
      subst e
      refine ⟨k, by omega, hp, fun j hj hpj => ?_⟩
      by_cases e2 : j = k
      · rw [e2]; exact Int.le_refl _
      · exact absurd ⟨j, by omega, hpj⟩ h
theorem mAh_tr {g : Nat → Int} {p a b d : Nat} (h : mAh g p b a) (h2 : mAh g p d b) : mAh g p d a := by
  unfold mAh at *; omega
theorem mAh_ir {g : Nat → Int} {p a : Nat} : ¬ mAh g p a a := by
  unfold mAh; omega
theorem mAh_to {g : Nat → Int} {p a b : Nat} (h : a ≠ b) (ha : 0 < g (12 + 7 * p + a)) (hb : 0 < g (12 + 7 * p + b)) : mAh g p b a ∨ mAh g p a b := by
  unfold mAh; omega
theorem mRank_lt {g : Nat → Int} {p a b : Nat} (ha : a < 7) (h : mAh g p b a) : mRank g p a < mRank g p b := by
  unfold mRank
  refine sg_lt (k := a) (fun k hk => ?_) ha ?_
  · rcases mAh_d g p a k with q | q
    · rw [mAhB_t q, mAhB_t (mAh_tr q h)]; exact Int.le_refl _
    · rw [mAhB_f q]; exact mAhB_01.1
  · rw [mAhB_f mAh_ir, mAhB_t h]; decide
/-- how many creditors there are -/
def mCn (g : Nat → Int) (p : Nat) : Int := sg (fun k => bI (0 < g (12 + 7 * p + k))) 7
theorem rank_cnt {g : Nat → Int} {p : Nat} : ∀ L : Nat, (L : Int) ≤ mCn g p → sg (fun k => bI (0 < g (12 + 7 * p + k) ∧ mRank g p k < L)) 7 = L := by
  intro L
  induction L with
  | zero =>
    intro _
    refine sg_zero 7 (fun k hk => bI_f (fun h => ?_))
    have h1 := (mRank_bd (g := g) (p := p) (c := k) (i := 7) (Nat.le_refl _)).1
    have h2 := h.2
    unfold mRank at h2
    omega
  | succ L ih =>
    intro hL
    have ih := ih (by omega)
    have hex : ∃ k, k < 7 ∧ (0 < g (12 + 7 * p + k) ∧ ¬ mRank g p k < L) := by
      by_cases hx : ∃ k, k < 7 ∧ (0 < g (12 + 7 * p + k) ∧ ¬ mRank g p k < L)
      · exact hx
      · have he : sg (fun k => bI (0 < g (12 + 7 * p + k) ∧ mRank g p k < L)) 7 = mCn g p := by
          refine sg_congr (fun k hk => ?_)
          by_cases h0 : 0 < g (12 + 7 * p + k)
          · have h1 : mRank g p k < L := by
              by_cases h1 : mRank g p k < L
              · exact h1
              · exact absurd ⟨k, hk, h0, h1⟩ hx
            rw [bI_t ⟨h0, h1⟩, bI_t h0]
          · rw [bI_f (fun q => h0 q.1), bI_f h0]
        omega
    obtain ⟨b, hb, ⟨hb0, hbL⟩, hmin⟩ := minE (P := fun k => 0 < g (12 + 7 * p + k) ∧ ¬ mRank g p k < L) (r := mRank g p) 7 hex
    have hrb : mRank g p b = L := by
      rw [← ih]
      show sg _ 7 = _
      refine sg_congr (fun k hk => ?_)
      rcases mAh_d g p b k with q | q
      · have h1 := mRank_lt hk q
        have h2 : mRank g p k < L := by
          by_cases h2 : mRank g p k < L
          · exact h2
          · have := hmin k hk ⟨q.1, h2⟩; omega
        rw [mAhB_t q, bI_t ⟨q.1, h2⟩]
      · rw [mAhB_f q, bI_f]
        rintro ⟨h0, h1⟩
        by_cases e : k = b
        · subst e; exact hbL h1
        · rcases mAh_to e h0 hb0 with h2 | h2
          · exact q h2
          · have := mRank_lt hb h2; omega
    have hfun : sg (fun k => bI (0 < g (12 + 7 * p + k) ∧ mRank g p k < ((L + 1 : Nat) : Int))) 7 = sg (fun k => if k = b then 1 else bI (0 < g (12 + 7 * p + k) ∧ mRank g p k < L)) 7 := by
      refine sg_congr (fun k hk => ?_)
      by_cases e : k = b
      · subst e; rw [if_pos rfl, bI_t ⟨hb0, by omega⟩]
      · rw [if_neg e]
        by_cases h0 : 0 < g (12 + 7 * p + k)
        · have hne : mRank g p k ≠ L := fun h9 => by
            rcases mAh_to e h0 hb0 with h2 | h2
            · have := mRank_lt hk h2; omega
            · have := mRank_lt hb h2; omega
          by_cases h1 : mRank g p k < L
          · rw [bI_t ⟨h0, by omega⟩, bI_t ⟨h0, h1⟩]
          · rw [bI_f (fun q => by have := q.2; omega), bI_f (fun q => h1 q.2)]
        · rw [bI_f (fun q => h0 q.1), bI_f (fun q => h0 q.1)]
    rw [hfun, sg_upd 7 hb, ih, bI_f (fun q => hbL q.2)]
    omega
theorem mSh_sum {g : Nat → Int} {B : Int} (hg : gOk g B) {p : Nat} (hp : p < 7) (h : 0 < mOb g p) : sg (fun k => mSh g p k) 7 = g (5 + p) := by
  have hdm : ∀ k, g (5 + p) * g (12 + 7 * p + k) = mOb g p * mPt g p k + mRm g p k := fun k => (Int.mul_ediv_add_emod _ _).symm
  have h1 : g (5 + p) * mOb g p = mOb g p * sg (fun k => mPt g p k) 7 + sg (fun k => mRm g p k) 7 := by
    rw [show g (5 + p) * mOb g p = sg (fun k => g (5 + p) * g (12 + 7 * p + k)) 7 from (sg_cmul 7).symm, ← sg_cmul, ← sg_add]
    exact sg_congr (fun k _ => hdm k)
  have hz : ∀ k, g (12 + 7 * p + k) = 0 → mPt g p k = 0 ∧ mRm g p k = 0 := fun k hk => by
    unfold mPt mRm
    rw [hk, Int.mul_zero]
    exact ⟨Int.zero_ediv _, Int.zero_emod _⟩
  have h2 : mOb g p * mLeft g p = sg (fun k => mRm g p k) 7 := by
    unfold mLeft
    rw [Int.mul_sub, Int.mul_comm (mOb g p) (g (5 + p))]
    omega
  have h3 : 0 ≤ sg (fun k => mRm g p k) 7 := by
    have := sg_le (f := fun _ => 0) (h := fun k => mRm g p k) 7 (fun k _ => (mRm_bd h).1)
    rw [sg_zero 7 (fun _ _ => rfl)] at this
    exact this
  have h4 : sg (fun k => mRm g p k) 7 ≤ mOb g p * mCn g p := by
    unfold mCn
    rw [← sg_cmul]
    refine sg_le 7 (fun k hk => ?_)
    have hd := (hg.2.2.1 p k hp hk).1
    by_cases h0 : 0 < g (12 + 7 * p + k)
    · rw [bI_t h0, Int.mul_one]; exact Int.le_of_lt (mRm_bd h).2
    · rw [(hz k (by omega)).2, bI_f h0, Int.mul_zero]; exact Int.le_refl _
  have h5 : 0 ≤ mLeft g p := by
    by_cases e : 0 ≤ mLeft g p
    · exact e
    · have := Int.mul_neg_of_pos_of_neg h (show mLeft g p < 0 by omega); omega
  have h6 : mLeft g p ≤ mCn g p := by
    have := Int.le_of_mul_le_mul_left (show mOb g p * mLeft g p ≤ mOb g p * mCn g p by omega) h
    exact this
  have h7 := rank_cnt (g := g) (p := p) (mLeft g p).toNat (by omega)
  have h8 : sg (fun k => mSh g p k) 7 = sg (fun k => mPt g p k + bI (0 < g (12 + 7 * p + k) ∧ mRank g p k < ((mLeft g p).toNat : Int))) 7 := by
    refine sg_congr (fun k hk => ?_)
    have hd := (hg.2.2.1 p k hp hk).1
    unfold mSh
    by_cases h0 : g (12 + 7 * p + k) = 0
    · rw [if_pos h0, (hz k h0).1, bI_f (fun q => by have := q.1; omega)]; rfl
    · rw [if_neg h0]
      by_cases h9 : mRank g p k < mLeft g p
      · rw [bI_t h9, bI_t ⟨by omega, by omega⟩]
      · rw [bI_f h9, bI_f (fun q => h9 (by have := q.2; omega))]
  rw [h8, sg_add, h7]
  have h10 : mLeft g p = g (5 + p) - sg (fun k => mPt g p k) 7 := rfl
  show sg (fun k => mPt g p k) 7 + ((mLeft g p).toNat : Int) = _
  omega
/-- how many parties owe something -/
def gNo (g : Nat → Int) : Int := sg (fun k => bI (0 < mOb g k)) 7
theorem mLk_ob {g : Nat → Int} {B : Int} (hg : gOk g B) {p : Nat} (hp : p < 7) (h : 0 < mLk g p) : 0 < mOb g p := by
  have a := mCl_bd hg hp
  have b := hg.2.1 p hp
  unfold mLk at h
  omega
theorem mLk_bd {g : Nat → Int} {B : Int} (hg : gOk g B) (hB : B ≤ 2000000) {p : Nat} (hp : p < 7) : -2006993 ≤ mLk g p ∧ mLk g p ≤ 6993 := by
  have a := mCl_bd hg hp
  have b := hg.2.1 p hp
  have c := mOb_bd hg hp
  unfold mLk; omega
theorem gNo_nn {g : Nat → Int} : 0 ≤ gNo g ∧ gNo g ≤ 7 := by
  have := sg_bd (f := fun k => bI (0 < mOb g k)) (n := 7) (M := 1) (fun k _ => by rcases bI_01 (P := 0 < mOb g k) with h | h <;> rw [h] <;> decide)
  unfold gNo; omega
def faR (x : zT) (n F : Nat) : Int → zT → Prop := fun z y => ∃ s, y = sA (sA x 16 s) 0 (faF n F (x 0)).1 ∧ z = ((faF n F (x 0)).2 : Nat)
def casR (x : zT) (n n6 F : Nat) : Int → zT → Prop := fun z y => ∃ s, y = sA (sA (kF 0 x n6) 16 s) 0 (faF n F (x 0)).1 ∧ z = ((faF n F (x 0)).2 : Nat)
def aheR (x : zT) (n F : Nat) : Int → zT → Prop := fun z y => ∃ s4 s, y = sA (sA (uA x 8 0 0) 4 s4) 16 s ∧ z = ((faF n F (x 0)).2 : Nat)
def decR (x : zT) (n6 : Nat) (P : Int) : Int → zT → Prop := fun z y => (cDecl (x 0) P ≠ 0 ∧ z = 0 ∧ y = uA x 8 0 (cDecl (x 0) P)) ∨ (cDecl (x 0) P = 0 ∧ z = mOb (x 0) P.toNat - x 0 (5 + P.toNat) ∧ ∃ s, y = sA (sA (kF 0 x n6) 16 s) 0 (sFall (x 0) P.toNat))
def cShr (g : Nat → Int) (P P2 : Int) : Int := if ¬ (mIs g P ∧ mIs g P2) then 1 else if ¬ 0 < mLk g P.toNat then 2 else 0
/-- a question with a number of refusal -/
def qcR (x : zT) (C V : Int) : Int → zT → Prop := fun z y => y = uA x 8 0 C ∧ ((C ≠ 0 ∧ z = 0) ∨ (C = 0 ∧ z = V))
theorem qcR_f {x : zT} {C V k : Int} (h : C = k) (hk : k ≠ 0) : ∃ z, iI 0 = iI z ∧ qcR x C V z (uA x 8 0 k) := ⟨0, rfl, by rw [h], Or.inl ⟨by rw [h]; exact hk, rfl⟩⟩
theorem qcR_t {x : zT} {C V : Int} (h : C = 0) : ∃ z, iI V = iI z ∧ qcR x C V z (uA x 8 0 0) := ⟨V, rfl, by rw [h], Or.inr ⟨h, rfl⟩⟩
theorem faF_none {n f : Nat} {g : Nat → Int} (h : wkF g n < 0) : faF n (f + 1) g = (g, 0) := if_pos h
theorem faF_some {n f : Nat} {g : Nat → Int} (h : ¬ wkF g n < 0) : faF n (f + 1) g = ((faF n f (sFall g (wkF g n).toNat)).1, (faF n f (sFall g (wkF g n).toNat)).2 + 1) := if_neg h
theorem flF_hi {g : Nat → Int} {p : Nat} (hp : p < 7) : ∀ i, i ≤ 7 → ∀ k, 61 ≤ k → flF g p i k = g k := by
  intro i
  induction i with
  | zero => intro _ k _; rfl
  | succ i ih =>
    intro hi k hk
    show gU (gA (flF g p i) (5 + i) (mSh g p i)) (12 + 7 * p + i) 0 k = g k
    rw [gU_ne (by omega)]
    unfold gA
    rw [gU_ne (by omega)]
    exact ih (by omega) k hk
theorem sFall_hi {g : Nat → Int} {p : Nat} (hp : p < 7) {k : Nat} (hk : 61 ≤ k) : sFall g p k = g k := by
  unfold sFall gA
  rw [gU_ne (by omega), gU_ne (by omega), gU_ne (by omega)]
  exact flF_hi hp 7 (by omega) k hk
theorem faF_hi {n : Nat} (hn : n ≤ 7) : ∀ f g k, 61 ≤ k → (faF n f g).1 k = g k := by
  intro f
  induction f with
  | zero => intro g k _; rfl
  | succ f ih =>
    intro g k hk
    by_cases h : wkF g n < 0
    · rw [faF_none h]
    · rw [faF_some h]
      have b := wkF_bd (g := g) n
      show (faF n f _).1 k = _
      rw [ih _ k hk]
      exact sFall_hi (by omega) hk
theorem ahead_eq {x : zT} {s G : Nat → Int} (h : ∀ k, 61 ≤ k → G k = x 0 k) : cpF (sA (sA (cpF (uA x 8 0 0) 0 0 4 0 61) 16 s) 0 G) 4 0 0 0 61 = sA (cpF (uA x 8 0 0) 0 0 4 0 61) 16 s := by
  funext a k
  by_cases a0 : a = 0
  · subst a0
    by_cases hk : k < 61
    · simp [cpF, sA, uA, hk]
    · have := h k (by omega)
      simp [cpF, sA, uA, hk, this]
  · by_cases a16 : a = 16
    · subst a16; simp [cpF, sA]
    · simp [cpF, sA, uA, a0, a16]
theorem cash_upd {g : Nat → Int} {j : Nat} {v : Int} (hj : j < 7) : sg (fun k => gU g (5 + j) v (5 + k)) 7 = sg (fun k => g (5 + k)) 7 - g (5 + j) + v := by
  rw [← sg_upd (f := fun k => g (5 + k)) 7 hj]
  refine sg_congr (fun k _ => ?_)
  unfold gU
  by_cases e : k = j
  · rw [if_pos (by omega), if_pos e]
  · rw [if_neg (by omega), if_neg e]
theorem cash_oth {g : Nat → Int} {i : Nat} {v : Int} (hi : i < 5 ∨ 12 ≤ i) : sg (fun k => gU g i v (5 + k)) 7 = sg (fun k => g (5 + k)) 7 := sg_congr (fun k _ => gU_ne (by omega))
theorem gOk_cash {g : Nat → Int} {B : Int} (h : ∀ k : Nat, k < 7 → 0 ≤ g (5 + k)) (hs : sg (fun k => g (5 + k)) 7 ≤ B) : ∀ k : Nat, k < 7 → 0 ≤ g (5 + k) ∧ g (5 + k) ≤ B := fun k hk => ⟨h k hk, Int.le_trans (le_sg (f := fun k => g (5 + k)) h hk) hs⟩
/-- moving what both the cash and the debt bear -/
theorem sMov_ok {g : Nat → Int} {B v : Int} {d c : Nat} (hg : gOk g B) (hd : d < 7) (hc : c < 7) (h0 : 0 ≤ v) (h1 : v ≤ g (5 + d)) (h2 : v ≤ g (12 + 7 * d + c)) : gOk (sMov g d c v) B ∧ sMov g d c v 0 = g 0 := by
  obtain ⟨a1, a2, a3, a4, a5, a6⟩ := hg
  have e0 : sMov g d c v 0 = g 0 := by
    unfold sMov gA
    rw [gU_ne (by omega), gU_ne (by omega), gU_ne (by omega)]
  have hv : d = c → v = 0 := fun e => by have := a4 d c hd hc (Or.inr (Or.inr e)); omega
  have hn : (g 0 ≤ d ∨ g 0 ≤ c) → v = 0 := fun e => by have := a4 d c hd hc (by omega); omega
  have ec : ∀ k : Nat, k < 7 → sMov g d c v (5 + k) = g (5 + k) - (if k = d then v else 0) + (if k = c then v else 0) := by
    intro k hk
    unfold sMov gA gU
    by_cases kc : k = c <;> by_cases kd : k = d
    · subst kc; subst kd; simp; rw [if_neg (by omega)]; omega
    · subst kc; simp [kd]; omega
    · subst kd; simp [kc]; omega
    · simp [kc, kd]; omega
  have ed : ∀ i j : Nat, i < 7 → j < 7 → sMov g d c v (12 + 7 * i + j) = g (12 + 7 * i + j) - (if i = d ∧ j = c then v else 0) := by
    intro i j hi hj
    unfold sMov gA
    rw [gU_ne (by omega), gU_ne (by omega)]
    unfold gU
    by_cases e : i = d ∧ j = c
    · rw [if_pos (by omega), if_pos e, e.1, e.2]; omega
    · rw [if_neg (by omega), if_neg e]; omega
  have es : sg (fun k => sMov g d c v (5 + k)) 7 = sg (fun k => g (5 + k)) 7 := by
    unfold sMov
    unfold gA
    rw [cash_upd hc, cash_upd hd, cash_oth (by omega)]
    by_cases e : d = c
    · subst e; rw [hv rfl, gU_eq, gU_ne (by omega)]; omega
    · rw [gU_ne (by omega), gU_ne (by omega), gU_ne (by omega)]; omega
  refine ⟨⟨by rw [e0]; exact a1, gOk_cash (fun k hk => ?_) (by rw [es]; exact a6), fun i j hi hj => ?_, fun i j hi hj hz => ?_, fun k hk hz => ?_, by rw [es]; exact a6⟩, e0⟩
  · rw [ec k hk]
    have := (a2 k hk).1
    by_cases kd : k = d
    · subst kd; simp; split <;> omega
    · simp [kd]; split <;> omega
  · rw [ed i j hi hj]
    have := a3 i j hi hj
    split
    · next e => obtain ⟨rfl, rfl⟩ := e; omega
    · omega
  · rw [e0] at hz
    rw [ed i j hi hj, a4 i j hi hj hz]
    split
    · next e => obtain ⟨rfl, rfl⟩ := e; have := a4 i j hi hj hz; omega
    · rfl
  · rw [e0] at hz
    rw [ec k hk, a5 k hk hz]
    by_cases kd : k = d
    · rw [hn (by omega)]; simp
    · by_cases kc : k = c
      · rw [hn (by omega)]; simp
      · simp [kd, kc]
/-- calling in all that is owed -/
def ciF (k : Nat) : Nat → (Nat → Int) × Int → (Nat → Int) × Int
  | 0, a => a
  | o + 1, a => (sMov (ciF k o a).1 k o (min ((ciF k o a).1 (5 + k)) ((ciF k o a).1 (12 + 7 * k + o))), (ciF k o a).2 + min ((ciF k o a).1 (5 + k)) ((ciF k o a).1 (12 + 7 * k + o)))
def coF (n : Nat) (g : Nat → Int) : Nat → (Nat → Int) × Int
  | 0 => (g, 0)
  | k + 1 => ciF k n (coF n g k)
def sCall (n : Nat) (g : Nat → Int) : (Nat → Int) × Int := coF n (gA g 1 1) n
theorem gOk_lo {g : Nat → Int} {B v : Int} {i : Nat} (hg : gOk g B) (h : 0 < i ∧ i < 5) : gOk (gU g i v) B := by
  obtain ⟨a1, a2, a3, a4, a5, a6⟩ := hg
  refine ⟨by rw [gU_ne (by omega)]; exact a1, fun k hk => by rw [gU_ne (by omega)]; exact a2 k hk, fun i j hi hj => by rw [gU_ne (by omega)]; exact a3 i j hi hj, fun i j hi hj hz => by rw [gU_ne (by omega)] at hz ⊢; exact a4 i j hi hj hz, fun k hk hz => by rw [gU_ne (by omega)] at hz ⊢; exact a5 k hk hz, by rw [cash_oth (by omega)]; exact a6⟩
theorem flF_c {g : Nat → Int} {p : Nat} : ∀ i, i ≤ 7 → ∀ k, k < 7 → flF g p i (5 + k) = g (5 + k) + (if k < i then mSh g p k else 0) := by
  intro i
  induction i with
  | zero => intro _ k _; show g (5 + k) = _; rw [if_neg (by omega)]; omega
  | succ i ih =>
    intro hi k hk
    show gU (gA (flF g p i) (5 + i) (mSh g p i)) (12 + 7 * p + i) 0 (5 + k) = _
    rw [gU_ne (by omega)]
    unfold gA
    by_cases e : k = i
    · subst e
      rw [gU_eq, ih (by omega) k hk, if_neg (by omega), if_pos (by omega)]; omega
    · rw [gU_ne (by omega), ih (by omega) k hk]
      by_cases e2 : k < i
      · rw [if_pos e2, if_pos (by omega)]
      · rw [if_neg e2, if_neg (by omega)]
theorem flF_d {g : Nat → Int} {p : Nat} : ∀ i, i ≤ 7 → ∀ j, 12 ≤ j → flF g p i j = if 12 + 7 * p ≤ j ∧ j < 12 + 7 * p + i then 0 else g j := by
  intro i
  induction i with
  | zero => intro _ j _; show g j = _; rw [if_neg (by omega)]
  | succ i ih =>
    intro hi j hj
    show gU (gA (flF g p i) (5 + i) (mSh g p i)) (12 + 7 * p + i) 0 j = _
    by_cases e : j = 12 + 7 * p + i
    · subst e; rw [gU_eq, if_pos (by omega)]
    · rw [gU_ne e]
      unfold gA
      rw [gU_ne (by omega), ih (by omega) j hj]
      by_cases e2 : 12 + 7 * p ≤ j ∧ j < 12 + 7 * p + i
      · rw [if_pos e2, if_pos (by omega)]
      · rw [if_neg e2, if_neg (by omega)]
theorem flF_l {g : Nat → Int} {p : Nat} : ∀ i, i ≤ 7 → ∀ j, j < 5 → flF g p i j = g j := by
  intro i
  induction i with
  | zero => intro _ j _; rfl
  | succ i ih =>
    intro hi j hj
    show gU (gA (flF g p i) (5 + i) (mSh g p i)) (12 + 7 * p + i) 0 j = _
    rw [gU_ne (by omega)]
    unfold gA
    rw [gU_ne (by omega)]
    exact ih (by omega) j hj
theorem mSh_nn {g : Nat → Int} {B : Int} (hg : gOk g B) {p k : Nat} (hp : p < 7) (hk : k < 7) (h : 0 < mOb g p) : 0 ≤ mSh g p k := by
  have a := mPt_bd hg hp hk h
  unfold mSh
  split
  · omega
  · rcases bI_01 (P := mRank g p k < mLeft g p) with e | e <;> rw [e] <;> omega
theorem sFall_ok {g : Nat → Int} {B : Int} {p : Nat} (hg : gOk g B) (hB : B ≤ 2000000) (hp : p < 7) (hk : 0 < mLk g p) : gOk (sFall g p) B ∧ gNo (sFall g p) < gNo g ∧ (sFall g p) 0 = g 0 := by
  have hob := mLk_ob hg hp hk
  have hg0 := hg
  obtain ⟨a1, a2, a3, a4, a5, a6⟩ := hg
  have hpp : g (12 + 7 * p + p) = 0 := a4 p p hp hp (Or.inr (Or.inr rfl))
  have hsp : mSh g p p = 0 := if_pos hpp
  have e0 : sFall g p 0 = g 0 := by
    unfold sFall gA
    rw [gU_ne (by omega), gU_ne (by omega), gU_ne (by omega)]
    exact flF_l 7 (Nat.le_refl _) 0 (by omega)
  have ec : ∀ k : Nat, k < 7 → sFall g p (5 + k) = if k = p then 0 else g (5 + k) + mSh g p k := by
    intro k hk
    unfold sFall gA
    rw [gU_ne (by omega), gU_ne (by omega)]
    by_cases e : k = p
    · subst e; rw [gU_eq, if_pos rfl]
    · rw [gU_ne (by omega), if_neg e, flF_c 7 (Nat.le_refl _) k hk, if_pos hk]
  have ed : ∀ i j : Nat, i < 7 → j < 7 → sFall g p (12 + 7 * i + j) = if i = p then 0 else g (12 + 7 * i + j) := by
    intro i j hi hj
    unfold sFall gA
    rw [gU_ne (by omega), gU_ne (by omega), gU_ne (by omega), flF_d 7 (Nat.le_refl _) _ (by omega)]
    by_cases e : i = p
    · subst e; rw [if_pos (by omega), if_pos rfl]
    · rw [if_neg (by omega), if_neg e]
  have es : sg (fun k => sFall g p (5 + k)) 7 = sg (fun k => g (5 + k)) 7 := by
    have h1 : sg (fun k => sFall g p (5 + k)) 7 = sg (fun k => if k = p then 0 else g (5 + k) + mSh g p k) 7 := sg_congr (fun k hk => ec k hk)
    have h2 : sg (fun k => if k = p then 0 else g (5 + k) + mSh g p k) 7 = sg (fun k => g (5 + k) + mSh g p k) 7 - (g (5 + p) + mSh g p p) + 0 := sg_upd (f := fun k => g (5 + k) + mSh g p k) (v := 0) 7 hp
    have h3 : sg (fun k => g (5 + k) + mSh g p k) 7 = sg (fun k => g (5 + k)) 7 + sg (fun k => mSh g p k) 7 := sg_add 7
    have h4 := mSh_sum hg0 hp hob
    omega
  refine ⟨⟨by rw [e0]; exact a1, gOk_cash (fun k hk => ?_) (by rw [es]; exact a6), fun i j hi hj => ?_, fun i j hi hj hz => ?_, fun k hk hz => ?_, by rw [es]; exact a6⟩, ?_, e0⟩
  · rw [ec k hk]
    split
    · exact Int.le_refl _
    · have := (a2 k hk).1
      have := mSh_nn hg0 hp hk hob
      omega
  · rw [ed i j hi hj]
    split
    · decide
    · exact a3 i j hi hj
  · rw [e0] at hz
    rw [ed i j hi hj]
    split
    · rfl
    · exact a4 i j hi hj hz
  · rw [e0] at hz
    rw [ec k hk]
    split
    · rfl
    · rw [a5 k hk hz, show mSh g p k = 0 from if_pos (a4 p k hp hk (Or.inr (Or.inl hz)))]; rfl
  · have hz : mOb (sFall g p) p = 0 := sg_zero 7 (fun k hk => by rw [ed p k hp hk, if_pos rfl])
    have hs : ∀ k, k < 7 → k ≠ p → mOb (sFall g p) k = mOb g k := fun k hk hne => sg_congr (fun j hj => by rw [ed k j hk hj, if_neg hne])
    refine sg_lt (k := p) (fun k hk => ?_) hp ?_
    · by_cases e : k = p
      · subst e; rw [bI_f (by omega)]; rcases bI_01 (P := 0 < mOb g k) with h | h <;> rw [h] <;> decide
      · rw [hs k hk e]; exact Int.le_refl _
    · rw [bI_f (by omega), bI_t hob]; decide
