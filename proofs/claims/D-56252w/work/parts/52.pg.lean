/-! what the twin is told, and rows that agree but for what is only scratch -/
set_option maxRecDepth 100000
abbrev rgT (t : Nat → Int) : Prop := ∀ k, 0 ≤ t k ∧ t k ≤ 999
/-- a step on command tm writes only that command's places -/
def mdS (tm : Nat) (t : Nat → Int) (r : pR) : Prop := (∀ k, (k < 4 * tm ∨ 4 * tm + 3 < k) → r.2.2 k = t k) ∧ (rgT t → rgT r.2.2)
def kpS (tm : Nat) (t : Nat → Int) (r : pR) : Prop := r.2.2 (4 * tm) = t (4 * tm)
def kdS (tm : Nat) (r : pR) : Prop := r.1 = true → 0 ≤ r.2.2 (4 * tm) ∧ r.2.2 (4 * tm) ≤ 9
theorem mdS_self {tm a : Nat} {t : Nat → Int} {b : Bool} : mdS tm t (b, a, t) := ⟨fun _ _ => rfl, fun h => h⟩
theorem ifS_md {tm : Nat} {t : Nat → Int} {r : pR} {g h : Nat × (Nat → Int) → pR} (hr : mdS tm t r) (hg : ∀ a1 t1, mdS tm t1 (g (a1, t1))) (hh : ∀ a1 t1, mdS tm t1 (h (a1, t1))) : mdS tm t (ifS r g h) := by
  obtain ⟨b, a1, t1⟩ := r
  obtain ⟨h1, h2⟩ := hr
  cases b with
  | true => exact ⟨fun k hk => ((hg a1 t1).1 k hk).trans (h1 k hk), fun q => (hg a1 t1).2 (h2 q)⟩
  | false => exact ⟨fun k hk => ((hh a1 t1).1 k hk).trans (h1 k hk), fun q => (hh a1 t1).2 (h2 q)⟩
theorem noS_md {tm a : Nat} {t : Nat → Int} : mdS tm t (noS (a, t)) := mdS_self
theorem anS_md {tm : Nat} {t : Nat → Int} {r : pR} {g : Nat × (Nat → Int) → pR} (hr : mdS tm t r) (hg : ∀ a1 t1, mdS tm t1 (g (a1, t1))) : mdS tm t (anS r g) := ifS_md hr hg (fun _ _ => noS_md)
theorem skS_md {inp : Nat → Int} {len tm a : Nat} {t : Nat → Int} {ch : Int} : mdS tm t (skS inp len ch (a, t)) := by
  unfold skS; split <;> exact mdS_self
theorem gU_md {tm k a : Nat} {t : Nat → Int} {v : Int} {b : Bool} (hk : 4 * tm ≤ k ∧ k ≤ 4 * tm + 3) (hv : 0 ≤ v ∧ v ≤ 999) : mdS tm t (b, a, gU t k v) := ⟨fun j hj => gU_ne (by omega), fun h j => by
  show 0 ≤ gU t k v j ∧ gU t k v j ≤ 999
  unfold gU; split
  · exact hv
  · exact h j⟩
theorem dgF_bd {inp : Nat → Int} {len : Nat} : ∀ (m a : Nat) (v : Int), 0 ≤ v → 0 ≤ (dgF inp len m a v).2 ∧ (dgF inp len m a v).2 + 1 ≤ (v + 1) * 10 ^ m := by
  intro m
  induction m with
  | zero => intro a v h; exact ⟨h, by show v + 1 ≤ (v + 1) * 10 ^ 0; omega⟩
  | succ m ih =>
    intro a v h
    unfold dgF
    split
    · next e =>
      have := ih (a + 1) (10 * v + hrF inp len a - 48) (by omega)
      refine ⟨this.1, Int.le_trans this.2 ?_⟩
      rw [show (v + 1) * 10 ^ (m + 1) = ((v + 1) * 10) * 10 ^ m from by rw [Int.pow_succ, Int.mul_comm (10 ^ m) 10, Int.mul_assoc]]
      exact Int.mul_le_mul_of_nonneg_right (by omega) (Int.pow_nonneg (by omega))
    · refine ⟨h, ?_⟩
      show v + 1 ≤ (v + 1) * 10 ^ (m + 1)
      have h1 : (1 : Int) ≤ 10 ^ (m + 1) := Int.pow_pos (by omega)
      have := Int.mul_le_mul_of_nonneg_left h1 (show 0 ≤ v + 1 by omega)
      omega
theorem dgS_md {inp : Nat → Int} {len tm pl m a : Nat} {t : Nat → Int} (hp : 4 * tm ≤ pl ∧ pl ≤ 4 * tm + 3) (hm : m ≤ 3) : mdS tm t (dgS inp len pl m (a, t)) := by
  unfold dgS
  split
  · have h1 := dgF_bd (inp := inp) (len := len) m a 0 (by omega)
    refine gU_md hp ⟨h1.1, ?_⟩
    have h2 := h1.2
    obtain rfl | rfl | rfl | rfl : m = 0 ∨ m = 1 ∨ m = 2 ∨ m = 3 := by omega
    all_goals (show (dgF inp len _ a 0).2 ≤ 999; omega)
  · exact mdS_self
theorem wdS_md {inp : Nat → Int} {len tm a : Nat} {t : Nat → Int} {v : Int} {w : List Nat} (hv : 0 ≤ v ∧ v ≤ 999) : mdS tm t (wdS inp len tm v w (a, t)) := gU_md (by omega) hv
theorem fgS_md {inp : Nat → Int} {len tm pl m a : Nat} {t : Nat → Int} (hp : 4 * tm ≤ pl ∧ pl ≤ 4 * tm + 3) (hm : m ≤ 3) : mdS tm t (fgS inp len pl m (a, t)) := anS_md skS_md (fun _ _ => dgS_md hp hm)
theorem prS_md {inp : Nat → Int} {len tm pl a : Nat} {t : Nat → Int} (hp : 4 * tm ≤ pl ∧ pl ≤ 4 * tm + 2) : mdS tm t (prS inp len pl (a, t)) := anS_md (fgS_md (by omega) (by omega)) (fun _ _ => dgS_md (by omega) (by omega))
theorem wcS_md {inp : Nat → Int} {len tm a : Nat} {t : Nat → Int} : mdS tm t (wcS inp len tm (4 * tm + 1) (a, t)) := by
  unfold wcS
  exact ifS_md skS_md (fun _ _ => wdS_md (by decide)) (fun _ _ => ifS_md skS_md (fun _ _ => ifS_md skS_md (fun _ _ => wdS_md (by decide)) (fun _ _ => ifS_md skS_md (fun _ _ => ifS_md skS_md (fun _ _ => wdS_md (by decide)) (fun _ _ => anS_md (wdS_md (by decide)) (fun _ _ => anS_md (fgS_md (by omega) (by omega)) (fun _ _ => fgS_md (by omega) (by omega))))) (fun _ _ => noS_md))) (fun _ _ => noS_md))
theorem cmS_md {inp : Nat → Int} {len tm a : Nat} {t : Nat → Int} : mdS tm t (cmS inp len tm (a, t)) := by
  unfold cmS
  exact ifS_md skS_md (fun _ _ => anS_md (wdS_md (by decide)) (fun _ _ => fgS_md (by omega) (by omega))) (fun _ _ => ifS_md skS_md (fun _ _ => wcS_md) (fun _ _ => ifS_md skS_md (fun _ _ => anS_md (wdS_md (by decide)) (fun _ _ => anS_md (prS_md (by omega)) (fun _ _ => fgS_md (by omega) (by omega)))) (fun _ _ => ifS_md skS_md (fun _ _ => wdS_md (by decide)) (fun _ _ => ifS_md skS_md (fun _ _ => anS_md (wdS_md (by decide)) (fun _ _ => fgS_md (by omega) (by omega))) (fun _ _ => ifS_md skS_md (fun _ _ => ifS_md skS_md (fun _ _ => ifS_md skS_md (fun _ _ => anS_md (wdS_md (by decide)) (fun _ _ => prS_md (by omega))) (fun _ _ => anS_md (wdS_md (by decide)) (fun _ _ => anS_md (prS_md (by omega)) (fun _ _ => fgS_md (by omega) (by omega))))) (fun _ _ => noS_md)) (fun _ _ => noS_md))))))
/- the command's number stands when its word is met -/
theorem ifS_kd {tm : Nat} {r : pR} {g h : Nat × (Nat → Int) → pR} (hg : ∀ a1 t1, kdS tm (g (a1, t1))) (hh : ∀ a1 t1, kdS tm (h (a1, t1))) : kdS tm (ifS r g h) := by
  obtain ⟨b, a1, t1⟩ := r
  cases b with
  | true => exact hg a1 t1
  | false => exact hh a1 t1
theorem noS_kd {tm a : Nat} {t : Nat → Int} : kdS tm (noS (a, t)) := fun q => by cases q
theorem wdS_kd {inp : Nat → Int} {len tm a : Nat} {t : Nat → Int} {v : Int} {w : List Nat} (hv : 0 ≤ v ∧ v ≤ 9) : kdS tm (wdS inp len tm v w (a, t)) := fun _ => by
  show 0 ≤ gU t (4 * tm) v (4 * tm) ∧ gU t (4 * tm) v (4 * tm) ≤ 9
  rw [gU_eq]; exact hv
/-- what follows the word leaves the number -/
def nkS (tm : Nat) (g : Nat × (Nat → Int) → pR) : Prop := ∀ a t, (g (a, t)).2.2 (4 * tm) = t (4 * tm)
theorem skS_nk {inp : Nat → Int} {len tm : Nat} {ch : Int} : nkS tm (skS inp len ch) := fun a t => by unfold skS; split <;> rfl
theorem dgS_nk {inp : Nat → Int} {len tm pl m : Nat} (h : 4 * tm < pl) : nkS tm (dgS inp len pl m) := fun a t => by
  unfold dgS; split
  · exact gU_ne (by omega)
  · rfl
theorem anS_nk {tm : Nat} {f g : Nat × (Nat → Int) → pR} (hf : nkS tm f) (hg : nkS tm g) : nkS tm (fun s => anS (f s) g) := fun a t => by
  have h1 := hf a t
  show (anS (f (a, t)) g).2.2 (4 * tm) = _
  cases hq : f (a, t) with
  | mk b q =>
    obtain ⟨a1, t1⟩ := q
    rw [hq] at h1
    cases b with
    | true => exact (hg a1 t1).trans h1
    | false => exact h1
theorem fgS_nk {inp : Nat → Int} {len tm pl m : Nat} (h : 4 * tm < pl) : nkS tm (fgS inp len pl m) := anS_nk skS_nk (dgS_nk h)
theorem prS_nk {inp : Nat → Int} {len tm pl : Nat} (h : 4 * tm < pl) : nkS tm (prS inp len pl) := anS_nk (fgS_nk h) (dgS_nk (by omega))
theorem wn_kd {inp : Nat → Int} {len tm a : Nat} {t : Nat → Int} {v : Int} {w : List Nat} {g : Nat × (Nat → Int) → pR} (hv : 0 ≤ v ∧ v ≤ 9) (hg : nkS tm g) : kdS tm (anS (wdS inp len tm v w (a, t)) g) := by
  unfold anS wdS
  cases (swF inp len w a).1 with
  | true =>
    intro _
    rw [ifS_t, hg, gU_eq]; exact hv
  | false => exact noS_kd
theorem wcS_kd {inp : Nat → Int} {len tm a : Nat} {t : Nat → Int} : kdS tm (wcS inp len tm (4 * tm + 1) (a, t)) := by
  unfold wcS
  exact ifS_kd (fun _ _ => wdS_kd (by decide)) (fun _ _ => ifS_kd (fun _ _ => ifS_kd (fun _ _ => wdS_kd (by decide)) (fun _ _ => ifS_kd (fun _ _ => ifS_kd (fun _ _ => wdS_kd (by decide)) (fun _ _ => wn_kd (by decide) (anS_nk (fgS_nk (by omega)) (fgS_nk (by omega))))) (fun _ _ => noS_kd))) (fun _ _ => noS_kd))
theorem cmS_kd {inp : Nat → Int} {len tm a : Nat} {t : Nat → Int} : kdS tm (cmS inp len tm (a, t)) := by
  unfold cmS
  exact ifS_kd (fun _ _ => wn_kd (by decide) (fgS_nk (by omega))) (fun _ _ => ifS_kd (fun _ _ => wcS_kd) (fun _ _ => ifS_kd (fun _ _ => wn_kd (by decide) (anS_nk (prS_nk (by omega)) (fgS_nk (by omega)))) (fun _ _ => ifS_kd (fun _ _ => wdS_kd (by decide)) (fun _ _ => ifS_kd (fun _ _ => wn_kd (by decide) (fgS_nk (by omega))) (fun _ _ => ifS_kd (fun _ _ => ifS_kd (fun _ _ => ifS_kd (fun _ _ => wn_kd (by decide) (prS_nk (by omega))) (fun _ _ => wn_kd (by decide) (anS_nk (prS_nk (by omega)) (fgS_nk (by omega))))) (fun _ _ => noS_kd)) (fun _ _ => noS_kd))))))
/-- what is told after the whole reading -/
theorem pgm_ok {inp : Nat → Int} {len : Nat} : ∀ (n tm a : Nat) (t : Nat → Int), 4 * tm ≤ a → a ≤ len → len ≤ 60 → rgT t → (∀ d, d < tm → 0 ≤ t (4 * d) ∧ t (4 * d) ≤ 9) → ∀ b a1 t1 k1, pgmF inp len n tm (a, t) = ((b, a1, t1), k1) → a1 ≤ len ∧ k1 ≤ 15 ∧ rgT t1 ∧ (∀ d, d < k1 → 0 ≤ t1 (4 * d) ∧ t1 (4 * d) ≤ 9) := by
  intro n
  induction n with
  | zero => intro tm a t h1 h2 h3 h4 h5 b a1 t1 k1 h; cases h; exact ⟨h2, by omega, h4, h5⟩
  | succ n ih =>
    intro tm a t h1 h2 h3 h4 h5 b a1 t1 k1 h
    have s1 := cmS_stp (inp := inp) (tm := tm) (t := t) h2
    have s2 := cmS_md (inp := inp) (len := len) (tm := tm) (a := a) (t := t)
    have s3 := cmS_kd (inp := inp) (len := len) (tm := tm) (a := a) (t := t)
    have s4 := cmS_lo (inp := inp) (tm := tm) (t := t) (b := a + 3) h2 (Nat.le_refl _)
    cases hc : cmS inp len tm (a, t) with
    | mk bb q =>
      obtain ⟨a2, t2⟩ := q
      rw [hc] at s1 s2 s3 s4
      have p1 : a ≤ a2 ∧ a2 ≤ len := s1
      have p2 : (∀ k, (k < 4 * tm ∨ 4 * tm + 3 < k) → t2 k = t k) ∧ (rgT t → rgT t2) := s2
      cases bb with
      | false =>
        rw [pgmF_n hc] at h
        cases h
        refine ⟨p1.2, by omega, p2.2 h4, fun d hd => ?_⟩
        rw [p2.1 _ (by omega)]; exact h5 d hd
      | true =>
        have p3 : 0 ≤ t2 (4 * tm) ∧ t2 (4 * tm) ≤ 9 := s3 rfl
        have p4 : a + 3 ≤ a2 := s4 rfl
        have hk : ∀ d, d < tm + 1 → 0 ≤ t2 (4 * d) ∧ t2 (4 * d) ≤ 9 := fun d hd => by
          by_cases e : d = tm
          · subst e; exact p3
          · rw [p2.1 _ (by omega)]; exact h5 d (by omega)
        cases hs : skS inp len 59 (a2, t2) with
        | mk b3 q =>
          obtain ⟨a3, t3⟩ := q
          cases b3 with
          | false =>
            rw [pgmF_e hc hs] at h
            obtain ⟨_, rfl, rfl⟩ := skS_f hs
            cases h
            exact ⟨p1.2, by omega, p2.2 h4, hk⟩
          | true =>
            rw [pgmF_s hc hs] at h
            obtain ⟨e, rfl, rfl⟩ := skS_t hs
            have hl := hrF_lt (inp := inp) (len := len) (a := a2) (by omega)
            exact ih (tm + 1) (a2 + 1) t3 (by omega) (by omega) h3 (p2.2 h4) hk b a1 t1 k1 h
/-- rows that agree but for those named -/
def xE (L : List Nat) (y y' : zT) : Prop := ∀ i, i ∉ L → y i = y' i
theorem xE_r {L : List Nat} {y : zT} : xE L y y := fun _ _ => rfl
theorem xE_tr {L : List Nat} {x y z : zT} (h : xE L x y) (h2 : xE L y z) : xE L x z := fun i hi => (h i hi).trans (h2 i hi)
theorem xE_sy {L : List Nat} {x y : zT} (h : xE L x y) : xE L y x := fun i hi => (h i hi).symm
theorem xE_o {L : List Nat} {y y' : zT} {j : Nat} {f : Nat → Int} (h : xE L y y') (hj : j ∈ L) : xE L (sA y j f) y' := fun i hi => by
  have e : i ≠ j := fun e => hi (by rw [e]; exact hj)
  rw [sA_i e]; exact h i hi
theorem xE_s {L : List Nat} {y y' : zT} {j : Nat} {f : Nat → Int} (h : xE L y y') : xE L (sA y j f) (sA y' j f) := fun i hi => by
  by_cases e : i = j
  · subst e; rw [sA_j, sA_j]
  · rw [sA_i e, sA_i e]; exact h i hi
theorem xE_u {L : List Nat} {y y' : zT} {j k : Nat} {v : Int} (h : xE L y y') (hj : j ∉ L) : xE L (uA y j k v) (uA y' j k v) := by
  rw [uA_sA, uA_sA, h j hj]; exact xE_s h
theorem xE_k {L : List Nat} {x x' : zT} {n : Nat} (h : xE L x x') (h0 : 0 ∉ L) (h1 : 1 ∉ L) (h6 : 6 ∉ L) (h7 : 7 ∉ L) (h8 : 8 ∉ L) : xE L (kF 0 x n) (kF 0 x' n) := by
  unfold kF
  rw [h 7 h7, h 0 h0, h 1 h1]
  split
  · exact xE_u (xE_s (xE_u h h8)) h6
  · exact xE_u h h8
abbrev scr : List Nat := [4, 15, 16, 17, 18]
/-- what a command leaves -/
def afF (x : zT) (n6 : Nat) (C : Int) (G : Nat → Int) : zT := if C ≠ 0 then uA x 8 0 C else sA (kF 0 x n6) 0 G
def opR (x : zT) (n6 k : Nat) (a b d : Int) : Int → zT → Prop := fun z y => z = (opF k a b d (x 0)).2.2 ∧ xE scr y (afF x n6 (opF k a b d (x 0)).1 (opF k a b d (x 0)).2.1)
theorem opR_o {x y : zT} {n6 k : Nat} {a b d C V z : Int} {G : Nat → Int} (h : opF k a b d (x 0) = if C ≠ 0 then (C, x 0, 0) else (0, G, V)) (hr : oR x n6 C G V z y) : opR x n6 k a b d z y := by
  unfold opR
  rw [h]
  rcases hr with ⟨h1, rfl, rfl⟩ | ⟨h1, rfl, rfl⟩
  · rw [if_pos h1]; exact ⟨rfl, by unfold afF; rw [if_pos h1]; exact xE_r⟩
  · rw [if_neg (fun e => e h1)]; exact ⟨rfl, by unfold afF; rw [if_neg (fun e => e rfl)]; exact xE_r⟩
theorem opR_nc {x y : zT} {n6 : Nat} {a b d z : Int} (hr : ncR x (x 0 0).toNat n6 z y) : opR x n6 5 a b d z y := by
  unfold opR
  obtain ⟨c', ⟨h1, rfl, rfl⟩ | ⟨q, h1, rfl, rfl⟩⟩ := hr
  · rw [show opF 5 a b d (x 0) = (1, x 0, 0) from by unfold opF; simp [h1]]
    exact ⟨rfl, by unfold afF; rw [if_pos (show (1 : Int) ≠ 0 by decide)]; exact xE_u (xE_o xE_r (by decide)) (by decide)⟩
  · rw [show opF 5 a b d (x 0) = (0, sNets (x 0) q, smF (x 0) q q.length) from by unfold opF; simp [h1]]
    exact ⟨rfl, by unfold afF; rw [if_neg (show ¬ (0 : Int) ≠ 0 by decide)]; exact xE_s (xE_k (xE_o xE_r (by decide)) (by decide) (by decide) (by decide) (by decide) (by decide))⟩
theorem opR_na {x y : zT} {n6 : Nat} {a b d z : Int} (hr : naR x (x 0 0).toNat n6 ((gMu (x 0)).toNat + 1) z y) : opR x n6 6 a b d z y := by
  unfold opR
  obtain ⟨c', rfl, rfl⟩ := hr
  rw [show opF 6 a b d (x 0) = (0, (naF (x 0 0).toNat ((gMu (x 0)).toNat + 1) (x 0)).1, (((naF (x 0 0).toNat ((gMu (x 0)).toNat + 1) (x 0)).2 : Nat) : Int)) from by unfold opF; simp]
  exact ⟨rfl, by unfold afF; rw [if_neg (show ¬ (0 : Int) ≠ 0 by decide)]; exact xE_s (xE_o xE_r (by decide))⟩
theorem opR_de {x y : zT} {n6 : Nat} {a b d z : Int} (hr : decR x n6 a z y) : opR x n6 7 a b d z y := by
  unfold opR
  rcases hr with ⟨h1, rfl, rfl⟩ | ⟨h1, rfl, s', rfl⟩
  · rw [show opF 7 a b d (x 0) = (cDecl (x 0) a, x 0, 0) from by unfold opF; simp [h1]]
    exact ⟨rfl, by unfold afF; rw [if_pos h1]; exact xE_r⟩
  · rw [show opF 7 a b d (x 0) = (0, sFall (x 0) a.toNat, mOb (x 0) a.toNat - x 0 (5 + a.toNat)) from by unfold opF; simp [h1]]
    exact ⟨rfl, by unfold afF; rw [if_neg (show ¬ (0 : Int) ≠ 0 by decide)]; exact xE_s (xE_o xE_r (by decide))⟩
theorem opR_ca {x y : zT} {n6 : Nat} {a b d z : Int} (hr : casR x (x 0 0).toNat n6 ((gNo (x 0)).toNat + 1) z y) : opR x n6 8 a b d z y := by
  unfold opR
  obtain ⟨c', rfl, rfl⟩ := hr
  rw [show opF 8 a b d (x 0) = (0, (faF (x 0 0).toNat ((gNo (x 0)).toNat + 1) (x 0)).1, (((faF (x 0 0).toNat ((gNo (x 0)).toNat + 1) (x 0)).2 : Nat) : Int)) from by unfold opF; simp]
  exact ⟨rfl, by unfold afF; rw [if_neg (show ¬ (0 : Int) ≠ 0 by decide)]; exact xE_s (xE_o xE_r (by decide))⟩
theorem opR_cl {x : zT} {n6 : Nat} {a b d : Int} : opR x n6 9 a b d (sCall (x 0 0).toNat (x 0)).2 (sA (kF 0 x n6) 0 (sCall (x 0 0).toNat (x 0)).1) := by
  unfold opR
  rw [show opF 9 a b d (x 0) = (0, (sCall (x 0 0).toNat (x 0)).1, (sCall (x 0 0).toNat (x 0)).2) from by unfold opF; simp]
  exact ⟨rfl, by unfold afF; rw [if_neg (show ¬ (0 : Int) ≠ 0 by decide)]; exact xE_r⟩
/-- the state in which the twin reads, made anew -/
theorem pS_new {x : zT} : uA (uA x 19 0 0) 21 0 0 = pS (uA x 21 0 ((0 : Nat) : Int)) 0 (x 20) := by
  unfold pS
  rw [← show (uA (uA x 21 0 ((0 : Nat) : Int)) 19 0 ((0 : Nat) : Int)) 20 = x 20 from by rw [uA_sA, sA_i (by decide), uA_sA, sA_i (by decide)], sA_self]
  funext i
  by_cases h1 : i = 21
  · subst h1; funext k; simp [uA]
  · by_cases h2 : i = 19
    · subst h2; funext k; simp [uA]
    · simp [uA, h1, h2]
def pgR (x : zT) (len : Nat) : Int → zT → Prop := fun z y => ∃ (b : Bool) (a : Nat) (t : Nat → Int) (tm : Nat), pgmF (x 9) len 16 0 (0, x 20) = ((b, a, t), tm) ∧ z = bI (b = true) ∧ y = pS (uA x 21 0 tm) a t
