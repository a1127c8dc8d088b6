/-! the twin's reading: the place stays within the text -/
set_option maxRecDepth 100000
def stp (len a : Nat) (r : pR) : Prop := a ≤ r.2.1 ∧ r.2.1 ≤ len
theorem ifS_t {s : Nat × (Nat → Int)} {g h : Nat × (Nat → Int) → pR} : ifS (true, s) g h = g s := rfl
theorem ifS_f {s : Nat × (Nat → Int)} {g h : Nat × (Nat → Int) → pR} : ifS (false, s) g h = h s := rfl
theorem bN {b : Bool} (h : ¬ b = true) : b = false := by cases b <;> simp_all
theorem ifS_stp {len a : Nat} {r : pR} {g h : Nat × (Nat → Int) → pR} (hr : stp len a r) (hg : ∀ a1 t1, a ≤ a1 → a1 ≤ len → stp len a1 (g (a1, t1))) (hh : ∀ a1 t1, a ≤ a1 → a1 ≤ len → stp len a1 (h (a1, t1))) : stp len a (ifS r g h) := by
  obtain ⟨b, a1, t1⟩ := r
  obtain ⟨h1, h2⟩ := hr
  cases b with
  | true => exact ⟨Nat.le_trans h1 (hg a1 t1 h1 h2).1, (hg a1 t1 h1 h2).2⟩
  | false => exact ⟨Nat.le_trans h1 (hh a1 t1 h1 h2).1, (hh a1 t1 h1 h2).2⟩
theorem noS_stp {len a : Nat} {t : Nat → Int} (h : a ≤ len) : stp len a (noS (a, t)) := ⟨Nat.le_refl _, h⟩
theorem anS_stp {len a : Nat} {r : pR} {g : Nat × (Nat → Int) → pR} (hr : stp len a r) (hg : ∀ a1 t1, a ≤ a1 → a1 ≤ len → stp len a1 (g (a1, t1))) : stp len a (anS r g) := ifS_stp hr hg (fun _ _ _ h => noS_stp h)
theorem hrF_lt {inp : Nat → Int} {len a : Nat} (h : 0 ≤ hrF inp len a) : a < len := by
  unfold hrF at h; split at h <;> omega
theorem skS_stp {inp : Nat → Int} {len a : Nat} {t : Nat → Int} {ch : Int} (h0 : 0 ≤ ch) (h : a ≤ len) : stp len a (skS inp len ch (a, t)) := by
  unfold skS stp
  split
  · next e =>
    have e : hrF inp len a = ch := e
    have := hrF_lt (inp := inp) (len := len) (a := a) (by omega)
    exact ⟨Nat.le_succ _, this⟩
  · exact ⟨Nat.le_refl _, h⟩
theorem swF_stp {inp : Nat → Int} {len : Nat} : ∀ (w : List Nat) (a : Nat), a ≤ len → a ≤ (swF inp len w a).2 ∧ (swF inp len w a).2 ≤ len ∧ ((swF inp len w a).1 = true → (swF inp len w a).2 = a + w.length) := by
  intro w
  induction w with
  | nil => intro a h; exact ⟨Nat.le_refl _, h, fun _ => rfl⟩
  | cons ch w ih =>
    intro a h
    unfold swF
    split
    · next e =>
      have hl := hrF_lt (inp := inp) (len := len) (a := a) (by omega)
      have := ih (a + 1) (by omega)
      refine ⟨by omega, this.2.1, fun q => ?_⟩
      rw [this.2.2 q, List.length_cons]; omega
    · exact ⟨Nat.le_refl _, h, fun q => by cases q⟩
theorem wdS_stp {inp : Nat → Int} {len tm a : Nat} {t : Nat → Int} {v : Int} {w : List Nat} (h : a ≤ len) : stp len a (wdS inp len tm v w (a, t)) := ⟨(swF_stp w a h).1, (swF_stp w a h).2.1⟩
theorem dgF_stp {inp : Nat → Int} {len : Nat} : ∀ (m a : Nat) (v : Int), a ≤ len → a ≤ (dgF inp len m a v).1 ∧ (dgF inp len m a v).1 ≤ len := by
  intro m
  induction m with
  | zero => intro a v h; exact ⟨Nat.le_refl _, h⟩
  | succ m ih =>
    intro a v h
    unfold dgF
    split
    · next e =>
      have hl := hrF_lt (inp := inp) (len := len) (a := a) (by omega)
      have := ih (a + 1) (10 * v + hrF inp len a - 48) (by omega)
      exact ⟨by omega, this.2⟩
    · exact ⟨Nat.le_refl _, h⟩
theorem dgS_stp {inp : Nat → Int} {len pl m a : Nat} {t : Nat → Int} (h : a ≤ len) : stp len a (dgS inp len pl m (a, t)) := by
  unfold dgS stp
  split
  · exact dgF_stp m a 0 h
  · exact ⟨Nat.le_refl _, h⟩
theorem fgS_stp {inp : Nat → Int} {len pl m a : Nat} {t : Nat → Int} (h : a ≤ len) : stp len a (fgS inp len pl m (a, t)) := anS_stp (skS_stp (by decide) h) (fun _ _ _ h => dgS_stp h)
theorem prS_stp {inp : Nat → Int} {len pl a : Nat} {t : Nat → Int} (h : a ≤ len) : stp len a (prS inp len pl (a, t)) := anS_stp (fgS_stp h) (fun _ _ _ h => dgS_stp h)
theorem wcS_stp {inp : Nat → Int} {len tm pl a : Nat} {t : Nat → Int} (h : a ≤ len) : stp len a (wcS inp len tm pl (a, t)) := by
  unfold wcS
  exact ifS_stp (skS_stp (by decide) h) (fun _ _ _ h => wdS_stp h) (fun _ _ _ h => ifS_stp (skS_stp (by decide) h) (fun _ _ _ h => ifS_stp (skS_stp (by decide) h) (fun _ _ _ h => wdS_stp h) (fun _ _ _ h => ifS_stp (skS_stp (by decide) h) (fun _ _ _ h => ifS_stp (skS_stp (by decide) h) (fun _ _ _ h => wdS_stp h) (fun _ _ _ h => anS_stp (wdS_stp h) (fun _ _ _ h => anS_stp (fgS_stp h) (fun _ _ _ h => fgS_stp h)))) (fun _ _ _ h => noS_stp h))) (fun _ _ _ h => noS_stp h))
theorem cmS_stp {inp : Nat → Int} {len tm a : Nat} {t : Nat → Int} (h : a ≤ len) : stp len a (cmS inp len tm (a, t)) := by
  unfold cmS
  exact ifS_stp (skS_stp (by decide) h) (fun _ _ _ h => anS_stp (wdS_stp h) (fun _ _ _ h => fgS_stp h)) (fun _ _ _ h => ifS_stp (skS_stp (by decide) h) (fun _ _ _ h => wcS_stp h) (fun _ _ _ h => ifS_stp (skS_stp (by decide) h) (fun _ _ _ h => anS_stp (wdS_stp h) (fun _ _ _ h => anS_stp (prS_stp h) (fun _ _ _ h => fgS_stp h))) (fun _ _ _ h => ifS_stp (skS_stp (by decide) h) (fun _ _ _ h => wdS_stp h) (fun _ _ _ h => ifS_stp (skS_stp (by decide) h) (fun _ _ _ h => anS_stp (wdS_stp h) (fun _ _ _ h => fgS_stp h)) (fun _ _ _ h => ifS_stp (skS_stp (by decide) h) (fun _ _ _ h => ifS_stp (skS_stp (by decide) h) (fun _ _ _ h => ifS_stp (skS_stp (by decide) h) (fun _ _ _ h => anS_stp (wdS_stp h) (fun _ _ _ h => prS_stp h)) (fun _ _ _ h => anS_stp (wdS_stp h) (fun _ _ _ h => anS_stp (prS_stp h) (fun _ _ _ h => fgS_stp h)))) (fun _ _ _ h => noS_stp h)) (fun _ _ _ h => noS_stp h))))))
/-- a step that is met goes at least so far -/
def loS (b : Nat) (r : pR) : Prop := r.1 = true → b ≤ r.2.1
theorem skS_t {inp : Nat → Int} {len a a1 : Nat} {t t1 : Nat → Int} {ch : Int} (h : skS inp len ch (a, t) = (true, a1, t1)) : hrF inp len a = ch ∧ a1 = a + 1 ∧ t1 = t := by
  unfold skS at h
  split at h
  · next e => cases h; exact ⟨e, rfl, rfl⟩
  · cases h
theorem skS_f {inp : Nat → Int} {len a a1 : Nat} {t t1 : Nat → Int} {ch : Int} (h : skS inp len ch (a, t) = (false, a1, t1)) : ¬ hrF inp len a = ch ∧ a1 = a ∧ t1 = t := by
  unfold skS at h
  split at h
  · cases h
  · next e => cases h; exact ⟨e, rfl, rfl⟩
theorem no_lo {b a : Nat} {t : Nat → Int} : loS b (noS (a, t)) := fun q => by cases q
theorem st_lo {len a b : Nat} {r : pR} (h : stp len a r) (hb : b ≤ a) : loS b r := fun _ => Nat.le_trans hb h.1
theorem wd_lo {inp : Nat → Int} {len tm a b : Nat} {t : Nat → Int} {v : Int} {w : List Nat} (h : a ≤ len) (hb : b ≤ a + w.length) : loS b (wdS inp len tm v w (a, t)) := fun q => by
  have h9 : (wdS inp len tm v w (a, t)).2.1 = a + w.length := (swF_stp w a h).2.2 q
  omega
theorem sk_lo {inp : Nat → Int} {len a b : Nat} {t : Nat → Int} {ch : Int} {g h : Nat × (Nat → Int) → pR} (h0 : 0 ≤ ch) (hg : a + 1 ≤ len → loS b (g (a + 1, t))) (hh : loS b (h (a, t))) : loS b (ifS (skS inp len ch (a, t)) g h) := by
  by_cases e : hrF inp len a = ch
  · rw [show skS inp len ch (a, t) = (true, a + 1, t) from if_pos e, ifS_t]
    exact hg (hrF_lt (inp := inp) (by omega))
  · rw [show skS inp len ch (a, t) = (false, a, t) from if_neg e, ifS_f]
    exact hh
theorem wn_lo {inp : Nat → Int} {len tm a b : Nat} {t : Nat → Int} {v : Int} {w : List Nat} {g : Nat × (Nat → Int) → pR} (h : a ≤ len) (hg : ∀ t1, a + w.length ≤ len → loS b (g (a + w.length, t1))) : loS b (anS (wdS inp len tm v w (a, t)) g) := by
  have h3 := (swF_stp (inp := inp) w a h)
  unfold anS wdS
  cases hq : (swF inp len w a).1 with
  | true =>
    rw [ifS_t]
    have := h3.2.2 hq
    rw [show (swF inp len w (a, t).1).2 = a + w.length from this]
    exact hg _ (by omega)
  | false => rw [ifS_f]; exact no_lo
theorem an_lo {len a b : Nat} {r : pR} {g : Nat × (Nat → Int) → pR} (hr : stp len a r) (hb : b ≤ a) (hg : ∀ a1 t1, a1 ≤ len → stp len a1 (g (a1, t1))) : loS b (anS r g) := st_lo (anS_stp hr (fun a1 t1 _ h => hg a1 t1 h)) hb
theorem wcS_lo {inp : Nat → Int} {len tm pl a b : Nat} {t : Nat → Int} (h : a ≤ len) (hb : b ≤ a + 2) : loS b (wcS inp len tm pl (a, t)) := by
  unfold wcS
  refine sk_lo (by decide) (fun h1 => wd_lo h1 (by simp only [List.length]; omega)) ?_
  refine sk_lo (by decide) (fun h1 => ?_) no_lo
  refine sk_lo (by decide) (fun h1 => wd_lo h1 (by simp only [List.length]; omega)) ?_
  refine sk_lo (by decide) (fun h1 => ?_) no_lo
  refine sk_lo (by decide) (fun h1 => wd_lo h1 (by simp only [List.length]; omega)) ?_
  exact wn_lo h1 (fun t1 h2 => an_lo (fgS_stp h2) (by simp only [List.length]; omega) (fun _ _ h => fgS_stp h))
theorem cmS_lo {inp : Nat → Int} {len tm a b : Nat} {t : Nat → Int} (h : a ≤ len) (hb : b ≤ a + 3) : loS b (cmS inp len tm (a, t)) := by
  unfold cmS
  refine sk_lo (by decide) (fun h1 => wn_lo h1 (fun t1 h2 => st_lo (fgS_stp h2) (by simp only [List.length]; omega))) ?_
  refine sk_lo (by decide) (fun h1 => wcS_lo h1 (by omega)) ?_
  refine sk_lo (by decide) (fun h1 => wn_lo h1 (fun t1 h2 => an_lo (prS_stp h2) (by simp only [List.length]; omega) (fun _ _ h => fgS_stp h))) ?_
  refine sk_lo (by decide) (fun h1 => wd_lo h1 (by simp only [List.length]; omega)) ?_
  refine sk_lo (by decide) (fun h1 => wn_lo h1 (fun t1 h2 => st_lo (fgS_stp h2) (by simp only [List.length]; omega))) ?_
  refine sk_lo (by decide) (fun h1 => ?_) no_lo
  refine sk_lo (by decide) (fun h1 => ?_) no_lo
  refine sk_lo (by decide) (fun h2 => wn_lo h2 (fun t1 h3 => st_lo (prS_stp h3) (by simp only [List.length]; omega))) ?_
  exact wn_lo h1 (fun t1 h3 => an_lo (prS_stp h3) (by simp only [List.length]; omega) (fun _ _ h => fgS_stp h))
/-- the words of the twin's parser: the constant's index, its text, its signs -/
def twL : List (Nat × String × List Nat) := [(195, "oin", [111, 105, 110]), (193, "h", [104]), (200, "we", [119, 101]), (211, "y", [121]), (209, "r", [114]), (183, "cle", [99, 108, 101]), (205, "ll", [108, 108]), (207, "efault", [101, 102, 97, 117, 108, 116]), (191, "ade", [97, 100, 101]), (189, "l", [108])]
def tS (sq sv : Nat → Nat) (A : Nat → Prop) (U : State) (H : Heap) : Prop := ∀ i q, twL[i]? = some q → vk_R RX4 q.1 q.2.1 (sq i) U ∧ zSt (sq i) 0 (sv i) q.2.2.length (fun j => sB (qk q.2.2 j)) A U H
/-- a program, as the twin reads it -/
def pgmF (inp : Nat → Int) (len : Nat) : Nat → Nat → Nat × (Nat → Int) → pR × Nat
  | 0, tm, s => ((false, s), tm)
  | n + 1, tm, s => match cmS inp len tm s with
    | (false, s1) => ((false, s1), tm)
    | (true, s1) => match skS inp len 59 s1 with
      | (true, s2) => pgmF inp len n (tm + 1) s2
      | (false, s2) => ((decide (s2.1 = len), s2), tm + 1)
theorem pgmF_n {inp : Nat → Int} {len n tm : Nat} {s s1 : Nat × (Nat → Int)} (h : cmS inp len tm s = (false, s1)) : pgmF inp len (n + 1) tm s = ((false, s1), tm) := by
  show (match cmS inp len tm s with | (false, s1) => ((false, s1), tm) | (true, s1) => _) = _
  rw [h]
theorem pgmF_e {inp : Nat → Int} {len n tm : Nat} {s s1 s2 : Nat × (Nat → Int)} (h : cmS inp len tm s = (true, s1)) (h2 : skS inp len 59 s1 = (false, s2)) : pgmF inp len (n + 1) tm s = ((decide (s2.1 = len), s2), tm + 1) := by
  unfold pgmF
  rw [h]
  show (match skS inp len 59 s1 with | (true, s2) => pgmF inp len n (tm + 1) s2 | (false, s2) => _) = _
  rw [h2]
theorem pgmF_s {inp : Nat → Int} {len n tm : Nat} {s s1 s2 : Nat × (Nat → Int)} (h : cmS inp len tm s = (true, s1)) (h2 : skS inp len 59 s1 = (true, s2)) : pgmF inp len (n + 1) tm s = pgmF inp len n (tm + 1) s2 := by
  rw [pgmF, h]
  show (match skS inp len 59 s1 with | (true, s2) => pgmF inp len n (tm + 1) s2 | (false, s2) => _) = _
  rw [h2]
theorem stp_le {len a a1 : Nat} {b : Bool} {t1 : Nat → Int} {r : pR} (h : r = (b, a1, t1)) (hs : stp len a r) : a1 ≤ len := by
  subst h; exact hs.2
