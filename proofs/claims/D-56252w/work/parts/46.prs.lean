/-! reading a program, as the twin reads it: a place in the input, and the numbers told -/
set_option maxRecDepth 100000
def pS (x : zT) (a : Nat) (t : Nat → Int) : zT := sA (uA x 19 0 a) 20 t
theorem pS_19 {x : zT} {a : Nat} {t : Nat → Int} : pS x a t 19 0 = (a : Int) := by
  unfold pS; rw [sA_i (by decide), uA_eq]
theorem pS_20 {x : zT} {a : Nat} {t : Nat → Int} : pS x a t 20 = t := sA_j
theorem pS_i {x : zT} {a i : Nat} {t : Nat → Int} (h1 : i ≠ 19) (h2 : i ≠ 20) : pS x a t i = x i := by
  unfold pS; rw [sA_i h2, uA_sA, sA_i h1]
theorem pS_u20 {x : zT} {a k : Nat} {t : Nat → Int} {v : Int} : uA (pS x a t) 20 k v = pS x a (gU t k v) := uA_in
theorem pS_u19 {x : zT} {a b : Nat} {t : Nat → Int} : uA (pS x a t) 19 0 b = pS x b t := by
  unfold pS
  rw [uA_out (by decide), uA_uA]
theorem pS_u {x : zT} {a j k : Nat} {t : Nat → Int} {v : Int} (h1 : j ≠ 19) (h2 : j ≠ 20) : uA (pS x a t) j k v = pS (uA x j k v) a t := by
  unfold pS
  rw [uA_out h2, uA_sA (uA x 19 0 a), uA_sA x 19, sA_i h1, sA_comm h1, uA_sA (uA x j k v), uA_sA x j, sA_i (fun e => h1 e.symm)]
abbrev pR : Type := Bool × Nat × (Nat → Int)
def hrF (inp : Nat → Int) (len a : Nat) : Int := if a < len then inp a else -1
def skS (inp : Nat → Int) (len : Nat) (c : Int) (s : Nat × (Nat → Int)) : pR := if hrF inp len s.1 = c then (true, s.1 + 1, s.2) else (false, s.1, s.2)
def swF (inp : Nat → Int) (len : Nat) : List Nat → Nat → Bool × Nat
  | [], a => (true, a)
  | c :: w, a => if hrF inp len a = (c : Int) then swF inp len w (a + 1) else (false, a)
def wdS (inp : Nat → Int) (len tm : Nat) (v : Int) (w : List Nat) (s : Nat × (Nat → Int)) : pR := ((swF inp len w s.1).1, (swF inp len w s.1).2, gU s.2 (4 * tm) v)
def isD (inp : Nat → Int) (len a : Nat) : Prop := 48 ≤ hrF inp len a ∧ hrF inp len a ≤ 57
theorem isD_em (inp : Nat → Int) (len a : Nat) : isD inp len a ∨ ¬ isD inp len a := Decidable.em (48 ≤ hrF inp len a ∧ hrF inp len a ≤ 57)
def dgF (inp : Nat → Int) (len : Nat) : Nat → Nat → Int → Nat × Int
  | 0, a, v => (a, v)
  | m + 1, a, v => if 48 ≤ hrF inp len a ∧ hrF inp len a ≤ 57 then dgF inp len m (a + 1) (10 * v + hrF inp len a - 48) else (a, v)
def dgS (inp : Nat → Int) (len pl m : Nat) (s : Nat × (Nat → Int)) : pR := if 48 ≤ hrF inp len s.1 ∧ hrF inp len s.1 ≤ 57 then (true, (dgF inp len m s.1 0).1, gU s.2 pl (dgF inp len m s.1 0).2) else (false, s.1, s.2)
def ifS (r : pR) (g h : Nat × (Nat → Int) → pR) : pR := match r with
  | (true, s) => g s
  | (false, s) => h s
def anS (r : pR) (g : Nat × (Nat → Int) → pR) : pR := ifS r g (fun s => (false, s))
def noS (s : Nat × (Nat → Int)) : pR := (false, s)
def fgS (inp : Nat → Int) (len pl m : Nat) (s : Nat × (Nat → Int)) : pR := anS (skS inp len 32 s) (dgS inp len pl m)
def prS (inp : Nat → Int) (len pl : Nat) (s : Nat × (Nat → Int)) : pR := anS (fgS inp len pl 1 s) (dgS inp len (pl + 1) 1)
def wcS (inp : Nat → Int) (len tm pl : Nat) (s : Nat × (Nat → Int)) : pR :=
  ifS (skS inp len 121 s) (wdS inp len tm 5 [99, 108, 101]) (fun s => ifS (skS inp len 97 s)
    (fun s => ifS (skS inp len 108 s) (wdS inp len tm 9 [108]) (fun s => ifS (skS inp len 115 s)
      (fun s => ifS (skS inp len 99 s) (wdS inp len tm 8 [97, 100, 101]) (fun s => anS (wdS inp len tm 1 [104] s) (fun s => anS (fgS inp len pl 1 s) (fgS inp len (pl + 1) 3)))) noS)) noS)
def cmS (inp : Nat → Int) (len tm : Nat) (s : Nat × (Nat → Int)) : pR :=
  ifS (skS inp len 106 s) (fun s => anS (wdS inp len tm 0 [111, 105, 110] s) (fgS inp len (4 * tm + 1) 3))
  (fun s => ifS (skS inp len 99 s) (wcS inp len tm (4 * tm + 1))
  (fun s => ifS (skS inp len 111 s) (fun s => anS (wdS inp len tm 2 [119, 101] s) (fun s => anS (prS inp len (4 * tm + 1) s) (fgS inp len (4 * tm + 3) 3)))
  (fun s => ifS (skS inp len 97 s) (wdS inp len tm 6 [108, 108])
  (fun s => ifS (skS inp len 100 s) (fun s => anS (wdS inp len tm 7 [101, 102, 97, 117, 108, 116] s) (fgS inp len (4 * tm + 1) 1))
  (fun s => ifS (skS inp len 112 s) (fun s => ifS (skS inp len 97 s)
    (fun s => ifS (skS inp len 105 s) (fun s => anS (wdS inp len tm 4 [114] s) (prS inp len (4 * tm + 1)))
      (fun s => anS (wdS inp len tm 3 [121] s) (fun s => anS (prS inp len (4 * tm + 1) s) (fgS inp len (4 * tm + 3) 3)))) noS) noS)))))
/-- a step of the reading: what a contract of it says -/
def pP (x : zT) (r : pR) : Int → zT → Prop := fun z y => ∃ (b : Bool) (a : Nat) (t : Nat → Int), r = (b, a, t) ∧ z = bI (b = true) ∧ y = pS x a t
theorem pP_of {x : zT} {r : pR} {b : Bool} {a : Nat} {t : Nat → Int} {E : Int} (h : r = (b, a, t)) (hE : E = bI (b = true)) : ∃ z, iI E = iI z ∧ pP x r z (pS x a t) := ⟨E, rfl, b, a, t, h, hE, rfl⟩
theorem hrF_bd {inp : Nat → Int} {len : Nat} (h : ∀ k, k < len → 0 ≤ inp k ∧ inp k < 65536) (a : Nat) : -1 ≤ hrF inp len a ∧ hrF inp len a < 65536 := by
  unfold hrF
  split
  · next e => have := h a e; omega
  · omega
theorem dgF_s {inp : Nat → Int} {len m a : Nat} {v : Int} (h : 48 ≤ hrF inp len a ∧ hrF inp len a ≤ 57) : dgF inp len (m + 1) a v = dgF inp len m (a + 1) (10 * v + hrF inp len a - 48) := if_pos h
theorem dgF_n {inp : Nat → Int} {len a : Nat} {v : Int} : ∀ m, ¬ (48 ≤ hrF inp len a ∧ hrF inp len a ≤ 57) → dgF inp len m a v = (a, v) := by
  intro m h
  cases m with
  | zero => rfl
  | succ m => exact if_neg h
theorem swF_s {inp : Nat → Int} {len c a : Nat} {w : List Nat} (h : hrF inp len a = (c : Int)) : swF inp len (c :: w) a = swF inp len w (a + 1) := if_pos h
theorem swF_n {inp : Nat → Int} {len c a : Nat} {w : List Nat} (h : ¬ hrF inp len a = (c : Int)) : swF inp len (c :: w) a = (false, a) := if_neg h
theorem drop_cons {w : List Nat} {k : Nat} (h : k < w.length) : w.drop k = qk w k :: w.drop (k + 1) := by
  rw [List.drop_eq_getElem_cons h]
  congr 1
  simp [qk, List.getD, List.getElem?_eq_getElem h]
