/-! the house, in plain terms -/
set_option maxRecDepth 100000
theorem sg_49 {g : Nat → Int} : sg (fun k => g (12 + k)) 49 = sg (fun i => mOb g i) 7 := by
  simp only [sg, mOb]
  simp only [Int.zero_add, Int.add_assoc]
theorem sg_obl {g : Nat → Int} {B : Int} (hg : gOk g B) {n : Nat} (hn : g 0 = n ∧ n ≤ 7) : sg (fun i => mOb g i) n = sg (fun k => g (12 + k)) 49 := by
  rw [sg_49]
  exact (sg_cut (f := fun i => mOb g i) 7 hn.2 (fun k h1 h2 => sg_zero 7 (fun j hj => hg.2.2.2.1 k j h2 hj (Or.inl (by omega))))).symm
theorem sg_csh {g : Nat → Int} {B : Int} (hg : gOk g B) {n : Nat} (hn : g 0 = n ∧ n ≤ 7) : sg (fun k => g (5 + k)) n = sg (fun k => g (5 + k)) 7 :=
  (sg_cut 7 hn.2 (fun k h1 h2 => hg.2.2.2.2.1 k h2 (by omega))).symm
