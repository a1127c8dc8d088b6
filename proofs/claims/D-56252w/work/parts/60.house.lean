/-! the house: its world, by the same row as the twin's -/
set_option maxRecDepth 100000
def hrow (cA : Nat → ClassId) (x : zT) (i : Nat) : ClassId × vp_A := (cA 0, 7, .inl (fun k => if k < 7 then iI (x 0 (12 + 7 * i + k)) else iI 0))
def hcsh (cA : Nat → ClassId) (x : zT) : ClassId × vp_A := (cA 0, 7, .inl (fun k => if k < 7 then iI (x 0 (5 + k)) else iI 0))
def hF (a : Nat → Nat) (x : zT) : List Value := [.ref (a 1), .ref (a 2), .ref (a 3), .int (iI (x 0 0)), .int (iI (x 0 4)), .int (iI (x 0 1))]
def hAc (x : zT) : List Value := [.int (iI (x 1 0)), .int (iI (x 1 1)), .long (lI (x 0 2)), .int (iI (x 1 2)), .int (iI (x 0 3))]
def hW (a : Nat → Nat) (cA : Nat → ClassId) (x : zT) : va_W := [(a 0, .inr (1, hF a x)), (a 1, .inl (cA 3, 7, .inr (.inr (.inr (.inr (fun k => some (a (4 + k)))))))), (a 2, .inl (hcsh cA x)), (a 3, .inr (2, hAc x)), (a 4, .inl (hrow cA x 0)), (a 5, .inl (hrow cA x 1)), (a 6, .inl (hrow cA x 2)), (a 7, .inl (hrow cA x 3)), (a 8, .inl (hrow cA x 4)), (a 9, .inl (hrow cA x 5)), (a 10, .inl (hrow cA x 6))]
theorem hW_ok {a : Nat → Nat} {cA : Nat → ClassId} : wOk (hW a cA) := fun _ _ => rfl
section
variable {a : Nat → Nat} {cA : Nat → ClassId} {x : zT}
theorem hW_0 : (hW a cA x)[0]? = some (a 0, .inr (1, hF a x)) := rfl
theorem hW_1 : (hW a cA x)[1]? = some (a 1, .inl (cA 3, 7, .inr (.inr (.inr (.inr (fun k => some (a (4 + k)))))))) := rfl
theorem hW_2 : (hW a cA x)[2]? = some (a 2, .inl (cA 0, 7, .inl (fun k => if k < 7 then iI (x 0 (5 + k)) else iI 0))) := rfl
theorem hW_3 : (hW a cA x)[3]? = some (a 3, .inr (2, hAc x)) := rfl
theorem hW_r {i : Nat} (hi : i < 7) : (hW a cA x)[4 + i]? = some (a (4 + i), .inl (cA 0, 7, .inl (fun k => if k < 7 then iI (x 0 (12 + 7 * i + k)) else iI 0))) := by
  obtain rfl | rfl | rfl | rfl | rfl | rfl | rfl : i = 0 ∨ i = 1 ∨ i = 2 ∨ i = 3 ∨ i = 4 ∨ i = 5 ∨ i = 6 := by omega
  all_goals rfl
theorem hF_u {j : Nat} {v : Int} (h : 4 < j) : hF a (uA x 0 j v) = hF a x := by
  unfold hF
  rw [uA_nk (by omega), uA_nk (by omega), uA_nk (by omega)]
theorem hAc_u {j : Nat} {v : Int} (h : 4 < j) : hAc (uA x 0 j v) = hAc x := by
  unfold hAc
  rw [uA_nj (i := 1) (by decide), uA_nj (i := 1) (by decide), uA_nj (i := 1) (by decide), uA_nk (k' := 2) (by omega), uA_nk (k' := 3) (by omega)]
theorem hcsh_u {j : Nat} {v : Int} (h : j < 5 ∨ 12 ≤ j) : hcsh cA (uA x 0 j v) = hcsh cA x := by
  unfold hcsh
  congr 3
  funext k
  by_cases hk : k < 7
  · rw [if_pos hk, if_pos hk, uA_nk (by omega)]
  · rw [if_neg hk, if_neg hk]
theorem hrow_u {j i : Nat} {v : Int} (h : j < 12 + 7 * i ∨ 12 + 7 * i + 7 ≤ j) : hrow cA (uA x 0 j v) i = hrow cA x i := by
  unfold hrow
  congr 3
  funext k
  by_cases hk : k < 7
  · rw [if_pos hk, if_pos hk, uA_nk (by omega)]
  · rw [if_neg hk, if_neg hk]
theorem hW_sc {j : Nat} {v : Int} (hj : j < 7) : (hW a cA x).set 2 (a 2, .inl (cA 0, 7, .inl (upd (fun k => if k < 7 then iI (x 0 (5 + k)) else iI 0) j (iI v)))) = hW a cA (uA x 0 (5 + j) v) := by
  have e : hcsh cA (uA x 0 (5 + j) v) = (cA 0, 7, .inl (upd (fun k => if k < 7 then iI (x 0 (5 + k)) else iI 0) j (iI v))) := by
    unfold hcsh
    congr 3
    funext k
    unfold upd
    by_cases e : k = j
    · subst e; rw [if_pos hj, if_pos rfl, uA_eq]
    · rw [if_neg e]
      by_cases hk : k < 7
      · show _ = if k < 7 then iI (x 0 (5 + k)) else iI 0
        rw [if_pos hk, if_pos hk, uA_nk (by omega)]
      · show _ = if k < 7 then iI (x 0 (5 + k)) else iI 0
        rw [if_neg hk, if_neg hk]
  unfold hW
  rw [hF_u (by omega), hAc_u (by omega), e, hrow_u (by omega), hrow_u (by omega), hrow_u (by omega), hrow_u (by omega), hrow_u (by omega), hrow_u (by omega), hrow_u (by omega)]
  rfl
theorem hrow_s {i j : Nat} {v : Int} (hj : j < 7) : hrow cA (uA x 0 (12 + 7 * i + j) v) i = (cA 0, 7, .inl (upd (fun k => if k < 7 then iI (x 0 (12 + 7 * i + k)) else iI 0) j (iI v))) := by
  unfold hrow
  congr 3
  funext k
  unfold upd
  by_cases e : k = j
  · subst e; rw [if_pos hj, if_pos rfl, uA_eq]
  · rw [if_neg e]
    by_cases hk : k < 7
    · show _ = if k < 7 then iI (x 0 (12 + 7 * i + k)) else iI 0
      rw [if_pos hk, if_pos hk, uA_nk (by omega)]
    · show _ = if k < 7 then iI (x 0 (12 + 7 * i + k)) else iI 0
      rw [if_neg hk, if_neg hk]
theorem hW_sd {i j : Nat} {v : Int} (hi : i < 7) (hj : j < 7) : (hW a cA x).set (4 + i) (a (4 + i), .inl (cA 0, 7, .inl (upd (fun k => if k < 7 then iI (x 0 (12 + 7 * i + k)) else iI 0) j (iI v)))) = hW a cA (uA x 0 (12 + 7 * i + j) v) := by
  rw [← hrow_s hj]
  have hr : ∀ r, r ≠ i → hrow cA (uA x 0 (12 + 7 * i + j) v) r = hrow cA x r := fun r h => hrow_u (by omega)
  unfold hW
  rw [hF_u (by omega), hAc_u (by omega), hcsh_u (by omega)]
  obtain rfl | rfl | rfl | rfl | rfl | rfl | rfl : i = 0 ∨ i = 1 ∨ i = 2 ∨ i = 3 ∨ i = 4 ∨ i = 5 ∨ i = 6 := by omega
  · rw [hr 1 (by decide), hr 2 (by decide), hr 3 (by decide), hr 4 (by decide), hr 5 (by decide), hr 6 (by decide)]; rfl
  · rw [hr 0 (by decide), hr 2 (by decide), hr 3 (by decide), hr 4 (by decide), hr 5 (by decide), hr 6 (by decide)]; rfl
  · rw [hr 0 (by decide), hr 1 (by decide), hr 3 (by decide), hr 4 (by decide), hr 5 (by decide), hr 6 (by decide)]; rfl
  · rw [hr 0 (by decide), hr 1 (by decide), hr 2 (by decide), hr 4 (by decide), hr 5 (by decide), hr 6 (by decide)]; rfl
  · rw [hr 0 (by decide), hr 1 (by decide), hr 2 (by decide), hr 3 (by decide), hr 5 (by decide), hr 6 (by decide)]; rfl
  · rw [hr 0 (by decide), hr 1 (by decide), hr 2 (by decide), hr 3 (by decide), hr 4 (by decide), hr 6 (by decide)]; rfl
  · rw [hr 0 (by decide), hr 1 (by decide), hr 2 (by decide), hr 3 (by decide), hr 4 (by decide), hr 5 (by decide)]; rfl
end
section
variable {p : Program} {l : Launch} {e : Env} {R : Room} {s : State} {m : MethodId} {args : Array Value} {below : List Frame} {meth : Method} {c : Code} {H : Heap} {locs : List Loc} {cells slots : Nat} {Q : State → Prop}
variable {cc : ByteArray} {pc : Nat} {ls : Array Slot} {rest st0 : List Value} {D : va_G} {A : Nat → Prop} {nL : Nat} {ret : Option FieldType} {a : Nat → Nat} {cA : Nat → ClassId} {x : zT} {Z : zZ}
theorem h_get (hX : zX p s m args meth c cc RX2 nL ret) (hK : va_K D vwCl (tyL cA) s) (hP : va_P D vwCl (hW a cA x) H) (j : Nat) (hj : j < 6) {index : Nat} (hlink : Cond.fieldLink RX2 index (TX2 j).1 (TX2 j).2.1 (TX2 j).2.2.1 ∈ lw_all) {v : Value} (hv : (hF a x)[j]? = some v) (hdg : decode cc pc = .ok (.getfield index, 3)) (kk : W p l e R s m args below meth c H locs cells slots Q (F0 m (pc + 3) ls (v :: rest))) : W p l e R s m args below meth c H locs cells slots Q (F0 m pc ls (.ref (a 0) :: rest)) :=
  w_get hX hK hP in_X2 0 hW_0 vw_X2 j hj hlink hv hdg kk
theorem h_row (hX : zX p s m args meth c cc RX2 nL ret) (hK : va_K D vwCl (tyL cA) s) (hP : va_P D vwCl (hW a cA x) H) {E : Int} (i : Nat) (hi : E = (i : Int) ∧ i < 7) (hdg : decode cc pc = .ok (.aaload, 1)) (kk : W p l e R s m args below meth c H locs cells slots Q (F0 m (pc + 1) ls (.ref (a (4 + i)) :: rest))) : W p l e R s m args below meth c H locs cells slots Q (F0 m pc ls (.int (iI E) :: .ref (a 1) :: rest)) := by
  have hcl := iI_cl i hi.1 (by omega)
  have hin : vp_in (iI E) 7 := iI_in i hi.1 hi.2 (by decide)
  refine W.aald (v := .ref (a (4 + i))) (ty := .array .int) hX.1 hX.2.1 (hP 1 _ hW_1) ((hK.2 3 _ rfl).1 7 (fun j => va_rf (some (a (4 + j))))) rfl (fun q => by cases q) (by show ¬ (iI E < 0 ∨ (arrV _ _ _).slots.size ≤ _); rw [arrV_size]; exact hin) (by show (arrV _ _ _).slots[_]? = _; rw [hcl, arrV_read _ _ hi.2]; rfl) rfl rfl hdg kk
theorem h_ldc (hX : zX p s m args meth c cc RX2 nL ret) (hK : va_K D vwCl (tyL cA) s) (hP : va_P D vwCl (hW a cA x) H) {E : Int} (i : Nat) (hi : E = (i : Int) ∧ i < 7) (hdg : decode cc pc = .ok (.iaload, 1)) (kk : W p l e R s m args below meth c H locs cells slots Q (F0 m (pc + 1) ls (.int (iI (x 0 (5 + i))) :: rest))) : W p l e R s m args below meth c H locs cells slots Q (F0 m pc ls (.int (iI E) :: .ref (a 2) :: rest)) :=
  va_iald hX.1 hX.2.1 hK hP 2 0 hW_2 ty_0 (iI_in i hi.1 hi.2 (by decide)) hdg (by rw [iI_cl i hi.1 (by omega), if_pos hi.2]; exact kk)
theorem h_ldd (hX : zX p s m args meth c cc RX2 nL ret) (hK : va_K D vwCl (tyL cA) s) (hP : va_P D vwCl (hW a cA x) H) {E : Int} (i j : Nat) (hi : i < 7) (hj : E = (j : Int) ∧ j < 7) (hdg : decode cc pc = .ok (.iaload, 1)) (kk : W p l e R s m args below meth c H locs cells slots Q (F0 m (pc + 1) ls (.int (iI (x 0 (12 + 7 * i + j))) :: rest))) : W p l e R s m args below meth c H locs cells slots Q (F0 m pc ls (.int (iI E) :: .ref (a (4 + i)) :: rest)) :=
  va_iald hX.1 hX.2.1 hK hP (4 + i) 0 (hW_r hi) ty_0 (iI_in j hj.1 hj.2 (by decide)) hdg (by rw [iI_cl j hj.1 (by omega), if_pos hj.2]; exact kk)
theorem h_stc (hX : zX p s m args meth c cc RX2 nL ret) (hK : va_K D vwCl (tyL cA) s) (hD : ∀ y, va_D A (hW a cA y)) (hP : va_P D vwCl (hW a cA x) H) (hS : va_S A s.heap H locs) {E v : Int} (i : Nat) (hi : E = (i : Int) ∧ i < 7) (hdg : decode cc pc = .ok (.iastore, 1)) (kk : ∀ (H1 : Heap) (locs1 : List Loc), va_P D vwCl (hW a cA (uA x 0 (5 + i) v)) H1 → va_S A s.heap H1 locs1 → W p l e R s m args below meth c H1 locs1 cells slots Q (F0 m (pc + 1) ls rest)) : W p l e R s m args below meth c H locs cells slots Q (F0 m pc ls (.int (iI v) :: .int (iI E) :: .ref (a 2) :: rest)) :=
  va_iast hX.1 hX.2.1 hK hP (hD x) hS 2 0 hW_2 ty_0 (iI_in i hi.1 hi.2 (by decide)) hdg (fun H1 locs1 hP1 _ hS1 => kk H1 locs1 (by rw [iI_cl i hi.1 (by omega), hW_sc hi.2] at hP1; exact hP1) hS1)
theorem h_std (hX : zX p s m args meth c cc RX2 nL ret) (hK : va_K D vwCl (tyL cA) s) (hD : ∀ y, va_D A (hW a cA y)) (hP : va_P D vwCl (hW a cA x) H) (hS : va_S A s.heap H locs) {E v : Int} (i j : Nat) (hi : i < 7) (hj : E = (j : Int) ∧ j < 7) (hdg : decode cc pc = .ok (.iastore, 1)) (kk : ∀ (H1 : Heap) (locs1 : List Loc), va_P D vwCl (hW a cA (uA x 0 (12 + 7 * i + j) v)) H1 → va_S A s.heap H1 locs1 → W p l e R s m args below meth c H1 locs1 cells slots Q (F0 m (pc + 1) ls rest)) : W p l e R s m args below meth c H locs cells slots Q (F0 m pc ls (.int (iI v) :: .int (iI E) :: .ref (a (4 + i)) :: rest)) :=
  va_iast hX.1 hX.2.1 hK hP (hD x) hS (4 + i) 0 (hW_r hi) ty_0 (iI_in j hj.1 hj.2 (by decide)) hdg (fun H1 locs1 hP1 _ hS1 => kk H1 locs1 (by rw [iI_cl j hj.1 (by omega), hW_sd hi hj.2] at hP1; exact hP1) hS1)
/-- an object's monitor is free -/
def mFr (q : Nat) (H : Heap) : Prop := ∃ cell : Cell, H[q]? = some cell ∧ cell.monitor.owner = none ∧ cell.monitor.count = 0
/-- what stood free at the start stands free now -/
theorem W_mon {q : Nat} {g : JFrame} (hq : mFr q s.heap) (kk : mFr q H → W p l e R s m args below meth c H locs cells slots Q g) : W p l e R s m args below meth c H locs cells slots Q g := by
  intro T hT X
  refine kk ?_ T hT X
  obtain ⟨cell, h1, h2, h3⟩ := hq
  obtain ⟨cT, h4, h5, -⟩ := X.cellAt h1
  refine ⟨cT, by rw [← hT]; exact h4, ?_, ?_⟩
  · rw [h5]; exact h2
  · rw [h5]; exact h3
end
