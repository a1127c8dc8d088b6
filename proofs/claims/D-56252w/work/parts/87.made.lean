/-! things made: monitors of new cells, arrays of arrays, a method seen anew -/
set_option maxRecDepth 100000
section
variable {p : Program} {l : Launch} {e : Env} {R : Room} {s : State} {m : MethodId} {args : Array Value} {below : List Frame} {meth : Method} {c : Code} {H H0 : Heap} {locs : List Loc} {cells slots : Nat} {Q : State → Prop}
variable {cc : ByteArray} {pc : Nat} {ls : Array Slot} {rest st0 : List Value} {D : va_G} {A : Nat → Prop} {nL : Nat} {ret : Option FieldType} {cA : Nat → ClassId} {own : String} {ws : va_W} {a : Nat}
/-- what was changed since here was changed since the start -/
theorem W_reb {Qc : Array Value → State → Outcome → State → Prop} {mc ms mc1 ms1 : Nat} {free : Addr → Prop} {g : JFrame} (hm : cells + mc1 ≤ mc ∧ slots + ms1 ≤ ms) (hr : cells + mc1 ≤ R.cells ∧ slots + ms1 ≤ R.slots) (hL : ∀ q ∈ locs, free q.base) (hQ : ∀ (s9 : State) (o : Outcome) (t : State), s9.heap = H → Qc args s9 o t → Qc args s o t)
    (k : ∀ s9 : State, s9.heap = H → s9.vm = s.vm → W p l e { frames := R.frames, cells := mc1, slots := ms1, locals := R.locals } s9 m args below meth c H [] 0 0 (MQ below Qc args s9 mc1 ms1 free) g) : W p l e R s m args below meth c H locs cells slots (MQ below Qc args s mc ms free) g := by
  intro T hT X
  have Y := vx_rebase X (R' := { frames := R.frames, cells := mc1, slots := ms1, locals := R.locals }) (Nat.le_refl _) (Nat.le_refl _) hr.1 hr.2
  obtain ⟨t, st, o, b1, b2, b3, L, ⟨hv, hW, hsm⟩, hf⟩ := k ((T.setVm s.vm).setFrames (.invoking m args :: below)) hT rfl T hT Y
  refine ⟨t, st, o, b1, b2, hQ ((T.setVm s.vm).setFrames (.invoking m args :: below)) o t hT b3, locs ++ L, ⟨hv, hW, ?_⟩, fun q hq => (List.mem_append.mp hq).elim (hL q) (hf q)⟩
  obtain ⟨e1, e2⟩ := hsm
  rw [State.setFrames_setFrames] at e1
  have h2 : (T.setVm s.vm).sameButNew ({ t with vm := s.vm } : State) L mc1 ms1 := ⟨e1, e2⟩
  exact (X.same.trans h2).mono hm.1 hm.2
theorem zX_reb {s9 : State} (hX : zX p s m args meth c cc own nL ret) (hvm : s9.vm = s.vm) : zX p s9 m args meth c cc own nL ret :=
  ⟨hX.1, hX.2.1, hX.2.2.1, by rw [hvm]; exact hX.2.2.2.1, fun w h => pay_in hX.hts (lw_good (fun w h => h)) w h _ _ (by rw [hvm]; exact State.WarmedH.refl s), hX.2.2.2.2.2⟩
theorem va_S_tr {s9 : State} {locs9 : List Loc} {H9 : Heap} (h1 : va_S A s.heap H locs) (hh : s9.heap = H) (h2 : va_S A s9.heap H9 locs9) : va_S A s.heap H9 locs9 := by
  rw [hh] at h2
  exact ⟨Nat.le_trans h1.1 h2.1, fun q h3 h4 => (h2.2.1 q (Nat.lt_of_lt_of_le h3 h1.1) h4).trans (h1.2.1 q h3 h4), h2.2.2⟩
theorem va_F_tr {s9 t : State} (h1 : va_S A s.heap H locs) (hh : s9.heap = H) (h2 : va_F A s9 t) : va_F A s t := by
  obtain ⟨z, k⟩ := h2
  rw [hh] at z k
  exact ⟨Nat.le_trans h1.1 z, fun q h3 h4 => (k q (Nat.lt_of_lt_of_le h3 h1.1) h4).trans (h1.2.1 q h3 h4)⟩
/-- the account of the world's fourth thing is free -/
def mF3 (ws : va_W) (H : Heap) : Prop := ∀ q : Nat × va_E, ws[3]? = some q → mFr q.1 H
abbrev nQvM (D : va_G) (P : va_W → Prop) (A : Nat → Prop) := va_Qv P (fun ws t => va_P D vwCl ws t.heap ∧ mF3 ws t.heap) A
theorem n_vretM {P : va_W → Prop} {sz : Nat} {w : zT → va_W} (hX : zX p s m args meth c cc own nL none) (hP : va_P D vwCl ws H) (hm : mF3 ws H) (hS : va_S (wA w sz) s.heap H locs) (hq : P ws) (hdg : decode cc pc = .ok (.return_, 1)) : W p l e R s m args below meth c H locs cells slots (MQ below (nQvM D P (wA w sz)) args s cells slots (wA w sz)) (F0 m pc ls []) :=
  W.vret hX.1 hX.2.1 hX.2.2.2.2.2.1 (fun t ht _ => ⟨⟨ws, rfl, hq, by subst ht; exact ⟨hP, hm⟩⟩, hS.F ht⟩) hS.2.2 hdg hX.2.2.2.2.2.2
/-- a new object, its monitor free -/
theorem z_newM {C : String} {T : u_T} {N ci index : Nat} (hX : zX p s m args meth c cc own nL ret) (hin : ∀ w ∈ u_ws C T N, w ∈ lw_all) (ty : Nat → FieldType) (hty : ∀ k, k < N → parseFieldDescriptor (T k).2.2.1 = some (ty k)) (hcl : Cond.classLink own index C ∈ lw_all) (hinst : Cond.instantiable C N ∈ lw_all) (hini : Cond.initialized C ∈ lw_all)
    (hK : va_K D vwCl (tyL cA) s) (hP : va_P D vwCl ws H) (hD : va_D A ws) (hS : va_S A s.heap H locs) (hA : ∀ q, s.heap.size ≤ q → A q) (hc : vwCl[ci]? = some (C, T, N)) {fs : List Value} (hfs : ∀ j, j < N → defaultValue (ty j) = vp_V fs j) (hcells : cells + 1 ≤ R.cells) (hslots : slots + N ≤ R.slots) (hdg : decode cc pc = .ok (.new index, 3))
    (kk : ∀ (q : Nat) (H1 : Heap), va_P D vwCl (ws ++ [(q, .inr (ci, fs))]) H1 → va_D A (ws ++ [(q, .inr (ci, fs))]) → va_S A s.heap H1 locs → mFr q H1 → W p l e R s m args below meth c H1 locs (cells + 1) (slots + N) Q (F0 m (pc + 3) ls (.ref q :: rest))) : W p l e R s m args below meth c H locs cells slots Q (F0 m pc ls rest) := by
  have hKn := hK.1 ci _ hc
  refine W.newcK hX.1 hX.2.1 hX.ow (hX.hts _ hcl) (hX.hts _ hinst) (hX.hts _ hini) rfl hdg hcells hslots hKn.2.1 rfl fun H1 kC hkC e1 z1 o1 => ?_
  have hk : ∀ (k : Nat) (x : Nat × va_E), ws[k]? = some x → H1[x.1]? = H[x.1]? := fun k x hx => o1 x.1 ((hP k x hx).lt)
  refine kk H.size H1 ((hP.kept hk).app (fun k x hx => ?_)) (hD.push hP rfl (hA _ hS.1)) ⟨Nat.le_trans hS.1 (by omega), fun x h1 h2 => (o1 x (Nat.lt_of_lt_of_le h1 hS.1)).trans (hS.2.1 x h1 h2), hS.2.2⟩ ⟨_, e1, rfl, rfl⟩
  have hz : k < 1 := (List.getElem?_eq_some_iff.mp hx).1
  rw [show k = 0 by omega] at hx
  cases hx
  exact ⟨_, hc, (u_born ty hX.hts hin hKn hkC e1 hty).to hfs⟩
/-- new int[7][7] -/
theorem z_multi {idx : Nat} (hX : zX p s m args meth c cc own nL ret) (hZw : zAo s) (hK : va_K D vwCl (tyL cA) s) (hP : va_P D vwCl ws H) (hD : va_D A ws) (hS : va_S A s.heap H locs) (hA : ∀ q, s.heap.size ≤ q → A q) (hcl : Cond.classLink own idx "[[I" ∈ lw_all) (hdg : decode cc pc = .ok (.multianewarray idx 2, 4)) (hcells : cells + 8 ≤ R.cells) (hslots : slots + 56 ≤ R.slots)
    (kk : ∀ (q : Nat) (H1 : Heap), va_P D vwCl (ws ++ [(q, .inl (cA 3, 7, .inr (.inr (.inr (.inr (fun k => some (q + 1 + k))))))), enI cA (q + 1) 7 (fun _ => 0), enI cA (q + 2) 7 (fun _ => 0), enI cA (q + 3) 7 (fun _ => 0), enI cA (q + 4) 7 (fun _ => 0), enI cA (q + 5) 7 (fun _ => 0), enI cA (q + 6) 7 (fun _ => 0), enI cA (q + 7) 7 (fun _ => 0)]) H1 → va_D A (ws ++ [(q, .inl (cA 3, 7, .inr (.inr (.inr (.inr (fun k => some (q + 1 + k))))))), enI cA (q + 1) 7 (fun _ => 0), enI cA (q + 2) 7 (fun _ => 0), enI cA (q + 3) 7 (fun _ => 0), enI cA (q + 4) 7 (fun _ => 0), enI cA (q + 5) 7 (fun _ => 0), enI cA (q + 6) 7 (fun _ => 0), enI cA (q + 7) 7 (fun _ => 0)]) → va_S A s.heap H1 locs → W p l e R s m args below meth c H1 locs (cells + 8) (slots + 56) Q (F0 m (pc + 4) ls (.ref q :: rest))) : W p l e R s m args below meth c H locs cells slots Q (F0 m pc ls (.int (iI 7) :: .int (iI 7) :: rest)) := by
  intro T hT X
  have h7 : (iI 7).toNatClampNeg = 7 := by decide
  obtain ⟨vm₁, c3, c0, hW, hfA, hfC, hO, hI, X1, st⟩ := X.multianewarray2F hX.1 (own := own) (index := idx) (ty := .int) hX.ow (hX.hts _ hcl) hZw.1 (hX.hts _ q165) (g := F0 m pc ls (.int (iI 7) :: .int (iI 7) :: rest)) rfl (by rw [hX.2.1]; exact hdg) (n := iI 7) (k := iI 7) (rest := rest) rfl (by decide) (by decide) (by rw [h7]; decide) (by rw [h7]; decide) (by rw [h7]; decide) rfl rfl (by rw [h7]; omega) (by rw [h7]; omega)
  rw [h7] at X1 st
  have f3 : c3 = cA 3 := by
    have h9 := (hK.2 3 _ rfl).2
    exact Option.some.inj (hfA.symm.trans h9)
  have f0 : c0 = cA 0 := by
    have h9 := (hK.2 0 _ rfl).2
    exact Option.some.inj (hfC.symm.trans h9)
  subst f3; subst f0
  obtain ⟨g1, g2, g3, -⟩ := Jvm.Free.Multi.fill_facts (T.setVm vm₁) (cA 3) (cA 0) 7 7 (defaultValue .int) 7
  have go := fun (a : Addr) (ha : a < T.heap.size) => Jvm.Free.Multi.fill_old (T.setVm vm₁) (cA 3) (cA 0) 7 7 (defaultValue .int) (a := a) ha 7
  have gi := fun (j : Nat) (hj : j < 7) => Jvm.Free.Multi.fill_inner (T.setVm vm₁) (cA 3) (cA 0) 7 7 (defaultValue .int) 7 j hj
  have hsz : (T.setVm vm₁).heap.size = H.size := by rw [← hT]; rfl
  have hTh : ∀ q : Nat, (T.setVm vm₁).heap[q]? = H[q]? := fun q => by rw [← hT]; rfl
  rw [hsz] at g1 g2 gi
  have hout : Jvm.Free.Multi.outerC (cA 3) 7 H.size 7 = vp_cell (cA 3) (7, .inr (.inr (.inr (.inr (fun k => some (H.size + 1 + k)))))) := by
    rw [vp_cell_q]
    obtain ⟨o1, o2, o3⟩ := Jvm.Free.Multi.outerC_facts (cA 3) 7 H.size 7
    have os := fun (j : Nat) (hj : j < 7) => Jvm.Free.Multi.outerC_slot (cA 3) 7 H.size 7 j hj
    have hsl : (Jvm.Free.Multi.outerC (cA 3) 7 H.size 7).slots = Array.ofFn (n := 7) fun j => va_rf (some (H.size + 1 + j.val)) := by
      apply Array.ext_getElem?
      intro i
      by_cases hi : i < 7
      · rw [os i hi, if_pos hi]
        simp [hi, va_rf]
      · rw [Array.getElem?_eq_none (by omega), Array.getElem?_eq_none (by simp; omega)]
    have hmon : (Jvm.Free.Multi.outerC (cA 3) 7 H.size 7) = { cls := cA 3, slots := (Jvm.Free.Multi.outerC (cA 3) 7 H.size 7).slots, vm := .none } := by rfl
    rw [hmon, hsl]
    rfl
  have hin : Jvm.Free.Multi.innerC (cA 0) 7 (defaultValue .int) = vp_cell (cA 0) (7, .inl (fun _ => iI 0)) := by
    rw [vp_cell_i]
    exact arrV_new (cA 0) 7 (defaultValue .int)
  have hkeep : ∀ q, q < H.size → (Jvm.Free.Multi.fill (T.setVm vm₁) (cA 3) (cA 0) 7 7 (defaultValue .int) 7).heap[q]? = H[q]? := fun q hq => (go q (by rw [hT]; exact hq)).trans (hTh q)
  have hN1 : va_P D vwCl [(H.size, .inl (cA 3, 7, .inr (.inr (.inr (.inr (fun k => some (H.size + 1 + k))))))), enI cA (H.size + 1) 7 (fun _ => 0), enI cA (H.size + 2) 7 (fun _ => 0), enI cA (H.size + 3) 7 (fun _ => 0), enI cA (H.size + 4) 7 (fun _ => 0), enI cA (H.size + 5) 7 (fun _ => 0), enI cA (H.size + 6) 7 (fun _ => 0), enI cA (H.size + 7) 7 (fun _ => 0)] (Jvm.Free.Multi.fill (T.setVm vm₁) (cA 3) (cA 0) 7 7 (defaultValue .int) 7).heap := by
    intro k x hk
    have hlen : k < 8 := (List.getElem?_eq_some_iff.mp hk).1
    obtain rfl | rfl | rfl | rfl | rfl | rfl | rfl | rfl : k = 0 ∨ k = 1 ∨ k = 2 ∨ k = 3 ∨ k = 4 ∨ k = 5 ∨ k = 6 ∨ k = 7 := by omega
    · cases hk; exact g2.trans (congrArg some hout)
    · cases hk; exact (gi 0 (by omega)).trans (congrArg some hin)
    · cases hk; exact (gi 1 (by omega)).trans (congrArg some hin)
    · cases hk; exact (gi 2 (by omega)).trans (congrArg some hin)
    · cases hk; exact (gi 3 (by omega)).trans (congrArg some hin)
    · cases hk; exact (gi 4 (by omega)).trans (congrArg some hin)
    · cases hk; exact (gi 5 (by omega)).trans (congrArg some hin)
    · cases hk; exact (gi 6 (by omega)).trans (congrArg some hin)
  have hDn : va_D A [(H.size, .inl (cA 3, 7, .inr (.inr (.inr (.inr (fun k => some (H.size + 1 + k))))))), enI cA (H.size + 1) 7 (fun _ => 0), enI cA (H.size + 2) 7 (fun _ => 0), enI cA (H.size + 3) 7 (fun _ => 0), enI cA (H.size + 4) 7 (fun _ => 0), enI cA (H.size + 5) 7 (fun _ => 0), enI cA (H.size + 6) 7 (fun _ => 0), enI cA (H.size + 7) 7 (fun _ => 0)] := by
    have key : ∀ (k : Nat) (x : Nat × va_E), ([(H.size, .inl (cA 3, 7, .inr (.inr (.inr (.inr (fun k => some (H.size + 1 + k))))))), enI cA (H.size + 1) 7 (fun _ => 0), enI cA (H.size + 2) 7 (fun _ => 0), enI cA (H.size + 3) 7 (fun _ => 0), enI cA (H.size + 4) 7 (fun _ => 0), enI cA (H.size + 5) 7 (fun _ => 0), enI cA (H.size + 6) 7 (fun _ => 0), enI cA (H.size + 7) 7 (fun _ => 0)] : va_W)[k]? = some x → x.1 = H.size + k := by
      intro k x hk
      have hlen : k < 8 := (List.getElem?_eq_some_iff.mp hk).1
      obtain rfl | rfl | rfl | rfl | rfl | rfl | rfl | rfl : k = 0 ∨ k = 1 ∨ k = 2 ∨ k = 3 ∨ k = 4 ∨ k = 5 ∨ k = 6 ∨ k = 7 := by omega
      all_goals (cases hk; rfl)
    exact ⟨fun i j x y hi hj e9 => by have := key i x hi; have := key j y hj; omega, fun k x hk => hA _ (by have := key k x hk; have := hS.1; omega)⟩
  have hD2 := va_D.app hD hDn (fun i j x y hi hj e9 => by
    have h1 := (hP i x hi).lt
    have h2 : H.size ≤ y.1 := by
      have hlen : j < 8 := (List.getElem?_eq_some_iff.mp hj).1
      obtain rfl | rfl | rfl | rfl | rfl | rfl | rfl | rfl : j = 0 ∨ j = 1 ∨ j = 2 ∨ j = 3 ∨ j = 4 ∨ j = 5 ∨ j = 6 ∨ j = 7 := by omega
      all_goals (cases hj; simp [enI])
    omega)
  have hS2 : va_S A s.heap (Jvm.Free.Multi.fill (T.setVm vm₁) (cA 3) (cA 0) 7 7 (defaultValue .int) 7).heap locs := ⟨by rw [g1]; have := hS.1; omega, fun q h1 h2 => (hkeep q (Nat.lt_of_lt_of_le h1 hS.1)).trans (hS.2.1 q h1 h2), hS.2.2⟩
  obtain ⟨t, a1, b1⟩ := kk H.size _ (va_P.app (hP.kept (fun k x hx => hkeep x.1 (hP k x hx).lt)) hN1) hD2 hS2 (Jvm.Free.Multi.fill (T.setVm vm₁) (cA 3) (cA 0) 7 7 (defaultValue .int) 7) rfl (stand_widen X1 (by omega) (by omega))
  exact ⟨t, st t (by rw [show T.heap.size = H.size by rw [hT]]; exact a1), b1⟩
end
