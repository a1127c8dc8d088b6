/-! worlds as explicit lists: methods that make things -/
set_option maxRecDepth 100000
/-- an array of ints, of truth values; an object -/
abbrev enI (cA : Nat → ClassId) (q n : Nat) (f : Nat → Int) : Nat × va_E := (q, .inl (cA 0, n, .inl (fun k => iI (f k))))
abbrev enZ (cA : Nat → ClassId) (q n : Nat) (f : Nat → Int) : Nat × va_E := (q, .inl (cA 2, n, .inl (fun k => iI (f k))))
abbrev enO (q ci : Nat) (fs : List Value) : Nat × va_E := (q, .inr (ci, fs))
abbrev wL (L0 : va_W) : zT → va_W := fun _ => L0
theorem wL_ok {L0 : va_W} : wOk (wL L0) := fun _ _ => rfl
/-- answers a reference, with a world of its own -/
abbrev nQq (D : va_G) (P : Option Nat → va_W → Prop) (A : Nat → Prop) := va_Qq P (fun ws t => va_P D vwCl ws t.heap) A
abbrev nQi (D : va_G) (P : Int32 → va_W → Prop) (A : Nat → Prop) := va_Qi P (fun ws t => va_P D vwCl ws t.heap) A
theorem wL_A {L0 : va_W} {sz q : Nat} : wA (wL L0) sz q ↔ (∃ (k : Nat) (e : va_E), L0[k]? = some (q, e)) ∨ sz ≤ q := Iff.rfl
theorem upd_gU {f : Nat → Int} {k : Nat} {v : Int} : upd (fun j => iI (f j)) k (iI v) = fun j => iI (gU f k v j) := by
  funext j
  unfold upd gU
  by_cases h : j = k
  · rw [if_pos h, if_pos h]
  · rw [if_neg h, if_neg h]
/-- the same array by other contents that agree where it counts -/
theorem enI_c {cA : ClassId} {n : Nat} {f h : Nat → Int} (e : ∀ k, k < n → f k = h k) : vp_cell cA (n, .inl (fun k => iI (f k))) = vp_cell cA (n, .inl (fun k => iI (h k))) := by
  rw [vp_cell_i, vp_cell_i]
  unfold arrV
  congr 1
  apply Array.ext
  · simp
  · intro i h1 h2
    simp at h1
    simp [e i h1]
section
variable {p : Program} {l : Launch} {e : Env} {R : Room} {s : State} {m : MethodId} {args : Array Value} {below : List Frame} {meth : Method} {c : Code} {H H0 : Heap} {locs : List Loc} {cells slots : Nat} {Q : State → Prop}
variable {cc : ByteArray} {pc : Nat} {ls : Array Slot} {rest st0 : List Value} {D : va_G} {A : Nat → Prop} {nL : Nat} {ret : Option FieldType} {cA : Nat → ClassId} {own : String} {ws : va_W} {a : Nat}
theorem l_met {y : MethodName} {wc : List Cond} {rm : Room} {Qc : Array Value → State → Outcome → State → Prop} {mc ms maxL : Nat} {Z : zZ} {L0 wr : va_W} {av : List Value} {sz : Nat} (hy : plainName y.cls = true) (hw : wc = Cond.code y cc maxL ret :: lw_all) (ho : y.cls = own) (hn : (lg_sl av).length ≤ maxL)
    (body : ∀ p e s m below meth c, zX p s m av.toArray meth c cc own maxL ret → meth.name = y.name → s.heap.size = sz → va_K D vwCl (tyL cA) s → va_P D vwCl L0 s.heap → va_D (wA (wL L0) sz) L0 → (∀ q, s.heap.size ≤ q → wA (wL L0) sz q) → Z (wA (wL L0) sz) s s.heap → va_S (wA (wL L0) sz) s.heap s.heap [] → (∀ H locs, va_S (wA (wL L0) sz) s.heap H locs → va_P D vwCl wr H) → (∀ (k : Nat) (q : Nat × va_E), wr[k]? = some q → ¬ wA (wL L0) sz q.1) → ∀ ls, lv_has ls maxL (lv_args 0 av) → W p l e (headSpec wc rm).room s m av.toArray below meth c s.heap [] 0 0 (MQ below Qc av.toArray s mc ms (wA (wL L0) sz)) (F0 m 0 ls [])) :
    Met l y wc rm (wPc D vwCl (tyL cA) Z (wL L0) wr av sz zO) Qc mc ms (wA (wL L0) sz) := by
  refine Met.ofW (cc := cc) (maxL := maxL) (ret := ret) hy hw ?_
  intro p e s m args below meth c s₁ B hml hv
  obtain ⟨rfl, hsz, hP, hK, hD, hE, hR, hN⟩ := hv
  have hts := atoms_spec (ws := wc) B.pre
  have hts : ∀ w ∈ lw_all, w.before _ s = true := fun w h => hts w (by rw [hw]; exact List.mem_cons_of_mem _ h)
  have hown : s.vm.findClass own = some m.cls := by rw [← ho]; exact findClass_of_methodNamed B.named
  have hl := lv_entry av (n := maxL) hn
  rw [lg_entry_eq]
  refine body p e s m below meth c ⟨B.exec, B.bytes, hml, hown, hts, B.returns, B.notSynchronized⟩ (name_of_methodNamed B.named B.method).1 hsz hK hP (wD_self wL_ok hD zO) (fun q h => Or.inr (by omega)) hE va_S.rf (fun H locs hS => ?_) hN _ hl
  refine hR.kept (fun k q hq => hS.2.1 q.1 ?_ (hN k q hq))
  exact (hR k q hq).lt
theorem l_sub {L0 : va_W} (hD : va_D A L0) (hA : ∀ q, s.heap.size ≤ q → A q) (hS : va_S A s.heap H locs) : ∀ q, wA (wL L0) H.size q → A q := fun q h => by
  rcases h with ⟨k, e9, h⟩ | h
  · exact hD.2 k _ h
  · exact hA q (by have := hS.1; omega)
theorem l_preV {Z : zZ} (hZ : zOk Z) {L0 wr : va_W} {C : String} {b : Addr} {As : List Value} (hK : va_K D vwCl (tyL cA) s) (hD : va_D A L0) (hA : ∀ q, s.heap.size ≤ q → A q) (hE : Z A s s.heap) (hP : va_P D vwCl L0 H) (hR : va_P D vwCl wr H) (hN : ∀ (k : Nat) (q : Nat × va_E), wr[k]? = some q → ¬ wA (wL L0) H.size q.1) (hS : va_S A s.heap H locs) (hr : ∃ cellB : Cell, H[b]? = some cellB ∧ cellB.vm.isStatics = false ∧ s.vm.findClass C = some cellB.cls) : PreV s H C b (wPc D vwCl (tyL cA) Z (wL L0) wr (.ref b :: As) H.size zO) As :=
  ⟨wPc_blind hZ, hr, fun U hU hW => ⟨rfl, by rw [hU], by rw [hU]; exact hP, va_K.moved hW.alike hK, fun _ => hD.weaken (fun _ _ _ _ => trivial), by rw [hU]; exact hZ.2.2.2 A _ _ _ (hZ.2.1 _ _ _ _ hW (hZ.2.2.1 _ _ _ _ hE hS.2.1)) (l_sub hD hA hS), by rw [hU]; exact hR, hN⟩⟩
theorem l_preS {Z : zZ} (hZ : zOk Z) {L0 wr : va_W} {As : List Value} (hK : va_K D vwCl (tyL cA) s) (hD : va_D A L0) (hA : ∀ q, s.heap.size ≤ q → A q) (hE : Z A s s.heap) (hP : va_P D vwCl L0 H) (hR : va_P D vwCl wr H) (hN : ∀ (k : Nat) (q : Nat × va_E), wr[k]? = some q → ¬ wA (wL L0) H.size q.1) (hS : va_S A s.heap H locs) : PreS s H (wPc D vwCl (tyL cA) Z (wL L0) wr As H.size zO) As :=
  ⟨wPc_blind hZ, fun U hU hW => ⟨rfl, by rw [hU], by rw [hU]; exact hP, va_K.moved hW.alike hK, fun _ => hD.weaken (fun _ _ _ _ => trivial), by rw [hU]; exact hZ.2.2.2 A _ _ _ (hZ.2.1 _ _ _ _ hW (hZ.2.2.1 _ _ _ _ hE hS.2.1)) (l_sub hD hA hS), by rw [hU]; exact hR, hN⟩⟩
/-- a world to read that this method may not write -/
theorem n_out {L0 wr : va_W} {A0 : Nat → Prop} (hN : ∀ (k : Nat) (q : Nat × va_E), wr[k]? = some q → ¬ A q.1) (hD : va_D A L0) (hA : ∀ q, s.heap.size ≤ q → A q) (hS : va_S A s.heap H locs) : ∀ (k : Nat) (q : Nat × va_E), wr[k]? = some q → ¬ wA (wL L0) H.size q.1 := fun k q h z => hN k q h (l_sub hD hA hS _ z)
/-- .. that stands beside what is written -/
theorem n_in {L0 G wr : va_W} (hP : va_P D vwCl (L0 ++ G) H) (hD : va_D A (L0 ++ G)) (hs : ∀ q ∈ wr, q ∈ G) : ∀ (k : Nat) (q : Nat × va_E), wr[k]? = some q → ¬ wA (wL L0) H.size q.1 := by
  intro k q h z
  obtain ⟨j, hj⟩ := List.getElem?_of_mem (hs q (List.mem_of_getElem? h))
  have h1 : (L0 ++ G)[L0.length + j]? = some q := by rw [List.getElem?_append_right (by omega), Nat.add_sub_cancel_left]; exact hj
  rcases z with ⟨i, e9, hi⟩ | z
  · have hl : i < L0.length := (List.getElem?_eq_some_iff.mp hi).1
    have h2 : (L0 ++ G)[i]? = some (q.1, e9) := by rw [List.getElem?_append_left hl]; exact hi
    have := hD.1 _ _ _ _ h1 h2 rfl
    omega
  · have := (hP _ q h1).lt
    omega
theorem P_l {L0 G : va_W} (hP : va_P D vwCl (L0 ++ G) H) : va_P D vwCl L0 H := fun k q h => hP k q (by rw [List.getElem?_append_left (List.getElem?_eq_some_iff.mp h).1]; exact h)
theorem P_r {L0 G : va_W} (hP : va_P D vwCl (L0 ++ G) H) : va_P D vwCl G H := fun k q h => hP (L0.length + k) q (by rw [List.getElem?_append_right (by omega), Nat.add_sub_cancel_left]; exact h)
theorem D_l {L0 G : va_W} (hD : va_D A (L0 ++ G)) : va_D A L0 := ⟨fun i j p q hi hj e => hD.1 i j p q (by rw [List.getElem?_append_left (List.getElem?_eq_some_iff.mp hi).1]; exact hi) (by rw [List.getElem?_append_left (List.getElem?_eq_some_iff.mp hj).1]; exact hj) e, fun k q h => hD.2 k q (by rw [List.getElem?_append_left (List.getElem?_eq_some_iff.mp h).1]; exact h)⟩
theorem D_r {L0 G : va_W} (hD : va_D A (L0 ++ G)) : va_D A G := ⟨fun i j p q hi hj e => by
  have := hD.1 (L0.length + i) (L0.length + j) p q (by rw [List.getElem?_append_right (by omega), Nat.add_sub_cancel_left]; exact hi) (by rw [List.getElem?_append_right (by omega), Nat.add_sub_cancel_left]; exact hj) e
  omega, fun k q h => hD.2 (L0.length + k) q (by rw [List.getElem?_append_right (by omega), Nat.add_sub_cancel_left]; exact h)⟩
/-- what a callee over a part has left of the whole -/
theorem l_after {L0 G w1 : va_W} {H1 : Heap} (hP : va_P D vwCl (L0 ++ G) H) (hD : va_D A (L0 ++ G)) (hA : ∀ q, s.heap.size ≤ q → A q) (hS : va_S A s.heap H locs) (hd : va_D (wA (wL L0) H.size) w1) (hp : va_P D vwCl w1 H1) (hk : ∀ q : Nat, q < H.size → ¬ wA (wL L0) H.size q → H1[q]? = H[q]?) : va_P D vwCl (w1 ++ G) H1 ∧ va_D A (w1 ++ G) := by
  have hN := n_in (wr := G) hP hD (fun q h => h)
  refine ⟨va_P.app hp ((P_r hP).kept (fun k q h => hk q.1 ((P_r hP) k q h).lt (hN k q h))), va_D.app (hd.weaken (fun k q h z => l_sub (D_l hD) hA hS _ z)) (D_r hD) (fun i j x y hi hj e9 => hN j y hj (e9 ▸ hd.2 i x hi))⟩
theorem l_callv {L0 G : va_W} {P : va_W → Prop} {mc ms : Nat} {av : Array Value} (hP : va_P D vwCl (L0 ++ G) H) (hD : va_D A (L0 ++ G)) (hA : ∀ q, s.heap.size ≤ q → A q) (hS : va_S A s.heap H locs) (hr : va_Run p l e R s m args below meth c H locs cells slots mc ms (F0 m pc ls st0) rest (nQv D P (wA (wL L0) H.size) av) (wA (wL L0) H.size)) (hPd : ∀ w1, P w1 → va_D (wA (wL L0) H.size) w1)
    (kk : ∀ (w1 : va_W) (H1 : Heap) (locs1 : List Loc), P w1 → va_P D vwCl (w1 ++ G) H1 → va_D A (w1 ++ G) → va_S A s.heap H1 locs1 → W p l e R s m args below meth c H1 locs1 (cells + mc) (slots + ms) Q (F0 m (pc + 3) ls rest)) : W p l e R s m args below meth c H locs cells slots Q (F0 m pc ls st0) :=
  va_callv hr hS (fun q _ h => l_sub (D_l hD) hA hS q h) (l_sub (D_l hD) hA hS) (fun w1 t H1 locs1 ht _ hp hb _ hk hS1 => by
    obtain ⟨h1, h2⟩ := l_after hP hD hA hS (hPd w1 hp) (by rw [← ht]; exact hb) hk
    exact kk w1 H1 locs1 hp h1 h2 hS1)
theorem l_callq {L0 G : va_W} {P : Option Nat → va_W → Prop} {mc ms : Nat} {av : Array Value} (hP : va_P D vwCl (L0 ++ G) H) (hD : va_D A (L0 ++ G)) (hA : ∀ q, s.heap.size ≤ q → A q) (hS : va_S A s.heap H locs) (hr : va_Run p l e R s m args below meth c H locs cells slots mc ms (F0 m pc ls st0) rest (nQq D P (wA (wL L0) H.size) av) (wA (wL L0) H.size)) (hPd : ∀ r w1, P r w1 → va_D (wA (wL L0) H.size) w1)
    (kk : ∀ (r : Option Nat) (w1 : va_W) (H1 : Heap) (locs1 : List Loc), P r w1 → va_P D vwCl (w1 ++ G) H1 → va_D A (w1 ++ G) → va_S A s.heap H1 locs1 → W p l e R s m args below meth c H1 locs1 (cells + mc) (slots + ms) Q (F0 m (pc + 3) ls (va_rf r :: rest))) : W p l e R s m args below meth c H locs cells slots Q (F0 m pc ls st0) :=
  va_callq hr hS (fun q _ h => l_sub (D_l hD) hA hS q h) (l_sub (D_l hD) hA hS) (fun r w1 t H1 locs1 ht _ hp hb _ hk hS1 => by
    obtain ⟨h1, h2⟩ := l_after hP hD hA hS (hPd r w1 hp) (by rw [← ht]; exact hb) hk
    exact kk r w1 H1 locs1 hp h1 h2 hS1)
/-- a callee that writes nothing of ours but makes a world: it stands beside -/
theorem l_callQ {P : Option Nat → va_W → Prop} {mc ms : Nat} {av : Array Value} (hP : va_P D vwCl ws H) (hA : ∀ q, s.heap.size ≤ q → A q) (hS : va_S A s.heap H locs) (hr : va_Run p l e R s m args below meth c H locs cells slots mc ms (F0 m pc ls st0) rest (nQq D P (wA w0 H.size) av) (wA w0 H.size))
    (kk : ∀ (r : Option Nat) (w1 : va_W) (H1 : Heap) (locs1 : List Loc), P r w1 → va_P D vwCl w1 H1 → va_P D vwCl ws H1 → H.size ≤ H1.size → va_S A s.heap H1 locs1 → W p l e R s m args below meth c H1 locs1 (cells + mc) (slots + ms) Q (F0 m (pc + 3) ls (va_rf r :: rest))) : W p l e R s m args below meth c H locs cells slots Q (F0 m pc ls st0) :=
  va_callq hr hS (fun q _ h => hA q (by have := w0_A.mp h; have := hS.1; omega)) (fun q h => hA q (by have := w0_A.mp h; have := hS.1; omega)) (fun r w1 t H1 locs1 ht _ hp hb hz hk hS1 =>
    kk r w1 H1 locs1 hp (by rw [← ht]; exact hb) (hP.kept (fun k q hq => hk q.1 (hP k q hq).lt (fun z => by have := w0_A.mp z; have := (hP k q hq).lt; omega))) hz hS1)
theorem n_ald (hX : zX p s m args meth c cc own nL ret) (hK : va_K D vwCl (tyL cA) s) (hP : va_P D vwCl ws H) (i : Nat) {q n : Nat} {f : Nat → Int} (he : ws[i]? = some (enI cA q n f)) {E : Int} (k : Nat) (hi : E = (k : Int) ∧ k < n) (hn : n < 2 ^ 31) (hdg : decode cc pc = .ok (.iaload, 1)) (kk : W p l e R s m args below meth c H locs cells slots Q (F0 m (pc + 1) ls (.int (iI (f k)) :: rest))) : W p l e R s m args below meth c H locs cells slots Q (F0 m pc ls (.int (iI E) :: .ref q :: rest)) :=
  va_iald hX.1 hX.2.1 hK hP i 0 he ty_0 (iI_in k hi.1 hi.2 hn) hdg (by rw [iI_cl k hi.1 (by omega)]; exact kk)
theorem n_ast (hX : zX p s m args meth c cc own nL ret) (hK : va_K D vwCl (tyL cA) s) (hP : va_P D vwCl ws H) (hD : va_D A ws) (hS : va_S A H0 H locs) (i : Nat) {q n : Nat} {f : Nat → Int} (he : ws[i]? = some (enI cA q n f)) {E v : Int} (k : Nat) (hi : E = (k : Int) ∧ k < n) (hn : n < 2 ^ 31) (hdg : decode cc pc = .ok (.iastore, 1)) (kk : ∀ (H1 : Heap) (locs1 : List Loc), va_P D vwCl (ws.set i (enI cA q n (gU f k v))) H1 → va_D A (ws.set i (enI cA q n (gU f k v))) → va_S A H0 H1 locs1 → W p l e R s m args below meth c H1 locs1 cells slots Q (F0 m (pc + 1) ls rest)) : W p l e R s m args below meth c H locs cells slots Q (F0 m pc ls (.int (iI v) :: .int (iI E) :: .ref q :: rest)) :=
  va_iast hX.1 hX.2.1 hK hP hD hS i 0 he ty_0 (iI_in k hi.1 hi.2 hn) hdg (fun H1 locs1 hP1 hD1 hS1 => kk H1 locs1 (by rw [iI_cl k hi.1 (by omega), upd_gU] at hP1; exact hP1) (by rw [iI_cl k hi.1 (by omega), upd_gU] at hD1; exact hD1) hS1)
theorem n_zld (hX : zX p s m args meth c cc own nL ret) (hK : va_K D vwCl (tyL cA) s) (hP : va_P D vwCl ws H) (i : Nat) {q n : Nat} {f : Nat → Int} (he : ws[i]? = some (enZ cA q n f)) {E : Int} (k : Nat) (hi : E = (k : Int) ∧ k < n) (hn : n < 2 ^ 31) (hdg : decode cc pc = .ok (.baload, 1)) (kk : W p l e R s m args below meth c H locs cells slots Q (F0 m (pc + 1) ls (.int (iI (f k)) :: rest))) : W p l e R s m args below meth c H locs cells slots Q (F0 m pc ls (.int (iI E) :: .ref q :: rest)) :=
  va_zald hX.1 hX.2.1 hK hP i 2 he rfl (iI_in k hi.1 hi.2 hn) hdg (by rw [iI_cl k hi.1 (by omega)]; exact kk)
theorem n_zst (hX : zX p s m args meth c cc own nL ret) (hK : va_K D vwCl (tyL cA) s) (hP : va_P D vwCl ws H) (hD : va_D A ws) (hS : va_S A H0 H locs) (i : Nat) {q n : Nat} {f : Nat → Int} (he : ws[i]? = some (enZ cA q n f)) {E v : Int} (hv : v = 0 ∨ v = 1) (k : Nat) (hi : E = (k : Int) ∧ k < n) (hn : n < 2 ^ 31) (hdg : decode cc pc = .ok (.bastore, 1)) (kk : ∀ (H1 : Heap) (locs1 : List Loc), va_P D vwCl (ws.set i (enZ cA q n (gU f k v))) H1 → va_D A (ws.set i (enZ cA q n (gU f k v))) → va_S A H0 H1 locs1 → W p l e R s m args below meth c H1 locs1 cells slots Q (F0 m (pc + 1) ls rest)) : W p l e R s m args below meth c H locs cells slots Q (F0 m pc ls (.int (iI v) :: .int (iI E) :: .ref q :: rest)) := by
  have hnar : vp_nar .boolean (iI v) = iI v := by rcases hv with rfl | rfl <;> rfl
  refine va_zast hX.1 hX.2.1 hK hP hD hS i 2 he rfl (iI_in k hi.1 hi.2 hn) hdg (fun H1 locs1 hP1 hD1 hS1 => kk H1 locs1 ?_ ?_ hS1)
  · rw [iI_cl k hi.1 (by omega), hnar, upd_gU] at hP1; exact hP1
  · rw [iI_cl k hi.1 (by omega), hnar, upd_gU] at hD1; exact hD1
theorem n_get {C : String} {T : u_T} {N ci index : Nat} (hX : zX p s m args meth c cc own nL ret) (hK : va_K D vwCl (tyL cA) s) (hP : va_P D vwCl ws H) (hin : ∀ v ∈ u_ws C T N, v ∈ lw_all) (q : Nat) {fs : List Value} (he : ws[q]? = some (a, .inr (ci, fs))) (hc : vwCl[ci]? = some (C, T, N)) (k : Nat) (hk : k < N) (hlink : Cond.fieldLink own index (T k).1 (T k).2.1 (T k).2.2.1 ∈ lw_all) {v : Value} (hv : fs[k]? = some v) (hdg : decode cc pc = .ok (.getfield index, 3)) (kk : W p l e R s m args below meth c H locs cells slots Q (F0 m (pc + 3) ls (v :: rest))) : W p l e R s m args below meth c H locs cells slots Q (F0 m pc ls (.ref a :: rest)) :=
  va_get hX.1 hX.2.1 hX.hts hin hX.ow hK hP q he hc k hk (hX.hts _ hlink) (fun _ h => h) hv hdg kk
theorem n_aret {P : Option Nat → va_W → Prop} {sz q : Nat} {w : zT → va_W} {rt : FieldType} (hX : zX p s m args meth c cc own nL (some rt)) (hrt : (∃ n, rt = .object n) ∨ ∃ t, rt = .array t) (hP : va_P D vwCl ws H) (hS : va_S (wA w sz) s.heap H locs) (hq : P (some q) ws) (hdg : decode cc pc = .ok (.areturn, 1)) : W p l e R s m args below meth c H locs cells slots (MQ below (nQq D P (wA w sz)) args s cells slots (wA w sz)) (F0 m pc ls [.ref q]) :=
  W.aret hX.1 hX.2.1 hX.2.2.2.2.2.1 hrt (Or.inr ⟨q, rfl⟩) (fun t ht _ => ⟨⟨some q, ws, rfl, hq, by subst ht; exact hP⟩, hS.F ht⟩) hS.2.2 hdg hX.2.2.2.2.2.2
theorem n_vret {P : va_W → Prop} {sz : Nat} {w : zT → va_W} (hX : zX p s m args meth c cc own nL none) (hP : va_P D vwCl ws H) (hS : va_S (wA w sz) s.heap H locs) (hq : P ws) (hdg : decode cc pc = .ok (.return_, 1)) : W p l e R s m args below meth c H locs cells slots (MQ below (nQv D P (wA w sz)) args s cells slots (wA w sz)) (F0 m pc ls []) :=
  W.vret hX.1 hX.2.1 hX.2.2.2.2.2.1 (fun t ht _ => ⟨⟨ws, rfl, hq, by subst ht; exact hP⟩, hS.F ht⟩) hS.2.2 hdg hX.2.2.2.2.2.2
end
