/-! exceptions: words that speak of the tables alone; throwers over worlds -/
set_option maxRecDepth 100000
def ngW : Cond → Bool
  | .declares _ => true
  | .castable _ _ => true
  | .fieldLinkNest _ _ _ _ _ _ => true
  | .methodLinkNest _ _ _ _ => true
  | _ => false
/-- the table's words that aren't good ones, as facts that last -/
def zWd (U : State) : Prop := ∀ w ∈ lw_tbl, ngW w = true → va_Nw w U
theorem ngW_on {w : Cond} (h : ngW w = true) : w.onTables = true := by
  cases w <;> first | rfl | cases h
theorem zWd_same {U V : State} (h : V.vm = U.vm) (hZ : zWd U) : zWd V := fun w hw hg => va_Nw.same (ngW_on hg) h.symm (hZ w hw hg)
theorem zWd_warm {s U : State} (hW : s.WarmedH U.vm) (hZ : zWd s) : zWd U := by
  intro w hw hg
  have h := hZ w hw hg
  cases w <;> first | exact va_Nw.warmD hW h | exact va_Nw.warmC hW h | exact va_Nw.warmF hW h | exact va_Nw.warmM hW h | cases hg
theorem zWd_use {w : Cond} {A : Array Value} {U : State} (hZ : zWd U) (i : Nat) (h : lw_tbl[i]? = some w) (hg : ngW w = true) : w.before A U = true := va_Nw.use (ngW_on hg) (hZ w (List.mem_of_getElem? h) hg)
/-- what a throw needs of the heap -/
def jT (A : Nat → Prop) (U : State) (H : Heap) : Prop := vx_Zq Bundle.tN "UNASSIGNED_STACK" Bundle.steD A U H ∧ vx_Zq Bundle.tN "SUPPRESSED_SENTINEL" Bundle.listD A U H
/-- the classes of arrays of arrays and of references -/
def zAo (U : State) : Prop := (Cond.arrayOver (.array .int)).before #[] U = true ∧ va_AO "java/lang/Object" U ∧ va_AO "ClearingHouse$Mark" U
theorem zAo_warm {s U : State} (hW : s.WarmedH U.vm) (h : zAo s) : zAo U := by
  refine ⟨?_, va_AO.moved hW.alike h.2.1, va_AO.moved hW.alike h.2.2⟩
  have h1 : (Cond.arrayOver (.array .int)).before #[] (s.setVm U.vm) = true := by rw [Cond.arrayOver_setVmC hW.alike]; exact h.1
  exact h1
def zT9 (A : Nat → Prop) (U : State) (H : Heap) : Prop := zWd U ∧ jT A U H ∧ zAo U
/-- the exceptions of this program -/
def eN (k : Int) : String := if k = 1 then "java/lang/IndexOutOfBoundsException" else if k = 2 then "java/lang/IllegalArgumentException" else if k = 3 then "java/lang/IllegalStateException" else if k = 4 then "java/lang/UnsupportedOperationException" else if k = 5 then "java/util/NoSuchElementException" else if k = 6 then "java/lang/ArithmeticException" else "ClearingHouse$SyntaxException"
/-- a throw of one of the exceptions px -/
abbrev xQ (px : Int → Prop) (A : Nat → Prop) : String → State → State → Prop := vx_X px (fun E k _ => E = eN k) A
section
variable {p : Program} {l : Launch} {e : Env} {R : Room} {s : State} {m : MethodId} {args : Array Value} {below : List Frame} {meth : Method} {c : Code} {H H0 : Heap} {locs : List Loc} {cells slots : Nat} {Q : State → Prop}
variable {cc : ByteArray} {pc : Nat} {ls : Array Slot} {rest : List Value} {D : va_G} {cl : List vw_C} {A : Nat → Prop} {nL : Nat} {ret : Option FieldType} {tys : List (ClassId × FieldType)} {own : String}
/-- a thrower from a walk; no table of its own; xp: premises of its own on the start's heap -/
theorem w_metX {y : MethodName} {ws : List Cond} {rm : Room} {Qc : Array Value → State → Outcome → State → Prop} {XC : String → State → State → Prop} {mc ms maxL : Nat} {Z : zZ} {w : zT → va_W} {wr : va_W} {av : List Value} {sz : Nat} {x : zT} (hy : plainName y.cls = true) (hw : ws = Cond.code y cc maxL ret :: lw_all) (ho : y.cls = own) (hwk : wOk w) (hn : (lg_sl av).length ≤ maxL)
    (body : ∀ p e s m below meth c, zX p s m av.toArray meth c cc own maxL ret → (∀ x ∈ c.exceptionTable.toList, False) → s.heap.size = sz → va_K D cl tys s → va_P D cl (w x) s.heap → (∀ y, va_D (wA w sz) (w y)) → (∀ q, s.heap.size ≤ q → wA w sz q) → Z (wA w sz) s s.heap → va_S (wA w sz) s.heap s.heap [] → (∀ H locs, va_S (wA w sz) s.heap H locs → va_P D cl wr H) → (∀ (k : Nat) (q : Nat × va_E), wr[k]? = some q → ¬ wA w sz q.1) → ∀ ls, lv_has ls maxL (lv_args 0 av) → W p l e (headSpec ws rm).room s m av.toArray below meth c s.heap [] 0 0 (vx_MQ below Qc XC av.toArray s mc ms (wA w sz)) (F0 m 0 ls [])) :
    vx_Met l y ws rm (wPc D cl tys Z w wr av sz x) Qc XC mc ms (wA w sz) := by
  refine vx_ofW (cc := cc) (maxL := maxL) (ret := ret) hy hw ?_
  intro p e s m args below meth c s₁ B hml ht hv
  obtain ⟨rfl, hsz, hP, hK, hD, hE, hR, hN⟩ := hv
  have hts := atoms_spec (ws := ws) B.pre
  have hts : ∀ w ∈ lw_all, w.before _ s = true := fun w h => hts w (by rw [hw]; exact List.mem_cons_of_mem _ h)
  have hown : s.vm.findClass own = some m.cls := by rw [← ho]; exact findClass_of_methodNamed B.named
  have hl := lv_entry av (n := maxL) hn
  rw [lg_entry_eq]
  refine body p e s m below meth c ⟨B.exec, B.bytes, hml, hown, hts, B.returns, B.notSynchronized⟩ ht hsz hK hP (wD_self hwk hD) (fun q h => Or.inr (by omega)) hE va_S.rf (fun H locs hS => ?_) hN _ hl
  refine hR.kept (fun k q hq => hS.2.1 q.1 ?_ (hN k q hq))
  exact (hR k q hq).lt
/-- .. whose object's account is free -/
theorem w_metXM {y : MethodName} {ws : List Cond} {rm : Room} {Qc : Array Value → State → Outcome → State → Prop} {XC : String → State → State → Prop} {mc ms maxL : Nat} {Z : zZ} {w : zT → va_W} {wr : va_W} {av : List Value} {sz b : Nat} {x : zT} (hy : plainName y.cls = true) (hw : ws = Cond.code y cc maxL ret :: lw_all) (ho : y.cls = own) (hwk : wOk w) (hn : (lg_sl av).length ≤ maxL)
    (body : ∀ p e s m below meth c, zX p s m av.toArray meth c cc own maxL ret → (∀ x ∈ c.exceptionTable.toList, False) → mFr b s.heap → s.heap.size = sz → va_K D cl tys s → va_P D cl (w x) s.heap → (∀ y, va_D (wA w sz) (w y)) → (∀ q, s.heap.size ≤ q → wA w sz q) → Z (wA w sz) s s.heap → va_S (wA w sz) s.heap s.heap [] → (∀ H locs, va_S (wA w sz) s.heap H locs → va_P D cl wr H) → (∀ (k : Nat) (q : Nat × va_E), wr[k]? = some q → ¬ wA w sz q.1) → ∀ ls, lv_has ls maxL (lv_args 0 av) → W p l e (headSpec ws rm).room s m av.toArray below meth c s.heap [] 0 0 (vx_MQ below Qc XC av.toArray s mc ms (wA w sz)) (F0 m 0 ls [])) :
    vx_Met l y ws rm (mPc b (wPc D cl tys Z w wr av sz x)) Qc XC mc ms (wA w sz) := by
  refine vx_ofW (cc := cc) (maxL := maxL) (ret := ret) hy hw ?_
  intro p e s m args below meth c s₁ B hml ht hv
  obtain ⟨⟨rfl, hsz, hP, hK, hD, hE, hR, hN⟩, hmf⟩ := hv
  have hts := atoms_spec (ws := ws) B.pre
  have hts : ∀ w ∈ lw_all, w.before _ s = true := fun w h => hts w (by rw [hw]; exact List.mem_cons_of_mem _ h)
  have hown : s.vm.findClass own = some m.cls := by rw [← ho]; exact findClass_of_methodNamed B.named
  have hl := lv_entry av (n := maxL) hn
  rw [lg_entry_eq]
  refine body p e s m below meth c ⟨B.exec, B.bytes, hml, hown, hts, B.returns, B.notSynchronized⟩ ht hmf hsz hK hP (wD_self hwk hD) (fun q h => Or.inr (by omega)) hE va_S.rf (fun H locs hS => ?_) hN _ hl
  refine hR.kept (fun k q hq => hS.2.1 q.1 ?_ (hN k q hq))
  exact (hR k q hq).lt
/-- the words of a throw out of the table -/
theorem th_hat (hts : ∀ w ∈ lw_all, w.before args s = true) (hW : zWd s) {L : List Cond} (ps : List Nat) (h : L = ps.filterMap (fun i => lw_tbl[i]?)) (hk : L.all (fun w => goodWord w || ngW w) = true) : ∀ w ∈ L, w.before args s = true := by
  intro w hw
  have h1 := List.all_eq_true.mp hk w hw
  have h2 : w ∈ lw_tbl := by
    rw [h] at hw
    obtain ⟨i, -, hi⟩ := List.mem_filterMap.mp hw
    exact List.mem_of_getElem? hi
  rcases Bool.or_eq_true _ _ ▸ h1 with g | g
  · exact hts w (lw_g h2 g)
  · exact va_Nw.use (ngW_on g) (hW w h2 g)
theorem th_ok {L : List Cond} (hk : L.all (fun w => goodWord w || ngW w) = true) : ∀ w ∈ L, vx_ot w = true := by
  intro w hw
  have h1 := List.all_eq_true.mp hk w hw
  unfold vx_ot
  rcases Bool.or_eq_true _ _ ▸ h1 with g | g
  · rw [g]; simp
  · rw [ngW_on g]; rfl
abbrev nm2 : List String := ["java/lang/RuntimeException", "java/lang/Exception"]
theorem w_throw {px : Int → Prop} {Qc : Array Value → State → Outcome → State → Prop} {cls : String} {ik ic mc ms : Nat} (hX : zX p s m args meth c cc own nL ret) (hl : l.stackTraces = false) (ht : ∀ x ∈ c.exceptionTable.toList, False) (hZ : zT9 A s s.heap) (hS : va_S A s.heap H locs) (hA : ∀ q, s.heap.size ≤ q → A q) (ps : List Nat) (k : Int) (hk : eN k = cls) (hp : px k) (hcls : Bundle.fit cls = true)
    (hL : Cond.classLink own ik cls :: Cond.initialized cls :: vx_at0 own ic cls nm2 = ps.filterMap (fun i => lw_tbl[i]?)) (hg : (Cond.classLink own ik cls :: Cond.initialized cls :: vx_at0 own ic cls nm2).all (fun w => goodWord w || ngW w) = true) (hsize : ls.size = nL)
    (d0 : decode cc pc = .ok (.new ik, 3)) (d3 : decode cc (pc + 3) = .ok (.dup, 1)) (d4 : decode cc (pc + 4) = .ok (.invokespecial ic, 3)) (d7 : decode cc (pc + 7) = .ok (.athrow, 1))
    (hR : 5 < R.frames ∧ (rest.map fun v => v.category).sum + 81 ≤ R.locals ∧ cells + 1 ≤ R.cells ∧ slots + 6 ≤ R.slots ∧ cells + 1 ≤ mc ∧ slots + 6 ≤ ms) :
    W p l e R s m args below meth c H locs cells slots (vx_MQ below Qc (xQ px A) args s mc ms A) (F0 m pc ls rest) := by
  have hat := th_hat hX.hts hZ.1 ps hL hg
  refine vx_throw0 (names := nm2) (A := A) hX.1 hX.2.1 hl hX.ow hcls (by decide) (hat _ List.mem_cons_self) (hat _ (List.mem_cons_of_mem _ List.mem_cons_self)) (fun w hw => hat w (List.mem_cons_of_mem _ (List.mem_cons_of_mem _ hw))) (th_ok hg) hZ.2.1.1 hZ.2.1.2 hS (hsize.trans hX.2.2.1.symm) d0 d3 d4 d7 (fun x hx => (ht x hx).elim) hR.1 hR.2.1 hR.2.2.1 hR.2.2.2.1 hX.2.2.2.2.2.2 ?_ hS.2.2 hR.2.2.2.2.1 hR.2.2.2.2.2
  intro t hvm h1 h2
  exact ⟨k, hp, hk.symm, Nat.le_trans hS.1 h1, fun q hq hn => by rw [h2 q (Nat.lt_of_lt_of_le hq hS.1)]; exact hS.2.1 q hq hn⟩
/-- a thrower that touches nothing is called; what it throws goes on -/
theorem x_callv {w : zT → va_W} {x : zT} {post : zT → Prop} {px PX : Int → Prop} {mc ms MC MS : Nat} {st0 : List Value} {av : Array Value} {Qc : Array Value → State → Outcome → State → Prop} (hX : zX p s m args meth c cc own nL ret) (ht : ∀ x ∈ c.exceptionTable.toList, False) (hA : ∀ q, s.heap.size ≤ q → A q) (hP : va_P D cl (w x) H) (hS : va_S A s.heap H locs) (hr : vx_Run p l e R s m args below meth c H locs cells slots mc ms (F0 m pc ls st0) rest (wQv D cl w0 post H.size av) (xQ px (wA w0 H.size)) (wA w0 H.size)) (hpx : ∀ k, px k → PX k) (hmc : cells + mc ≤ MC ∧ slots + ms ≤ MS)
    (kk : ∀ (y : zT) (H1 : Heap) (locs1 : List Loc), post y → va_P D cl (w x) H1 → va_S A s.heap H1 locs1 → W p l e R s m args below meth c H1 locs1 (cells + mc) (slots + ms) (vx_MQ below Qc (xQ PX A) args s MC MS A) (F0 m (pc + 3) ls rest)) : W p l e R s m args below meth c H locs cells slots (vx_MQ below Qc (xQ PX A) args s MC MS A) (F0 m pc ls st0) :=
  vx_callv hr hS (fun q _ h => hA q (by have := w0_A.mp h; have := hS.1; omega)) (fun q h => hA q (by have := w0_A.mp h; have := hS.1; omega)) (fun q _ h => hA q (by have := w0_A.mp h; have := hS.1; omega))
    (fun E ce q9 k t H1 locs1 _ _ hk hE _ _ hS1 hc hv hcl => vx_out (fun x hx => (ht x hx).elim) hX.2.2.2.2.2.2 hc hv hcl (fun t9 e9 _ => ⟨k, hpx k hk, hE, hS1.F e9⟩) hS1.2.2 hmc.1 hmc.2)
    (fun y t H1 locs1 _ _ hq _ _ hk hS1 => kk y H1 locs1 hq (hP.kept (fun k q hq => hk q.1 (hP k q hq).lt (fun z => by have := w0_A.mp z; have := (hP k q hq).lt; omega))) hS1)
theorem x_calli {w : zT → va_W} {x : zT} {post : Int32 → zT → Prop} {px PX : Int → Prop} {mc ms MC MS : Nat} {st0 : List Value} {av : Array Value} {Qc : Array Value → State → Outcome → State → Prop} (hX : zX p s m args meth c cc own nL ret) (ht : ∀ x ∈ c.exceptionTable.toList, False) (hA : ∀ q, s.heap.size ≤ q → A q) (hP : va_P D cl (w x) H) (hS : va_S A s.heap H locs) (hr : vx_Run p l e R s m args below meth c H locs cells slots mc ms (F0 m pc ls st0) rest (wQi D cl w0 post H.size av) (xQ px (wA w0 H.size)) (wA w0 H.size)) (hpx : ∀ k, px k → PX k) (hmc : cells + mc ≤ MC ∧ slots + ms ≤ MS)
    (kk : ∀ (r : Int32) (y : zT) (H1 : Heap) (locs1 : List Loc), post r y → va_P D cl (w x) H1 → va_S A s.heap H1 locs1 → W p l e R s m args below meth c H1 locs1 (cells + mc) (slots + ms) (vx_MQ below Qc (xQ PX A) args s MC MS A) (F0 m (pc + 3) ls (.int r :: rest))) : W p l e R s m args below meth c H locs cells slots (vx_MQ below Qc (xQ PX A) args s MC MS A) (F0 m pc ls st0) :=
  vx_calli hr hS (fun q _ h => hA q (by have := w0_A.mp h; have := hS.1; omega)) (fun q h => hA q (by have := w0_A.mp h; have := hS.1; omega)) (fun q _ h => hA q (by have := w0_A.mp h; have := hS.1; omega))
    (fun E ce q9 k t H1 locs1 _ _ hk hE _ _ hS1 hc hv hcl => vx_out (fun x hx => (ht x hx).elim) hX.2.2.2.2.2.2 hc hv hcl (fun t9 e9 _ => ⟨k, hpx k hk, hE, hS1.F e9⟩) hS1.2.2 hmc.1 hmc.2)
    (fun r y t H1 locs1 _ _ hq _ _ hk hS1 => kk r y H1 locs1 hq (hP.kept (fun k q hq => hk q.1 (hP k q hq).lt (fun z => by have := w0_A.mp z; have := (hP k q hq).lt; omega))) hS1)
/-- a thrower that writes this world is called -/
theorem xw_calli {w : zT → va_W} {post : Int32 → zT → Prop} {px PX : Int → Prop} {mc ms MC MS : Nat} {st0 : List Value} {av : Array Value} {Qc : Array Value → State → Outcome → State → Prop} (hX : zX p s m args meth c cc own nL ret) (ht : ∀ x ∈ c.exceptionTable.toList, False) (hD : ∀ y, va_D A (w y)) (hA : ∀ q, s.heap.size ≤ q → A q) (hS : va_S A s.heap H locs) (hr : vx_Run p l e R s m args below meth c H locs cells slots mc ms (F0 m pc ls st0) rest (wQi D cl w post H.size av) (xQ px (wA w H.size)) (wA w H.size)) (hpx : ∀ k, px k → PX k) (hmc : cells + mc ≤ MC ∧ slots + ms ≤ MS)
    (kk : ∀ (r : Int32) (y : zT) (H1 : Heap) (locs1 : List Loc), post r y → va_P D cl (w y) H1 → va_S A s.heap H1 locs1 → W p l e R s m args below meth c H1 locs1 (cells + mc) (slots + ms) (vx_MQ below Qc (xQ PX A) args s MC MS A) (F0 m (pc + 3) ls (.int r :: rest))) : W p l e R s m args below meth c H locs cells slots (vx_MQ below Qc (xQ PX A) args s MC MS A) (F0 m pc ls st0) :=
  vx_calli hr hS (fun q _ h => wA_sub hD hA hS.1 q h) (wA_sub hD hA hS.1) (fun q _ h => wA_sub hD hA hS.1 q h)
    (fun E ce q9 k t H1 locs1 _ _ hk hE _ _ hS1 hc hv hcl => vx_out (fun x hx => (ht x hx).elim) hX.2.2.2.2.2.2 hc hv hcl (fun t9 e9 _ => ⟨k, hpx k hk, hE, hS1.F e9⟩) hS1.2.2 hmc.1 hmc.2)
    (fun r y t H1 locs1 ht9 _ hq hB _ _ hS1 => kk r y H1 locs1 hq (by rw [← ht9]; exact hB) hS1)
end
