/-! worlds that grow: constructors, new arrays -/
set_option maxRecDepth 100000
section
variable {p : Program} {l : Launch} {e : Env} {R : Room} {s : State} {m : MethodId} {args : Array Value} {below : List Frame} {meth : Method} {c : Code} {H H0 : Heap} {locs : List Loc} {cells slots : Nat} {Q : State → Prop}
variable {cc : ByteArray} {pc : Nat} {ls : Array Slot} {rest : List Value} {D : va_G} {cl : List vw_C} {A : Nat → Prop} {nL : Nat} {ret : Option FieldType} {cA : Nat → ClassId} {tys : List (ClassId × FieldType)} {own : String} {ws : va_W}
theorem w_metN {y : MethodName} {ws : List Cond} {rm : Room} {Qc : Array Value → State → Outcome → State → Prop} {mc ms maxL : Nat} {Z : zZ} {w : zT → va_W} {wr : va_W} {av : List Value} {sz : Nat} {x : zT} (hy : plainName y.cls = true) (hw : ws = Cond.code y cc maxL ret :: lw_all) (ho : y.cls = own) (hwk : wOk w) (hn : (lg_sl av).length ≤ maxL)
    (body : ∀ p e s m below meth c, zX p s m av.toArray meth c cc own maxL ret → meth.name = y.name → s.heap.size = sz → va_K D cl tys s → va_P D cl (w x) s.heap → (∀ y, va_D (wA w sz) (w y)) → (∀ q, s.heap.size ≤ q → wA w sz q) → Z (wA w sz) s s.heap → va_S (wA w sz) s.heap s.heap [] → (∀ H locs, va_S (wA w sz) s.heap H locs → va_P D cl wr H) → ∀ ls, lv_has ls maxL (lv_args 0 av) → W p l e (headSpec ws rm).room s m av.toArray below meth c s.heap [] 0 0 (MQ below Qc av.toArray s mc ms (wA w sz)) (F0 m 0 ls [])) :
    Met l y ws rm (wPc D cl tys Z w wr av sz x) Qc mc ms (wA w sz) := by
  refine Met.ofW (cc := cc) (maxL := maxL) (ret := ret) hy hw ?_
  intro p e s m args below meth c s₁ B hml hv
  obtain ⟨rfl, hsz, hP, hK, hD, hE, hR, hN⟩ := hv
  have hts := atoms_spec (ws := ws) B.pre
  have hts : ∀ w ∈ lw_all, w.before _ s = true := fun w h => hts w (by rw [hw]; exact List.mem_cons_of_mem _ h)
  have hown : s.vm.findClass own = some m.cls := by rw [← ho]; exact findClass_of_methodNamed B.named
  have hl := lv_entry av (n := maxL) hn
  rw [lg_entry_eq]
  refine body p e s m below meth c ⟨B.exec, B.bytes, hml, hown, hts, B.returns, B.notSynchronized⟩ (name_of_methodNamed B.named B.method).1 hsz hK hP (wD_self hwk hD) (fun q h => Or.inr (by omega)) hE va_S.rf (fun H locs hS => ?_) _ hl
  refine hR.kept (fun k q hq => hS.2.1 q.1 ?_ (hN k q hq))
  exact (hR k q hq).lt
theorem va_RA_eq {U : State} {a b : ClassId} {ty : FieldType} (h : va_RA U a ty) (h2 : va_RA U b ty) : a = b := by
  cases ty with
  | object C =>
    obtain ⟨_, _, _, _, _, h9⟩ := h
    obtain ⟨_, _, _, _, _, h8⟩ := h2
    exact Option.some.inj (h9.symm.trans h8)
  | _ => exact Option.some.inj (h.symm.trans h2)
/-- a new array of a base type: its class is the one of that type -/
theorem z_newa (hX : zX p s m args meth c cc own nL ret) (hK : va_K D cl (tyL cA) s) (hP : va_P D cl ws H) (hD : va_D A ws) (hS : va_S A H0 H locs) (hA : ∀ q, H0.size ≤ q → A q) (atype : ArrayType) (i : Nat) {ty : FieldType} (hty : newarray.typeOf atype = ty) (harr : Cond.arrayClass ty ∈ lw_all) (ht : (tyL cA)[i]? = some (cA i, ty)) (a0 : vp_A) {E : Int} (N : Nat) (ha : ∀ cA : ClassId, vp_cell cA a0 = arrV cA N (fun _ => defaultValue ty)) (hE : E = (N : Int)) (hN : N < 2 ^ 31) (hbytes : N * componentBytes ty ≤ 536870912) (hcells : cells + 1 ≤ R.cells) (hslots : slots + N ≤ R.slots) (hdg : decode cc pc = .ok (.newarray atype, 2))
    (kk : ∀ (q : Nat) (H1 : Heap), va_P D cl (ws ++ [(q, .inl (cA i, a0))]) H1 → va_D A (ws ++ [(q, .inl (cA i, a0))]) → va_S A H0 H1 locs → W p l e R s m args below meth c H1 locs (cells + 1) (slots + N) Q (F0 m (pc + 2) ls (.ref q :: rest))) : W p l e R s m args below meth c H locs cells slots Q (F0 m pc ls (.int (iI E) :: rest)) := by
  subst hE
  refine va_newa (atype := atype) (ty := ty) hX.1 hX.2.1 (by rw [hty]; exact hX.hts _ harr) hty hK hP hD hS hA ha (n := iI (N : Int)) (N' := N) ?_ (iI_cl N rfl hN) hbytes hcells hslots hdg (fun q cA1 H1 hK1 hP1 hD1 hS1 => ?_)
  · rw [show (0 : Int32) = iI 0 from rfl, iI_lt (rng_n hN) rng_0]; omega
  · have h1 := (hK1.2 (tyL cA).length (cA1, ty) (by rw [List.getElem?_append_right (Nat.le_refl _), Nat.sub_self]; rfl)).2
    have h2 := (hK.2 i _ ht).2
    have h3 : cA1 = cA i := va_RA_eq h1 h2
    subst h3
    exact kk q H1 hP1 hD1 hS1
end
/-- the twin as it begins -/
def initX : zT := uA (uA (fun _ _ => 0) 11 0 (-1)) 12 0 (-1)
def nQv (D : va_G) (P : va_W → Prop) (A : Nat → Prop) := va_Qv P (fun ws t => va_P D vwCl ws t.heap) A
