/-! methods that write one world and read another -/
set_option maxRecDepth 100000
section
variable {p : Program} {l : Launch} {e : Env} {R : Room} {s : State} {m : MethodId} {args : Array Value} {below : List Frame} {meth : Method} {c : Code} {H H0 : Heap} {locs : List Loc} {cells slots : Nat} {Q : State → Prop}
variable {cc : ByteArray} {pc : Nat} {ls : Array Slot} {rest : List Value} {D : va_G} {cl : List vw_C} {A : Nat → Prop} {nL : Nat} {ret : Option FieldType} {cA : Nat → ClassId} {tys : List (ClassId × FieldType)} {own : String}
theorem w_metR {y : MethodName} {ws : List Cond} {rm : Room} {Qc : Array Value → State → Outcome → State → Prop} {mc ms maxL : Nat} {Z : zZ} {w : zT → va_W} {wr : va_W} {av : List Value} {sz : Nat} {x : zT} (hy : plainName y.cls = true) (hw : ws = Cond.code y cc maxL ret :: lw_all) (ho : y.cls = own) (hwk : wOk w) (hn : (lg_sl av).length ≤ maxL)
    (body : ∀ p e s m below meth c, zX p s m av.toArray meth c cc own maxL ret → s.heap.size = sz → va_K D cl tys s → va_P D cl (w x) s.heap → (∀ y, va_D (wA w sz) (w y)) → (∀ q, s.heap.size ≤ q → wA w sz q) → Z (wA w sz) s s.heap → va_S (wA w sz) s.heap s.heap [] → (∀ H locs, va_S (wA w sz) s.heap H locs → va_P D cl wr H) → (∀ (k : Nat) (q : Nat × va_E), wr[k]? = some q → ¬ wA w sz q.1) → ∀ ls, lv_has ls maxL (lv_args 0 av) → W p l e (headSpec ws rm).room s m av.toArray below meth c s.heap [] 0 0 (MQ below Qc av.toArray s mc ms (wA w sz)) (F0 m 0 ls [])) :
    Met l y ws rm (wPc D cl tys Z w wr av sz x) Qc mc ms (wA w sz) := by
  refine Met.ofW (cc := cc) (maxL := maxL) (ret := ret) hy hw ?_
  intro p e s m args below meth c s₁ B hml hv
  obtain ⟨rfl, hsz, hP, hK, hD, hE, hR, hN⟩ := hv
  have hts := atoms_spec (ws := ws) B.pre
  have hts : ∀ w ∈ lw_all, w.before _ s = true := fun w h => hts w (by rw [hw]; exact List.mem_cons_of_mem _ h)
  have hown : s.vm.findClass own = some m.cls := by rw [← ho]; exact findClass_of_methodNamed B.named
  have hl := lv_entry av (n := maxL) hn
  rw [lg_entry_eq]
  refine body p e s m below meth c ⟨B.exec, B.bytes, hml, hown, hts, B.returns, B.notSynchronized⟩ hsz hK hP (wD_self hwk hD) (fun q h => Or.inr (by omega)) hE va_S.rf (fun H locs hS => ?_) hN _ hl
  refine hR.kept (fun k q hq => hS.2.1 q.1 ?_ (hN k q hq))
  exact (hR k q hq).lt
theorem wA_up {w : zT → va_W} {sz sz' q : Nat} (h : sz ≤ sz') (hq : wA w sz' q) : wA w sz q := by
  rcases hq with h1 | h1
  · exact Or.inl h1
  · exact Or.inr (by omega)
theorem w_preVW {Z : zZ} (hZ : zOk Z) {w : zT → va_W} {x : zT} {wr : va_W} {C : String} {b : Addr} {As : List Value} (hK : va_K D cl tys s) (hD : ∀ y, va_D A (w y)) (hA : ∀ q, s.heap.size ≤ q → A q) (hE : Z A s s.heap) (hP : va_P D cl (w x) H) (hR : va_P D cl wr H) (hN : ∀ (k : Nat) (q : Nat × va_E), wr[k]? = some q → ¬ wA w H.size q.1) (hS : va_S A s.heap H locs) (hr : ∃ cellB : Cell, H[b]? = some cellB ∧ cellB.vm.isStatics = false ∧ s.vm.findClass C = some cellB.cls) : PreV s H C b (wPc D cl tys Z w wr (.ref b :: As) H.size x) As :=
  ⟨wPc_blind hZ, hr, fun U hU hW => ⟨rfl, by rw [hU], by rw [hU]; exact hP, va_K.moved hW.alike hK, fun y => (hD y).weaken (fun _ _ _ _ => trivial), by rw [hU]; exact hZ.2.2.2 A _ _ _ (hZ.2.1 _ _ _ _ hW (hZ.2.2.1 _ _ _ _ hE hS.2.1)) (wA_sub hD hA hS.1), by rw [hU]; exact hR, hN⟩⟩
end
/-- a path of parties under way -/
def pW (q : Nat) (cA : Nat → ClassId) (x : zT) : va_W := [(q, .inl (cA 0, 7, .inl (fun k => iI (x 0 k))))]
theorem pW_ok {q : Nat} {cA : Nat → ClassId} : wOk (pW q cA) := fun _ _ => rfl
def gPh (x : zT) (F : Option (List Nat)) (p : List Nat) : Int → zT → Prop := fun z y => ∃ c', y = sA x 0 c' ∧ ((∃ q, F = some q ∧ z = 1 ∧ agr c' q) ∨ (F = none ∧ z = 0 ∧ agr c' p))
theorem qk_in {p : List Nat} {k : Nat} (h : k < p.length) : qk p k ∈ p := by
  unfold qk
  rw [List.getD_eq_getElem?_getD, List.getElem?_eq_getElem h]
  exact List.getElem_mem h
theorem in_qk {p : List Nat} {v : Nat} (h : v ∈ p) : ∃ k, k < p.length ∧ qk p k = v := by
  obtain ⟨k, hk, e⟩ := List.getElem_of_mem h
  refine ⟨k, hk, ?_⟩
  unfold qk
  rw [List.getD_eq_getElem?_getD, List.getElem?_eq_getElem hk]
  exact e
