/-! the account: synchronized methods -/
set_option maxRecDepth 100000
def mPc (b : Nat) (Pc : Array Value → State → Prop) : Array Value → State → Prop := fun a st => Pc a st ∧ mFr b st.heap
theorem mPc_blind {b : Nat} {Pc : Array Value → State → Prop} (h : FrameBlind Pc) : FrameBlind (mPc b Pc) := fun a U g mk q => ⟨h a U g mk q.1, q.2⟩
theorem mPc_V {s : State} {H : Heap} {C : String} {b d : Nat} {Pc : Array Value → State → Prop} {As : List Value} (h : PreV s H C b Pc As) (hm : mFr d H) : PreV s H C b (mPc d Pc) As := ⟨mPc_blind h.1, h.2.1, fun U hU hW => ⟨h.2.2 U hU hW, by rw [hU]; exact hm⟩⟩
theorem mPc_S {s : State} {H : Heap} {d : Nat} {Pc : Array Value → State → Prop} {As : List Value} (h : PreS s H Pc As) (hm : mFr d H) : PreS s H (mPc d Pc) As := ⟨mPc_blind h.1, fun U hU hW => ⟨h.2 U hU hW, by rw [hU]; exact hm⟩⟩
/-- another monitor in one cell: objects don't mind -/
theorem va_mon {D : va_G} {cl : List vw_C} {ws : va_W} {H : Heap} {b : Nat} {cell c2 : Cell} (h : va_P D cl ws H) (hb : ∀ (k : Nat) (q : Nat × va_E), ws[k]? = some q → q.1 = b → ∃ o, q.2 = .inr o) (hc : H[b]? = some cell) (h1 : c2.cls = cell.cls) (h2 : c2.slots = cell.slots) (h3 : c2.vm = cell.vm) : va_P D cl ws (H.setIfInBounds b c2) := by
  intro k q hk
  by_cases e : q.1 = b
  · obtain ⟨o, ho⟩ := hb k q hk e
    have h4 := h k q hk
    unfold va_at at h4 ⊢
    rw [ho] at h4 ⊢
    obtain ⟨r, q1, c9, q2, q3, q4, q5⟩ := h4
    rw [e] at q2 ⊢
    cases hc.symm.trans q2
    refine ⟨r, q1, c2, ?_, by rw [h1]; exact q3, by rw [h3]; exact q4, fun k hk => by rw [h2]; exact q5 k hk⟩
    have := (Array.getElem?_eq_some_iff.mp hc).1
    simp [this]
  · exact (h k q hk).kept (by simp [Array.getElem?_setIfInBounds, Ne.symm e])
theorem mon_left (c : Cell) : c.left.cls = c.cls ∧ c.left.slots = c.slots ∧ c.left.vm = c.vm := by
  unfold Cell.left
  split <;> exact ⟨rfl, rfl, rfl⟩
/-- what stands fast in a synchronized method's walk -/
def zS (p : Program) (s : State) (m : MethodId) (args : Array Value) (meth : Method) (c : Code) (cc : ByteArray) (own : String) (nL : Nat) (ret : Option FieldType) : Prop :=
  p.tables.exec = Jvm.exec ∧ c.code = cc ∧ c.maxLocals = nL ∧ s.vm.findClass own = some m.cls ∧ (∀ w ∈ lw_all, w.before args s = true) ∧ meth.sig.returnType = ret ∧ meth.locks = true
/-- the start, its monitor entered -/
def zM (b : Nat) (s0 s : State) : Prop := ∃ cell, s0.heap[b]? = some cell ∧ cell.enterable s0.cur ∧ s = s0.setCell b (cell.withEntry s0.cur)
section
variable {p : Program} {l : Launch} {e : Env} {R : Room} {s s0 : State} {m : MethodId} {args : Array Value} {below : List Frame} {meth : Method} {c : Code} {H : Heap} {locs : List Loc} {cells slots : Nat} {Q : State → Prop}
variable {cc : ByteArray} {pc : Nat} {ls : Array Slot} {rest : List Value} {D : va_G} {cl : List vw_C} {A : Nat → Prop} {nL : Nat} {ret : Option FieldType} {tys : List (ClassId × FieldType)} {own : String} {b : Nat}
theorem sy_metW {y : MethodName} {rm : Room} {Qc : Array Value → State → Outcome → State → Prop} {mc ms maxL : Nat} {Z : zZ} {w : zT → va_W} {wr : va_W} {av : List Value} {sz : Nat} {x : zT} (hy : plainName y.cls = true) (hi : Cond.instanceMethod y ∈ lw_all) (ho : y.cls = own) (hwk : wOk w) (hn : (lg_sl (.ref b :: av)).length ≤ maxL)
    (hw1 : ∀ (k : Nat) (q : Nat × va_E), (w x)[k]? = some q → q.1 = b → ∃ o, q.2 = .inr o) (hw2 : ∀ (k : Nat) (q : Nat × va_E), wr[k]? = some q → q.1 = b → ∃ o, q.2 = .inr o)
    (body : ∀ p e s0 s m below meth c, zS p s m (.ref b :: av).toArray meth c cc own maxL ret → zM b s0 s → s.heap.size = sz → va_K D cl tys s → va_P D cl (w x) s.heap → (∀ y, va_D (wA w sz) (w y)) → (∀ q, s.heap.size ≤ q → wA w sz q) → va_S (wA w sz) s.heap s.heap [] → (∀ H locs, va_S (wA w sz) s.heap H locs → va_P D cl wr H) → ∀ ls, lv_has ls maxL (lv_args 0 (.ref b :: av)) → W p l e (headSpec (wsS_ y cc maxL ret) rm).room s m (.ref b :: av).toArray below meth c s.heap [] 0 0 (MQ below Qc (.ref b :: av).toArray s0 mc ms (wA w sz)) (GS b m 0 ls [])) :
    Met l y (wsS_ y cc maxL ret) rm (mPc b (wPc D cl tys Z w wr (.ref b :: av) sz x)) Qc mc ms (wA w sz) := by
  refine sy_met (cc := cc) (maxL := maxL) (ret := ret) hy rfl hi ?_ ?_
  · rintro args s ⟨⟨rfl, -⟩, cell, h1, h2, h3⟩
    exact ⟨b, cell, rfl, h1, h2, h3⟩
  · rintro p e s m args below meth c a cell hx hbt hml hnm hrt hlk hts ⟨⟨rfl, hsz, hP, hK, hD, hE, hR, hN⟩, -⟩ harg hcell hent
    have hab : b = a := by
      have : some (Value.ref b) = some (Value.ref a) := harg
      cases this; rfl
    subst hab
    have hts0 : ∀ w ∈ lw_all, w.before _ s = true := fun w h => hts w (List.mem_cons_of_mem _ h)
    have hts1 : ∀ w ∈ lw_all, w.before (.ref b :: av : List Value).toArray (s.setCell b (cell.withEntry s.cur)) = true := fun w h => pay_in hts0 (lw_good (fun w h => h)) w h _ _ (State.WarmedH.refl s)
    have hown : s.vm.findClass own = some m.cls := by rw [← ho]; exact findClass_of_methodNamed hnm
    have hl := lv_entry (.ref b :: av) (n := maxL) hn
    have hP1 : va_P D cl (w x) (s.heap.setIfInBounds b (cell.withEntry s.cur)) := va_mon hP hw1 hcell rfl rfl rfl
    have hR1 : va_P D cl wr (s.heap.setIfInBounds b (cell.withEntry s.cur)) := va_mon hR hw2 hcell rfl rfl rfl
    have hen : entryFrameSync m (.ref b :: av : List Value).toArray maxL b = GS b m 0 (entryFrame m (.ref b :: av : List Value).toArray maxL).locals [] := rfl
    rw [hen, lg_entry_eq]
    refine body p e s (s.setCell b (cell.withEntry s.cur)) m below meth c ⟨hx, hbt, hml, hown, hts1, hrt, hlk⟩ ⟨cell, hcell, hent, rfl⟩ (by show (s.heap.setIfInBounds b _).size = sz; simp [hsz]) hK hP1 (wD_self hwk hD) (fun q h => Or.inr (by have h9 : (s.heap.setIfInBounds b (cell.withEntry s.cur)).size ≤ q := h; simp at h9; omega)) va_S.rf (fun H locs hS => ?_) _ hl
    refine hR1.kept (fun k q hq => hS.2.1 q.1 ?_ (hN k q hq))
    exact (hR1 k q hq).lt
theorem sy_S {A : Nat → Prop} {t : State} {cT : Cell} (hM : zM b s0 s) (hS : va_S A s.heap H locs) (hc : H[b]? = some cT) (ht : t.heap = H.setIfInBounds b cT.left) : va_F A s0 t := by
  obtain ⟨cell, h1, h2, rfl⟩ := hM
  have hlt : b < s0.heap.size := (Array.getElem?_eq_some_iff.mp h1).1
  have hltH : b < H.size := (Array.getElem?_eq_some_iff.mp hc).1
  have hsz : (s0.setCell b (cell.withEntry s0.cur)).heap.size = s0.heap.size := by
    show (s0.heap.setIfInBounds b _).size = _
    simp
  refine ⟨by rw [ht]; simp; have := hS.1; omega, fun q hq hA => ?_⟩
  have h3 := hS.2.1 q (by omega) hA
  have h4 : (s0.setCell b (cell.withEntry s0.cur)).heap = s0.heap.setIfInBounds b (cell.withEntry s0.cur) := rfl
  rw [h4] at h3
  rw [ht]
  by_cases e : b = q
  · subst e
    have h5 : cT = cell.withEntry s0.cur := by
      have : H[b]? = some (cell.withEntry s0.cur) := by rw [h3]; simp [hlt]
      exact Option.some.inj (hc.symm.trans this)
    rw [h5, Cell.left_withEntry' h2, h1]
    simp [hltH]
  · rw [show (H.setIfInBounds b cT.left)[q]? = H[q]? by simp [Array.getElem?_setIfInBounds, e], h3]
    simp [Array.getElem?_setIfInBounds, e]
theorem sy_vend {w : zT → va_W} {x : zT} {post : zT → Prop} {sz : Nat} (hX : zS p s m args meth c cc own nL none) (hM : zM b s0 s) (hw1 : ∀ (k : Nat) (q : Nat × va_E), (w x)[k]? = some q → q.1 = b → ∃ o, q.2 = .inr o) (hP : va_P D cl (w x) H) (hS : va_S (wA w sz) s.heap H locs) (hq : post x) (hdg : decode cc pc = .ok (.return_, 1)) : W p l e R s m args below meth c H locs cells slots (MQ below (wQv D cl w post sz) args s0 cells slots (wA w sz)) (GS b m pc ls []) := by
  have hM2 := hM
  obtain ⟨cell, h1, h2, h3⟩ := hM
  subst h3
  refine sy_vret hX.1 hX.2.1 hX.2.2.2.2.2.1 hX.2.2.2.2.2.2 h1 h2 (fun t cT hc ht hW => ⟨⟨x, rfl, hq, ?_⟩, sy_S hM2 hS hc ht⟩) hS.2.2 hdg
  show va_P D cl (w x) t.heap
  rw [ht]
  exact va_mon hP hw1 hc (mon_left cT).1 (mon_left cT).2.1 (mon_left cT).2.2
theorem sy_iend {w : zT → va_W} {x : zT} {post : Int32 → zT → Prop} {sz : Nat} {v : Int32} (hX : zS p s m args meth c cc own nL (some .int)) (hM : zM b s0 s) (hw1 : ∀ (k : Nat) (q : Nat × va_E), (w x)[k]? = some q → q.1 = b → ∃ o, q.2 = .inr o) (hP : va_P D cl (w x) H) (hS : va_S (wA w sz) s.heap H locs) (hq : post v x) (hdg : decode cc pc = .ok (.ireturn, 1)) : W p l e R s m args below meth c H locs cells slots (MQ below (wQi D cl w post sz) args s0 cells slots (wA w sz)) (GS b m pc ls [.int v]) := by
  have hM2 := hM
  obtain ⟨cell, h1, h2, h3⟩ := hM
  subst h3
  refine sy_iret hX.1 hX.2.1 hX.2.2.2.2.2.1 hX.2.2.2.2.2.2 h1 h2 (fun t cT hc ht hW => ⟨⟨_, x, rfl, hq, ?_⟩, sy_S hM2 hS hc ht⟩) hS.2.2 hdg
  show va_P D cl (w x) t.heap
  rw [ht]
  exact va_mon hP hw1 hc (mon_left cT).1 (mon_left cT).2.1 (mon_left cT).2.2
theorem sy_get {ws : va_W} {o : Nat} {C : String} {T : u_T} {N ci index : Nat} (hX : zS p s m args meth c cc own nL ret) (hK : va_K D cl tys s) (hP : va_P D cl ws H) (hin : ∀ v ∈ u_ws C T N, v ∈ lw_all) (q0 : Nat) {fs : List Value} (he : ws[q0]? = some (o, .inr (ci, fs))) (hc : cl[ci]? = some (C, T, N)) (k : Nat) (hk : k < N) (hlink : Cond.fieldLink own index (T k).1 (T k).2.1 (T k).2.2.1 ∈ lw_all) {v : Value} (hv : fs[k]? = some v) (hdg : decode cc pc = .ok (.getfield index, 3)) (kk : W p l e R s m args below meth c H locs cells slots Q (GS b m (pc + 3) ls (v :: rest))) : W p l e R s m args below meth c H locs cells slots Q (GS b m pc ls (.ref o :: rest)) := by
  obtain ⟨r, h1, cell, q1, q2, q3, q4⟩ := hP q0 _ he
  have hr : r = (C, T, N) := Option.some.inj (h1.symm.trans hc)
  subst hr
  obtain ⟨hS, hfc, kC, hkC, hkind⟩ := hK.1 ci _ hc
  obtain ⟨cf, kf, fi, f, hif, hsl⟩ := hS k hk
  refine W.getf hX.1 hX.2.1 hX.2.2.2.1 (hX.2.2.2.2.1 _ hlink) hif (u_facts hfc hkC (u_lays hX.2.2.2.2.1 hin hk) hif).1 q1 (by rw [q3]; exact fun h => by cases h) (v := v) ?_ rfl rfl hdg kk
  rw [hsl, q4 k hk]
  simp [vp_V, hv]
theorem sy_put {w : zT → va_W} {x x2 : zT} {o : Nat} {C : String} {T : u_T} {N ci index : Nat} (hX : zS p s m args meth c cc own nL ret) (hK : va_K D cl tys s) (hD : ∀ y, va_D A (w y)) (hP : va_P D cl (w x) H) (hS0 : va_S A s.heap H locs) (hin : ∀ v ∈ u_ws C T N, v ∈ lw_all) (ty0 : Nat → FieldType) (hty : ∀ k, k < N → parseFieldDescriptor (T k).2.2.1 = some (ty0 k)) (hnm : ∀ a, a < N → ∀ b, b < N → a ≠ b → (T a).2.1 ≠ (T b).2.1) (q0 : Nat) {fs : List Value} (he : (w x)[q0]? = some (o, .inr (ci, fs))) (hc : cl[ci]? = some (C, T, N)) (k : Nat) (hk : k < N) (hlink : Cond.fieldLink own index (T k).1 (T k).2.1 (T k).2.2.1 ∈ lw_all) (hfin : (T k).2.2.2 = false) {v : Value} (hn : narrow (ty0 k) v = v) (hfit : fits (ty0 k) v = true) (hl : k < fs.length) (hs : (w x).set q0 (o, .inr (ci, fs.set k v)) = w x2) (hdg : decode cc pc = .ok (.putfield index, 3)) (kk : ∀ (H1 : Heap) (locs1 : List Loc), va_P D cl (w x2) H1 → va_S A s.heap H1 locs1 → W p l e R s m args below meth c H1 locs1 cells slots Q (GS b m (pc + 3) ls rest)) : W p l e R s m args below meth c H locs cells slots Q (GS b m pc ls (v :: .ref o :: rest)) := by
  have hap := va_apart (own := own) hX.2.2.2.2.1 hin ty0 hty hnm hK hc
  obtain ⟨r, h1, cell, q1, q2, q3, q4⟩ := hP q0 _ he
  have hr : r = (C, T, N) := Option.some.inj (h1.symm.trans hc)
  subst hr
  obtain ⟨hSc, hfc, kC, hkC, hkind⟩ := hK.1 ci _ hc
  obtain ⟨cf, kf, fi, f, hif, hsl⟩ := hSc k hk
  have hlay := hX.2.2.2.2.1 _ (hin _ (u_in_lay hk))
  unfold u_lay at hlay
  rw [if_neg (by rw [hfin]; decide)] at hlay
  have hst := (u_facts hfc hkC (u_lays hX.2.2.2.2.1 hin hk) hif).1
  have h6 := u_store hfc hkC hkind hlay hif (hty k hk) hn hfit
  refine W.putK hX.1 hX.2.1 (f := f) ⟨hX.2.2.2.1, hX.2.2.2.2.1 _ hlink, ⟨_, _, _, hif⟩, hst⟩ (by rw [q2]; exact h6) q1 q3 (by rw [hsl]; exact k2_hasslot (q4 k hk)) rfl rfl hdg fun H' e1 e2 e3 => ?_
  rw [hsl] at e1 ⊢
  refine kk H' _ ?_ (hS0.put e2 e3 ((hD x).2 q0 _ he))
  rw [← hs]
  exact hP.set (hD x) he ⟨_, hc, t_OB.to (V := updV (vp_V fs) k v) ⟨_, e1, q2, q3, t_set q4 hap hk v⟩ (fun j _ => vp_updV_set hl v j)⟩ e3
end
theorem hW_inr {a : Nat → Nat} {cA : Nat → ClassId} {x : zT} (hd : va_D (fun _ => True) (hW a cA x)) : ∀ (k : Nat) (q : Nat × va_E), (hW a cA x)[k]? = some q → q.1 = a 3 → ∃ o, q.2 = .inr o := by
  intro k q hk e
  have h3 : (hW a cA x)[3]? = some (a 3, .inr (2, hAc x)) := rfl
  have := hd.1 k 3 q _ hk h3 e
  subst this
  cases hk.symm.trans h3
  exact ⟨_, rfl⟩
theorem hW_s0 {a : Nat → Nat} {cA : Nat → ClassId} {x : zT} {v : Int} : (hW a cA x).set 3 (a 3, .inr (2, (hAc x).set 0 (.int (iI v)))) = hW a cA (uA x 1 0 v) := rfl
theorem hW_s1 {a : Nat → Nat} {cA : Nat → ClassId} {x : zT} {v : Int} : (hW a cA x).set 3 (a 3, .inr (2, (hAc x).set 1 (.int (iI v)))) = hW a cA (uA x 1 1 v) := rfl
theorem hW_s3 {a : Nat → Nat} {cA : Nat → ClassId} {x : zT} {v : Int} : (hW a cA x).set 3 (a 3, .inr (2, (hAc x).set 3 (.int (iI v)))) = hW a cA (uA x 1 2 v) := rfl
theorem hrow_lo {cA : Nat → ClassId} {x : zT} {j i : Nat} {v : Int} (h : j < 5) : hrow cA (uA x 0 j v) i = hrow cA x i := hrow_u (by omega)
theorem hW_s2 {a : Nat → Nat} {cA : Nat → ClassId} {x : zT} {v : Int} : (hW a cA x).set 3 (a 3, .inr (2, (hAc x).set 2 (.long (lI v)))) = hW a cA (uA x 0 2 v) := by
  unfold hW
  rw [show hF a (uA x 0 2 v) = hF a x from rfl, hcsh_u (by omega), hrow_lo (by omega), hrow_lo (by omega), hrow_lo (by omega), hrow_lo (by omega), hrow_lo (by omega), hrow_lo (by omega), hrow_lo (by omega)]
  rfl
theorem hW_s4 {a : Nat → Nat} {cA : Nat → ClassId} {x : zT} {v : Int} : (hW a cA x).set 3 (a 3, .inr (2, (hAc x).set 4 (.int (iI v)))) = hW a cA (uA x 0 3 v) := by
  unfold hW
  rw [show hF a (uA x 0 3 v) = hF a x from rfl, hcsh_u (by omega), hrow_lo (by omega), hrow_lo (by omega), hrow_lo (by omega), hrow_lo (by omega), hrow_lo (by omega), hrow_lo (by omega), hrow_lo (by omega)]
  rfl
theorem hW_dt {a : Nat → Nat} {cA : Nat → ClassId} {A : Nat → Prop} (h : ∀ y, va_D A (hW a cA y)) : ∀ y, va_D (fun _ => True) (hW a cA y) := fun y => (h y).weaken (fun _ _ _ _ => trivial)
theorem lI_i (z : Int) : (lI z).toInt32 = iI z := by
  show (Int64.ofInt z).toInt32 = Int32.ofInt z
  simp
abbrev cX3_make : ByteArray := prog_2_method_2_code
def yX3_make : MethodName := ⟨RX3, "make", "(I)V"⟩
theorem dX3_make_0 : decode cX3_make 0 = .ok (.aload_n 0, 1) := by decide +kernel
theorem dX3_make_1 : decode cX3_make 1 = .ok (.dup, 1) := by decide +kernel
theorem dX3_make_2 : decode cX3_make 2 = .ok (.getfield 7, 3) := by decide +kernel
theorem dX3_make_5 : decode cX3_make 5 = .ok (.iload_n 1, 1) := by decide +kernel
theorem dX3_make_6 : decode cX3_make 6 = .ok (.iadd, 1) := by decide +kernel
theorem dX3_make_7 : decode cX3_make 7 = .ok (.putfield 7, 3) := by decide +kernel
theorem dX3_make_10 : decode cX3_make 10 = .ok (.return_, 1) := by decide +kernel
set_option maxHeartbeats 4000000 in
theorem c_X3_make {l : Launch} {D : va_G} {Z : zZ} {a : Nat → Nat} {cA : Nat → ClassId} (sz : Nat) (x : zT) (E1 : Int) : Met l yX3_make (wsS_ yX3_make cX3_make 2 (none)) { frames := 0, cells := 0, slots := 0, locals := 0 } (mPc (a 3) (wPc D vwCl (tyL cA) Z (hW a cA) [] (.ref (a 3) :: [.int (iI E1)]) sz x)) (wQv D vwCl (hW a cA) (fun y => y = uA x 1 0 (x 1 0 + E1)) sz) 0 0 (wA (hW a cA) sz) := by
  intro p e h1 h2 h3 s m args below hf happ hPc hK
  have hd := hW_dt hPc.1.2.2.2.2.1
  refine (sy_metW (own := RX3) (by decide) q439 rfl hW_ok (Nat.le_of_ble_eq_true rfl) (hW_inr (hd x)) (fun k q h => by cases h) ?_ : Met l _ _ _ _ _ _ _ _) p e h1 h2 h3 s m args below hf happ hPc hK
  clear hf happ hPc hK h1 h2 h3
  intro p e s0 s m below meth c hX hM hsz hK hP hD hA hS hR ls hl
  have hx := hX.1
  have hb := hX.2.1
  refine sy_aload_n hx hb dX3_make_0 rfl (lv_at hl 0 rfl) ?_
  refine sy_dup hx hb dX3_make_1 ?_
  refine sy_get hX hK hP in_X3 3 (he := rfl) (hc := vw_X3) 0 (by decide) q147 rfl dX3_make_2 ?_
  refine sy_iload_n hx hb dX3_make_5 rfl (lv_at hl 1 rfl) ?_
  refine sy_iadd hx hb dX3_make_6 ?_
  refine sy_put (w := hW a cA) (x := x) (x2 := uA x 1 0 ((x 1 0) + E1)) hX hK hD hP hS in_X3 tyX3 tyX3_ok nmX3 3 rfl vw_X3 0 (by decide) q147 rfl rfl rfl (Nat.le_of_ble_eq_true rfl) hW_s0 dX3_make_7 (fun H locs hP hS => ?_)
  exact sy_vend hX hM (hW_inr (hd _)) hP hS (rfl) dX3_make_10
abbrev cX3_pay : ByteArray := prog_2_method_3_code
def yX3_pay : MethodName := ⟨RX3, "pay", "(I)V"⟩
theorem dX3_pay_0 : decode cX3_pay 0 = .ok (.aload_n 0, 1) := by decide +kernel
theorem dX3_pay_1 : decode cX3_pay 1 = .ok (.dup, 1) := by decide +kernel
theorem dX3_pay_2 : decode cX3_pay 2 = .ok (.getfield 13, 3) := by decide +kernel
theorem dX3_pay_5 : decode cX3_pay 5 = .ok (.iload_n 1, 1) := by decide +kernel
theorem dX3_pay_6 : decode cX3_pay 6 = .ok (.iadd, 1) := by decide +kernel
theorem dX3_pay_7 : decode cX3_pay 7 = .ok (.putfield 13, 3) := by decide +kernel
theorem dX3_pay_10 : decode cX3_pay 10 = .ok (.return_, 1) := by decide +kernel
set_option maxHeartbeats 4000000 in
theorem c_X3_pay {l : Launch} {D : va_G} {Z : zZ} {a : Nat → Nat} {cA : Nat → ClassId} (sz : Nat) (x : zT) (E1 : Int) : Met l yX3_pay (wsS_ yX3_pay cX3_pay 2 (none)) { frames := 0, cells := 0, slots := 0, locals := 0 } (mPc (a 3) (wPc D vwCl (tyL cA) Z (hW a cA) [] (.ref (a 3) :: [.int (iI E1)]) sz x)) (wQv D vwCl (hW a cA) (fun y => y = uA x 1 1 (x 1 1 + E1)) sz) 0 0 (wA (hW a cA) sz) := by
  intro p e h1 h2 h3 s m args below hf happ hPc hK
  have hd := hW_dt hPc.1.2.2.2.2.1
  refine (sy_metW (own := RX3) (by decide) q469 rfl hW_ok (Nat.le_of_ble_eq_true rfl) (hW_inr (hd x)) (fun k q h => by cases h) ?_ : Met l _ _ _ _ _ _ _ _) p e h1 h2 h3 s m args below hf happ hPc hK
  clear hf happ hPc hK h1 h2 h3
  intro p e s0 s m below meth c hX hM hsz hK hP hD hA hS hR ls hl
  have hx := hX.1
  have hb := hX.2.1
  refine sy_aload_n hx hb dX3_pay_0 rfl (lv_at hl 0 rfl) ?_
  refine sy_dup hx hb dX3_pay_1 ?_
  refine sy_get hX hK hP in_X3 3 (he := rfl) (hc := vw_X3) 1 (by decide) q148 rfl dX3_pay_2 ?_
  refine sy_iload_n hx hb dX3_pay_5 rfl (lv_at hl 1 rfl) ?_
  refine sy_iadd hx hb dX3_pay_6 ?_
  refine sy_put (w := hW a cA) (x := x) (x2 := uA x 1 1 ((x 1 1) + E1)) hX hK hD hP hS in_X3 tyX3 tyX3_ok nmX3 3 rfl vw_X3 1 (by decide) q148 rfl rfl rfl (Nat.le_of_ble_eq_true rfl) hW_s1 dX3_pay_7 (fun H locs hP hS => ?_)
  exact sy_vend hX hM (hW_inr (hd _)) hP hS (rfl) dX3_pay_10
abbrev cX3_net : ByteArray := prog_2_method_4_code
def yX3_net : MethodName := ⟨RX3, "net", "(I)V"⟩
theorem dX3_net_0 : decode cX3_net 0 = .ok (.aload_n 0, 1) := by decide +kernel
theorem dX3_net_1 : decode cX3_net 1 = .ok (.dup, 1) := by decide +kernel
theorem dX3_net_2 : decode cX3_net 2 = .ok (.getfield 16, 3) := by decide +kernel
theorem dX3_net_5 : decode cX3_net 5 = .ok (.iload_n 1, 1) := by decide +kernel
theorem dX3_net_6 : decode cX3_net 6 = .ok (.i2l, 1) := by decide +kernel
theorem dX3_net_7 : decode cX3_net 7 = .ok (.ladd, 1) := by decide +kernel
theorem dX3_net_8 : decode cX3_net 8 = .ok (.putfield 16, 3) := by decide +kernel
theorem dX3_net_11 : decode cX3_net 11 = .ok (.return_, 1) := by decide +kernel
set_option maxHeartbeats 4000000 in
theorem c_X3_net {l : Launch} {D : va_G} {Z : zZ} {a : Nat → Nat} {cA : Nat → ClassId} (sz : Nat) (x : zT) (E1 : Int) (h1 : rng E1) : Met l yX3_net (wsS_ yX3_net cX3_net 2 (none)) { frames := 0, cells := 0, slots := 0, locals := 0 } (mPc (a 3) (wPc D vwCl (tyL cA) Z (hW a cA) [] (.ref (a 3) :: [.int (iI E1)]) sz x)) (wQv D vwCl (hW a cA) (fun y => y = uA x 0 2 (x 0 2 + E1)) sz) 0 0 (wA (hW a cA) sz) := by
  intro p e h1 h2 h3 s m args below hf happ hPc hK
  have hd := hW_dt hPc.1.2.2.2.2.1
  refine (sy_metW (own := RX3) (by decide) q484 rfl hW_ok (Nat.le_of_ble_eq_true rfl) (hW_inr (hd x)) (fun k q h => by cases h) ?_ : Met l _ _ _ _ _ _ _ _) p e h1 h2 h3 s m args below hf happ hPc hK
  clear hf happ hPc hK h1 h2 h3
  intro p e s0 s m below meth c hX hM hsz hK hP hD hA hS hR ls hl
  have hx := hX.1
  have hb := hX.2.1
  refine sy_aload_n hx hb dX3_net_0 rfl (lv_at hl 0 rfl) ?_
  refine sy_dup hx hb dX3_net_1 ?_
  refine sy_get hX hK hP in_X3 3 (he := rfl) (hc := vw_X3) 2 (by decide) q149 rfl dX3_net_2 ?_
  refine sy_iload_n hx hb dX3_net_5 rfl (lv_at hl 1 rfl) ?_
  refine sy_i2l hx hb h1 dX3_net_6 ?_
  refine sy_ladd hx hb dX3_net_7 ?_
  refine sy_put (w := hW a cA) (x := x) (x2 := uA x 0 2 ((x 0 2) + E1)) hX hK hD hP hS in_X3 tyX3 tyX3_ok nmX3 3 rfl vw_X3 2 (by decide) q149 rfl rfl rfl (Nat.le_of_ble_eq_true rfl) hW_s2 dX3_net_8 (fun H locs hP hS => ?_)
  exact sy_vend hX hM (hW_inr (hd _)) hP hS (rfl) dX3_net_11
abbrev cX3_fail : ByteArray := prog_2_method_5_code
def yX3_fail : MethodName := ⟨RX3, "fail", "(II)V"⟩
theorem dX3_fail_0 : decode cX3_fail 0 = .ok (.aload_n 0, 1) := by decide +kernel
theorem dX3_fail_1 : decode cX3_fail 1 = .ok (.dup, 1) := by decide +kernel
theorem dX3_fail_2 : decode cX3_fail 2 = .ok (.getfield 20, 3) := by decide +kernel
theorem dX3_fail_5 : decode cX3_fail 5 = .ok (.iload_n 1, 1) := by decide +kernel
theorem dX3_fail_6 : decode cX3_fail 6 = .ok (.iadd, 1) := by decide +kernel
theorem dX3_fail_7 : decode cX3_fail 7 = .ok (.putfield 20, 3) := by decide +kernel
theorem dX3_fail_10 : decode cX3_fail 10 = .ok (.aload_n 0, 1) := by decide +kernel
theorem dX3_fail_11 : decode cX3_fail 11 = .ok (.dup, 1) := by decide +kernel
theorem dX3_fail_12 : decode cX3_fail 12 = .ok (.getfield 23, 3) := by decide +kernel
theorem dX3_fail_15 : decode cX3_fail 15 = .ok (.iload_n 2, 1) := by decide +kernel
theorem dX3_fail_16 : decode cX3_fail 16 = .ok (.iadd, 1) := by decide +kernel
theorem dX3_fail_17 : decode cX3_fail 17 = .ok (.putfield 23, 3) := by decide +kernel
theorem dX3_fail_20 : decode cX3_fail 20 = .ok (.return_, 1) := by decide +kernel
set_option maxHeartbeats 4000000 in
theorem c_X3_fail {l : Launch} {D : va_G} {Z : zZ} {a : Nat → Nat} {cA : Nat → ClassId} (sz : Nat) (x : zT) (E1 E2 : Int) : Met l yX3_fail (wsS_ yX3_fail cX3_fail 3 (none)) { frames := 0, cells := 0, slots := 0, locals := 0 } (mPc (a 3) (wPc D vwCl (tyL cA) Z (hW a cA) [] (.ref (a 3) :: [.int (iI E1), .int (iI E2)]) sz x)) (wQv D vwCl (hW a cA) (fun y => y = uA (uA x 1 2 (x 1 2 + E1)) 0 3 (x 0 3 + E2)) sz) 0 0 (wA (hW a cA) sz) := by
  intro p e h1 h2 h3 s m args below hf happ hPc hK
  have hd := hW_dt hPc.1.2.2.2.2.1
  refine (sy_metW (own := RX3) (by decide) q570 rfl hW_ok (Nat.le_of_ble_eq_true rfl) (hW_inr (hd x)) (fun k q h => by cases h) ?_ : Met l _ _ _ _ _ _ _ _) p e h1 h2 h3 s m args below hf happ hPc hK
  clear hf happ hPc hK h1 h2 h3
  intro p e s0 s m below meth c hX hM hsz hK hP hD hA hS hR ls hl
  have hx := hX.1
  have hb := hX.2.1
  refine sy_aload_n hx hb dX3_fail_0 rfl (lv_at hl 0 rfl) ?_
  refine sy_dup hx hb dX3_fail_1 ?_
  refine sy_get hX hK hP in_X3 3 (he := rfl) (hc := vw_X3) 3 (by decide) q151 rfl dX3_fail_2 ?_
  refine sy_iload_n hx hb dX3_fail_5 rfl (lv_at hl 1 rfl) ?_
  refine sy_iadd hx hb dX3_fail_6 ?_
  refine sy_put (w := hW a cA) (x := x) (x2 := uA x 1 2 ((x 1 2) + E1)) hX hK hD hP hS in_X3 tyX3 tyX3_ok nmX3 3 rfl vw_X3 3 (by decide) q151 rfl rfl rfl (Nat.le_of_ble_eq_true rfl) hW_s3 dX3_fail_7 (fun H locs hP hS => ?_)
  refine sy_aload_n hx hb dX3_fail_10 rfl (lv_at hl 0 rfl) ?_
  refine sy_dup hx hb dX3_fail_11 ?_
  refine sy_get hX hK hP in_X3 3 (he := rfl) (hc := vw_X3) 4 (by decide) q152 rfl dX3_fail_12 ?_
  refine sy_iload_n hx hb dX3_fail_15 rfl (lv_at hl 2 rfl) ?_
  refine sy_iadd hx hb dX3_fail_16 ?_
  refine sy_put (w := hW a cA) (x := uA x 1 2 ((x 1 2) + E1)) (x2 := uA (uA x 1 2 ((x 1 2) + E1)) 0 3 (((uA x 1 2 ((x 1 2) + E1)) 0 3) + E2)) hX hK hD hP hS in_X3 tyX3 tyX3_ok nmX3 3 rfl vw_X3 4 (by decide) q152 rfl rfl rfl (Nat.le_of_ble_eq_true rfl) hW_s4 dX3_fail_17 (fun H locs hP hS => ?_)
  exact sy_vend hX hM (hW_inr (hd _)) hP hS (rfl) dX3_fail_20
theorem hW_ad {b : Nat → Nat} {cA : Nat → ClassId} {y : zT} {k : Nat} {q : Nat × va_E} (h : (hW b cA y)[k]? = some q) : ∃ j, j < 11 ∧ b j = q.1 := by
  have h9 : q ∈ hW b cA y := List.mem_of_getElem? h
  unfold hW at h9
  simp only [List.mem_cons, List.not_mem_nil, or_false] at h9
  rcases h9 with rfl | rfl | rfl | rfl | rfl | rfl | rfl | rfl | rfl | rfl | rfl
  all_goals first | exact ⟨0, by decide, rfl⟩ | exact ⟨1, by decide, rfl⟩ | exact ⟨2, by decide, rfl⟩ | exact ⟨3, by decide, rfl⟩ | exact ⟨4, by decide, rfl⟩ | exact ⟨5, by decide, rfl⟩ | exact ⟨6, by decide, rfl⟩ | exact ⟨7, by decide, rfl⟩ | exact ⟨8, by decide, rfl⟩ | exact ⟨9, by decide, rfl⟩ | exact ⟨10, by decide, rfl⟩
def takeX (x y : zT) : zT := uA (uA (uA (uA (uA x 1 0 (y 1 0)) 1 1 (y 1 1)) 0 2 (y 0 2)) 1 2 (y 1 2)) 0 3 (y 0 3)
abbrev cX3_take : ByteArray := prog_2_method_7_code
def yX3_take : MethodName := ⟨RX3, "take", "(LClearingHouse$Account;)V"⟩
theorem dX3_take_0 : decode cX3_take 0 = .ok (.aload_n 0, 1) := by decide +kernel
theorem dX3_take_1 : decode cX3_take 1 = .ok (.aload_n 1, 1) := by decide +kernel
theorem dX3_take_2 : decode cX3_take 2 = .ok (.getfield 7, 3) := by decide +kernel
theorem dX3_take_5 : decode cX3_take 5 = .ok (.putfield 7, 3) := by decide +kernel
theorem dX3_take_8 : decode cX3_take 8 = .ok (.aload_n 0, 1) := by decide +kernel
theorem dX3_take_9 : decode cX3_take 9 = .ok (.aload_n 1, 1) := by decide +kernel
theorem dX3_take_10 : decode cX3_take 10 = .ok (.getfield 13, 3) := by decide +kernel
theorem dX3_take_13 : decode cX3_take 13 = .ok (.putfield 13, 3) := by decide +kernel
theorem dX3_take_16 : decode cX3_take 16 = .ok (.aload_n 0, 1) := by decide +kernel
theorem dX3_take_17 : decode cX3_take 17 = .ok (.aload_n 1, 1) := by decide +kernel
theorem dX3_take_18 : decode cX3_take 18 = .ok (.getfield 16, 3) := by decide +kernel
theorem dX3_take_21 : decode cX3_take 21 = .ok (.putfield 16, 3) := by decide +kernel
theorem dX3_take_24 : decode cX3_take 24 = .ok (.aload_n 0, 1) := by decide +kernel
theorem dX3_take_25 : decode cX3_take 25 = .ok (.aload_n 1, 1) := by decide +kernel
theorem dX3_take_26 : decode cX3_take 26 = .ok (.getfield 20, 3) := by decide +kernel
theorem dX3_take_29 : decode cX3_take 29 = .ok (.putfield 20, 3) := by decide +kernel
theorem dX3_take_32 : decode cX3_take 32 = .ok (.aload_n 0, 1) := by decide +kernel
theorem dX3_take_33 : decode cX3_take 33 = .ok (.aload_n 1, 1) := by decide +kernel
theorem dX3_take_34 : decode cX3_take 34 = .ok (.getfield 23, 3) := by decide +kernel
theorem dX3_take_37 : decode cX3_take 37 = .ok (.putfield 23, 3) := by decide +kernel
theorem dX3_take_40 : decode cX3_take 40 = .ok (.return_, 1) := by decide +kernel
set_option maxHeartbeats 4000000 in
theorem c_X3_take {l : Launch} {D : va_G} {Z : zZ} {a : Nat → Nat} {cA : Nat → ClassId} (sz : Nat) (x : zT) {b : Nat → Nat} (y : zT) (hba : ∀ k, k < 11 → b k ≠ a 3) : Met l yX3_take (wsS_ yX3_take cX3_take 2 (none)) { frames := 0, cells := 0, slots := 0, locals := 0 } (mPc (a 3) (wPc D vwCl (tyL cA) Z (hW a cA) (hW b cA y) (.ref (a 3) :: [.ref (b 3)]) sz x)) (wQv D vwCl (hW a cA) (fun y2 => y2 = takeX x y) sz) 0 0 (wA (hW a cA) sz) := by
  intro p e h1 h2 h3 s m args below hf happ hPc hK
  have hd := hW_dt hPc.1.2.2.2.2.1
  refine (sy_metW (own := RX3) (by decide) q293 rfl hW_ok (Nat.le_of_ble_eq_true rfl) (hW_inr (hd x)) (fun k q h e => by obtain ⟨j, h11, hj⟩ := hW_ad h; exact absurd (hj ▸ e) (hba j h11)) ?_ : Met l _ _ _ _ _ _ _ _) p e h1 h2 h3 s m args below hf happ hPc hK
  clear hf happ hPc hK h1 h2 h3
  intro p e s0 s m below meth c hX hM hsz hK hP hD hA hS hR ls hl
  have hx := hX.1
  have hb := hX.2.1
  refine sy_aload_n hx hb dX3_take_0 rfl (lv_at hl 0 rfl) ?_
  refine sy_aload_n hx hb dX3_take_1 rfl (lv_at hl 1 rfl) ?_
  refine sy_get hX hK (hR _ _ hS) in_X3 3 (he := rfl) (hc := vw_X3) 0 (by decide) q147 rfl dX3_take_2 ?_
  refine sy_put (w := hW a cA) (x := x) (x2 := uA x 1 0 (y 1 0)) hX hK hD hP hS in_X3 tyX3 tyX3_ok nmX3 3 rfl vw_X3 0 (by decide) q147 rfl rfl rfl (Nat.le_of_ble_eq_true rfl) hW_s0 dX3_take_5 (fun H locs hP hS => ?_)
  refine sy_aload_n hx hb dX3_take_8 rfl (lv_at hl 0 rfl) ?_
  refine sy_aload_n hx hb dX3_take_9 rfl (lv_at hl 1 rfl) ?_
  refine sy_get hX hK (hR _ _ hS) in_X3 3 (he := rfl) (hc := vw_X3) 1 (by decide) q148 rfl dX3_take_10 ?_
  refine sy_put (w := hW a cA) (x := uA x 1 0 (y 1 0)) (x2 := uA (uA x 1 0 (y 1 0)) 1 1 (y 1 1)) hX hK hD hP hS in_X3 tyX3 tyX3_ok nmX3 3 rfl vw_X3 1 (by decide) q148 rfl rfl rfl (Nat.le_of_ble_eq_true rfl) hW_s1 dX3_take_13 (fun H locs hP hS => ?_)
  refine sy_aload_n hx hb dX3_take_16 rfl (lv_at hl 0 rfl) ?_
  refine sy_aload_n hx hb dX3_take_17 rfl (lv_at hl 1 rfl) ?_
  refine sy_get hX hK (hR _ _ hS) in_X3 3 (he := rfl) (hc := vw_X3) 2 (by decide) q149 rfl dX3_take_18 ?_
  refine sy_put (w := hW a cA) (x := uA (uA x 1 0 (y 1 0)) 1 1 (y 1 1)) (x2 := uA (uA (uA x 1 0 (y 1 0)) 1 1 (y 1 1)) 0 2 (y 0 2)) hX hK hD hP hS in_X3 tyX3 tyX3_ok nmX3 3 rfl vw_X3 2 (by decide) q149 rfl rfl rfl (Nat.le_of_ble_eq_true rfl) hW_s2 dX3_take_21 (fun H locs hP hS => ?_)
  refine sy_aload_n hx hb dX3_take_24 rfl (lv_at hl 0 rfl) ?_
  refine sy_aload_n hx hb dX3_take_25 rfl (lv_at hl 1 rfl) ?_
  refine sy_get hX hK (hR _ _ hS) in_X3 3 (he := rfl) (hc := vw_X3) 3 (by decide) q151 rfl dX3_take_26 ?_
  refine sy_put (w := hW a cA) (x := uA (uA (uA x 1 0 (y 1 0)) 1 1 (y 1 1)) 0 2 (y 0 2)) (x2 := uA (uA (uA (uA x 1 0 (y 1 0)) 1 1 (y 1 1)) 0 2 (y 0 2)) 1 2 (y 1 2)) hX hK hD hP hS in_X3 tyX3 tyX3_ok nmX3 3 rfl vw_X3 3 (by decide) q151 rfl rfl rfl (Nat.le_of_ble_eq_true rfl) hW_s3 dX3_take_29 (fun H locs hP hS => ?_)
  refine sy_aload_n hx hb dX3_take_32 rfl (lv_at hl 0 rfl) ?_
  refine sy_aload_n hx hb dX3_take_33 rfl (lv_at hl 1 rfl) ?_
  refine sy_get hX hK (hR _ _ hS) in_X3 3 (he := rfl) (hc := vw_X3) 4 (by decide) q152 rfl dX3_take_34 ?_
  refine sy_put (w := hW a cA) (x := uA (uA (uA (uA x 1 0 (y 1 0)) 1 1 (y 1 1)) 0 2 (y 0 2)) 1 2 (y 1 2)) (x2 := uA (uA (uA (uA (uA x 1 0 (y 1 0)) 1 1 (y 1 1)) 0 2 (y 0 2)) 1 2 (y 1 2)) 0 3 (y 0 3)) hX hK hD hP hS in_X3 tyX3 tyX3_ok nmX3 3 rfl vw_X3 4 (by decide) q152 rfl rfl rfl (Nat.le_of_ble_eq_true rfl) hW_s4 dX3_take_37 (fun H locs hP hS => ?_)
  exact sy_vend hX hM (hW_inr (hd _)) hP hS (rfl) dX3_take_40
abbrev cX3_left : ByteArray := prog_2_method_6_code
def yX3_left : MethodName := ⟨RX3, "left", "()I"⟩
theorem dX3_left_0 : decode cX3_left 0 = .ok (.aload_n 0, 1) := by decide +kernel
theorem dX3_left_1 : decode cX3_left 1 = .ok (.getfield 7, 3) := by decide +kernel
theorem dX3_left_4 : decode cX3_left 4 = .ok (.aload_n 0, 1) := by decide +kernel
theorem dX3_left_5 : decode cX3_left 5 = .ok (.getfield 13, 3) := by decide +kernel
theorem dX3_left_8 : decode cX3_left 8 = .ok (.isub, 1) := by decide +kernel
theorem dX3_left_9 : decode cX3_left 9 = .ok (.i2l, 1) := by decide +kernel
theorem dX3_left_10 : decode cX3_left 10 = .ok (.aload_n 0, 1) := by decide +kernel
theorem dX3_left_11 : decode cX3_left 11 = .ok (.getfield 16, 3) := by decide +kernel
theorem dX3_left_14 : decode cX3_left 14 = .ok (.lsub, 1) := by decide +kernel
theorem dX3_left_15 : decode cX3_left 15 = .ok (.aload_n 0, 1) := by decide +kernel
theorem dX3_left_16 : decode cX3_left 16 = .ok (.getfield 20, 3) := by decide +kernel
theorem dX3_left_19 : decode cX3_left 19 = .ok (.i2l, 1) := by decide +kernel
theorem dX3_left_20 : decode cX3_left 20 = .ok (.lsub, 1) := by decide +kernel
theorem dX3_left_21 : decode cX3_left 21 = .ok (.aload_n 0, 1) := by decide +kernel
theorem dX3_left_22 : decode cX3_left 22 = .ok (.getfield 23, 3) := by decide +kernel
theorem dX3_left_25 : decode cX3_left 25 = .ok (.i2l, 1) := by decide +kernel
theorem dX3_left_26 : decode cX3_left 26 = .ok (.lsub, 1) := by decide +kernel
theorem dX3_left_27 : decode cX3_left 27 = .ok (.l2i, 1) := by decide +kernel
theorem dX3_left_28 : decode cX3_left 28 = .ok (.ireturn, 1) := by decide +kernel
set_option maxHeartbeats 4000000 in
theorem c_X3_left {l : Launch} {D : va_G} {Z : zZ} {a : Nat → Nat} {cA : Nat → ClassId} (sz : Nat) (x : zT) (hd : va_D (fun _ => True) (hW a cA x)) (h1 : rng (x 1 0 - x 1 1)) (h2 : rng (x 1 2)) (h3 : rng (x 0 3)) : Met l yX3_left (wsS_ yX3_left cX3_left 1 (some .int)) { frames := 0, cells := 0, slots := 0, locals := 0 } (mPc (a 3) (wPc D vwCl (tyL cA) Z w0 (hW a cA x) (.ref (a 3) :: []) sz zO)) (wQi D vwCl w0 (fun r _ => r = iI (x 1 0 - x 1 1 - x 0 2 - x 1 2 - x 0 3)) sz) 0 0 (wA w0 sz) := by
  refine sy_metW (own := RX3) (by decide) q931 rfl w0_ok (Nat.le_of_ble_eq_true rfl) (fun k q h => by cases h) (hW_inr hd) ?_
  intro p e s0 s m below meth c hX hM hsz hK hP hD hA hS hR ls hl
  have hx := hX.1
  have hb := hX.2.1
  refine sy_aload_n hx hb dX3_left_0 rfl (lv_at hl 0 rfl) ?_
  refine sy_get hX hK (hR _ _ hS) in_X3 3 (he := rfl) (hc := vw_X3) 0 (by decide) q147 rfl dX3_left_1 ?_
  refine sy_aload_n hx hb dX3_left_4 rfl (lv_at hl 0 rfl) ?_
  refine sy_get hX hK (hR _ _ hS) in_X3 3 (he := rfl) (hc := vw_X3) 1 (by decide) q148 rfl dX3_left_5 ?_
  refine sy_isub hx hb dX3_left_8 ?_
  refine sy_i2l hx hb h1 dX3_left_9 ?_
  refine sy_aload_n hx hb dX3_left_10 rfl (lv_at hl 0 rfl) ?_
  refine sy_get hX hK (hR _ _ hS) in_X3 3 (he := rfl) (hc := vw_X3) 2 (by decide) q149 rfl dX3_left_11 ?_
  refine sy_lsub hx hb dX3_left_14 ?_
  refine sy_aload_n hx hb dX3_left_15 rfl (lv_at hl 0 rfl) ?_
  refine sy_get hX hK (hR _ _ hS) in_X3 3 (he := rfl) (hc := vw_X3) 3 (by decide) q151 rfl dX3_left_16 ?_
  refine sy_i2l hx hb h2 dX3_left_19 ?_
  refine sy_lsub hx hb dX3_left_20 ?_
  refine sy_aload_n hx hb dX3_left_21 rfl (lv_at hl 0 rfl) ?_
  refine sy_get hX hK (hR _ _ hS) in_X3 3 (he := rfl) (hc := vw_X3) 4 (by decide) q152 rfl dX3_left_22 ?_
  refine sy_i2l hx hb h3 dX3_left_25 ?_
  refine sy_lsub hx hb dX3_left_26 ?_
  refine sy_l2i hx hb dX3_left_27 ?_
  exact sy_iend hX hM (fun k q h => by cases h) hP hS (lI_i _) dX3_left_28
