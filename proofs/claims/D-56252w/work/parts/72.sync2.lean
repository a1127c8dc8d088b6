/-! a synchronized method from a walk -/
set_option maxRecDepth 100000
theorem sy_met {l : Launch} {y : MethodName} {ws ws' : List Cond} {rm : Room} {Pc : Array Value → State → Prop} {Qc : Array Value → State → Outcome → State → Prop} {mc ms : Nat} {free : Addr → Prop} {cc : ByteArray} {maxL : Nat} {ret : Option FieldType}
    (hy : plainName y.cls = true) (hw : ws = Cond.codeSync y cc maxL ret :: ws') (hi : Cond.instanceMethod y ∈ ws')
    (hrecv : ∀ args s, Pc args s → ∃ a cell, args[0]? = some (.ref a) ∧ s.heap[a]? = some cell ∧ cell.monitor.owner = none ∧ cell.monitor.count = 0)
    (body : ∀ p e s m args below meth c a cell, p.tables.exec = Jvm.exec → c.code = cc → c.maxLocals = maxL → s.methodNamed? y = some m → meth.sig.returnType = ret → meth.locks = true → (∀ w ∈ ws, w.before args s = true) → Pc args s → args[0]? = some (.ref a) → s.heap[a]? = some cell → cell.enterable s.cur →
      W p l e (headSpec ws rm).room (s.setCell a (cell.withEntry s.cur)) m args below meth c (s.heap.setIfInBounds a (cell.withEntry s.cur)) [] 0 0 (MQ below Qc args s mc ms free) (entryFrameSync m args maxL a)) : Met l y ws rm Pc Qc mc ms free := by
  intro p e ha hc hk s m args below hf happ hP _
  obtain ⟨hrun, hable, halone, hname, hhears, hinit, hroom, hpre⟩ := (Spec.appliesLoose_iff hf).mp happ
  have hts := atoms_spec (ws := ws) hpre
  obtain ⟨meth, c, hmeth, hcode, hbytes, hml, hret, hlocks, -, -⟩ := Cond.codeSync_spec hname (hts _ (by rw [hw]; exact List.mem_cons_self))
  obtain ⟨mk, methI, hmk, hmI, hst, -⟩ := Cond.instanceMethod_spec (hts _ (by rw [hw]; exact List.mem_cons_of_mem _ hi))
  cases hname.symm.trans hmk
  cases hmeth.symm.trans hmI
  obtain ⟨a, cell, harg, hcell, hfree, hcount⟩ := hrecv args s hP
  have hcur := State.cur_lt_of_frames hf
  have hcur9 : (s.setCell a (cell.withEntry s.cur)).cur < (s.setCell a (cell.withEntry s.cur)).threads.size := hcur
  have hf1 : ((s.setCell a (cell.withEntry s.cur)).setFrames (.java (entryFrameSync m args maxL a) :: below)).frames = .java (entryFrameSync m args maxL a) :: below := State.frames_setFrames _ hcur9
  have htop := State.topJava?_of_frames hf1
  have hpl : ((s.setCell a (cell.withEntry s.cur)).setFrames (.java (entryFrameSync m args maxL a) :: below)).plainMethod m := by
    refine State.plainMethod.of_name fun k hk9 => ?_
    obtain ⟨k2, hk2, hn⟩ := className_of_methodNamed hname
    cases (show s.vm.classes[m.cls]? = some k from hk9).symm.trans hk2
    rw [hn]; exact hy
  have hAt : At ((s.setCell a (cell.withEntry s.cur)).setFrames (.java (entryFrameSync m args maxL a) :: below)) m c below :=
    ⟨by rw [htop]; rfl, ⟨[], by rw [hf1]; rfl⟩, hrun, by simpa using hable, by simpa using halone, by rw [State.code?_eq]; simp [State.setFrames, State.setCell, hmeth, hcode], hpl⟩
  obtain ⟨tl, ht, -⟩ := State.frames_cons hf
  have hX : Stand p l e (headSpec ws rm).room (s.setCell a (cell.withEntry s.cur)) m args below meth c ((s.setCell a (cell.withEntry s.cur)).setFrames (.java (entryFrameSync m args maxL a) :: below)) [] 0 0 := by
    refine ⟨ha, hc, hk, hf, by rw [State.hasRoom_setCell (x := cell.withEntry s.cur) hcell rfl]; exact hroom, hhears, hmeth, hcode, hAt, by rw [hf1]; rfl, State.WarmedH.refl (s.setCell a (cell.withEntry s.cur)), by rw [State.stackLimits_setFrames], by rw [State.stackBytes_setFrames], ?_⟩
    exact (State.sameButNew.refl (s.setCell a (cell.withEntry s.cur)) (x := tl) ht).setFrames _ hcur9
  have hexec : p.tables.exec = Jvm.exec := by cases p <;> rfl
  obtain ⟨t, hsteps, o, hr, he, hq⟩ := body p e s m args below meth c a cell hexec hbytes hml hname hret hlocks hts hP harg hcell (Or.inl ⟨hfree, hcount⟩) _ rfl hX
  rw [State.setTop_self htop] at hsteps
  have hstep : (stepThread p.tables e s).1 = (s.setCell a (cell.withEntry s.cur)).setFrames (.java (entryFrameSync m args maxL a) :: below) := by
    have hfull : e.platform.stackFull (s.setFrames below).me (s.setFrames below).frames (c.maxLocals + 2) = false := by
      obtain ⟨-, h1, -, h2⟩ := State.hasRoom_stack hroom
      rw [hf, List.length_cons] at h1
      rw [State.localsInUse_invoking hf hmeth hcode] at h2
      have h3 := stackUse_le_stackWeight below
      rw [State.frames_setFrames _ hcur]
      simp only [vmFrameWords] at h2
      exact Platform.stackFull_eq_false (by rw [State.stackLimits_setFrames]; omega) (by rw [State.stackLimits_setFrames]; omega)
    have h4 := (doInvoke_java_sync (s := s.setFrames below) (e := e) (acts := []) (meth := meth) (code := c) (a := a) (cell := cell) hmeth hcode hlocks hst harg hcell (Or.inl hfree) hfull).1
    have h5 : ((s.setFrames below).setCell a (cell.withEntry s.cur)).frames = below := State.frames_setFrames _ hcur
    rw [stepThread_invoking hf, h4, hml]
    show ((s.setFrames below).setCell a (cell.withEntry s.cur)).setFrames (.java (entryFrameSync m args maxL a) :: ((s.setFrames below).setCell a (cell.withEntry s.cur)).frames) = _
    rw [h5, State.setCell_setFrames, State.setFrames_setFrames]
  obtain ⟨n, hn, hwith⟩ := Steps.head (tb := p.tables) (e := e) ⟨hrun, hable, halone⟩ ⟨[.invoking m args], hf, by simp, by simp⟩ (hstep ▸ hsteps)
  exact ⟨n, o, hwith, hn ▸ hr, hn ▸ he, hn ▸ hq⟩
/-- the frame of a synchronized method -/
abbrev GS (b : Nat) (m : MethodId) (pc : Nat) (ls : Array Slot) (st : List Value) : JFrame := { method := m, pc := pc, locals := ls, stack := st, locked := some b, monitorRoom := 1 }
section
variable {p : Program} {l : Launch} {e : Env} {R : Room} {s : State} {m : MethodId} {args : Array Value} {below : List Frame} {meth : Method} {c : Code} {H : Heap} {locs : List Loc} {cells slots : Nat} {Q : State → Prop}
variable {cc : ByteArray} {pc : Nat} {ls : Array Slot} {rest : List Value} {b : Nat}
theorem sy_aload_n (hexec : p.tables.exec = Jvm.exec) (hb : c.code = cc) {k : Fin 4} {i : Nat} {x : Nat} (hdg : decode cc pc = .ok (.aload_n k, 1)) (hi : (k : Nat) = i) (hl : ls[i]? = some (.val (.ref x)))
    (k : W p l e R s m args below meth c H locs cells slots Q (GS b m (pc + 1) ls (.ref x :: rest))) : W p l e R s m args below meth c H locs cells slots Q (GS b m pc ls rest) := by
  subst hi
  intro T hT X
  obtain ⟨t, a, b⟩ := k T hT X
  refine ⟨t, ?_, b⟩
  jvm_step X.here [X.here.top, hexec, hb, hdg, hl, Value.isRef]
  exact a
theorem sy_iload_n (hexec : p.tables.exec = Jvm.exec) (hb : c.code = cc) {k : Fin 4} {i : Nat} {x : Int32} (hdg : decode cc pc = .ok (.iload_n k, 1)) (hi : (k : Nat) = i) (hl : ls[i]? = some (.val (.int x)))
    (k : W p l e R s m args below meth c H locs cells slots Q (GS b m (pc + 1) ls (.int x :: rest))) : W p l e R s m args below meth c H locs cells slots Q (GS b m pc ls rest) := by
  subst hi
  intro T hT X
  obtain ⟨t, a, b⟩ := k T hT X
  refine ⟨t, ?_, b⟩
  jvm_step X.here [X.here.top, hexec, hb, hdg, hl]
  exact a
theorem sy_dup (hexec : p.tables.exec = Jvm.exec) (hb : c.code = cc) {v : Nat} (hdg : decode cc pc = .ok (.dup, 1))
    (k : W p l e R s m args below meth c H locs cells slots Q (GS b m (pc + 1) ls (.ref v :: .ref v :: rest))) : W p l e R s m args below meth c H locs cells slots Q (GS b m pc ls (.ref v :: rest)) := by
  intro T hT X
  obtain ⟨t, a, b⟩ := k T hT X
  refine ⟨t, ?_, b⟩
  jvm_step X.here [X.here.top, hexec, hb, hdg, Value.category]
  exact a
theorem sy_iadd (hexec : p.tables.exec = Jvm.exec) (hb : c.code = cc) {x y : Int} (hdg : decode cc pc = .ok (.iadd, 1))
    (k : W p l e R s m args below meth c H locs cells slots Q (GS b m (pc + 1) ls (.int (iI (x + y)) :: rest))) : W p l e R s m args below meth c H locs cells slots Q (GS b m pc ls (.int (iI y) :: .int (iI x) :: rest)) := by
  intro T hT X
  obtain ⟨t, a, b⟩ := k T hT X
  refine ⟨t, ?_, b⟩
  rw [← iI_add] at a
  jvm_step X.here [X.here.top, hexec, hb, hdg]
  exact a
theorem sy_isub (hexec : p.tables.exec = Jvm.exec) (hb : c.code = cc) {x y : Int} (hdg : decode cc pc = .ok (.isub, 1))
    (k : W p l e R s m args below meth c H locs cells slots Q (GS b m (pc + 1) ls (.int (iI (x - y)) :: rest))) : W p l e R s m args below meth c H locs cells slots Q (GS b m pc ls (.int (iI y) :: .int (iI x) :: rest)) := by
  intro T hT X
  obtain ⟨t, a, b⟩ := k T hT X
  refine ⟨t, ?_, b⟩
  rw [← iI_sub] at a
  jvm_step X.here [X.here.top, hexec, hb, hdg]
  exact a
theorem sy_i2l (hexec : p.tables.exec = Jvm.exec) (hb : c.code = cc) {x : Int} (hr : rng x) (hdg : decode cc pc = .ok (.i2l, 1))
    (k : W p l e R s m args below meth c H locs cells slots Q (GS b m (pc + 1) ls (.long (lI x) :: rest))) : W p l e R s m args below meth c H locs cells slots Q (GS b m pc ls (.int (iI x) :: rest)) := by
  intro T hT X
  obtain ⟨t, a, b⟩ := k T hT X
  refine ⟨t, ?_, b⟩
  rw [← iI_l hr] at a
  jvm_step X.here [X.here.top, hexec, hb, hdg]
  exact a
theorem sy_ladd (hexec : p.tables.exec = Jvm.exec) (hb : c.code = cc) {x y : Int} (hdg : decode cc pc = .ok (.ladd, 1))
    (k : W p l e R s m args below meth c H locs cells slots Q (GS b m (pc + 1) ls (.long (lI (x + y)) :: rest))) : W p l e R s m args below meth c H locs cells slots Q (GS b m pc ls (.long (lI y) :: .long (lI x) :: rest)) := by
  intro T hT X
  obtain ⟨t, a, b⟩ := k T hT X
  refine ⟨t, ?_, b⟩
  rw [show lI (x + y) = lI x + lI y from Int64.ofInt_add x y] at a
  jvm_step X.here [X.here.top, hexec, hb, hdg]
  exact a
theorem sy_lsub (hexec : p.tables.exec = Jvm.exec) (hb : c.code = cc) {x y : Int} (hdg : decode cc pc = .ok (.lsub, 1))
    (k : W p l e R s m args below meth c H locs cells slots Q (GS b m (pc + 1) ls (.long (lI (x - y)) :: rest))) : W p l e R s m args below meth c H locs cells slots Q (GS b m pc ls (.long (lI y) :: .long (lI x) :: rest)) := by
  intro T hT X
  obtain ⟨t, a, b⟩ := k T hT X
  refine ⟨t, ?_, b⟩
  rw [show lI (x - y) = lI x - lI y from Int64.ofInt_sub x y] at a
  jvm_step X.here [X.here.top, hexec, hb, hdg]
  exact a
theorem sy_l2i (hexec : p.tables.exec = Jvm.exec) (hb : c.code = cc) {x : Int} (hdg : decode cc pc = .ok (.l2i, 1))
    (k : W p l e R s m args below meth c H locs cells slots Q (GS b m (pc + 1) ls (.int (lI x).toInt32 :: rest))) : W p l e R s m args below meth c H locs cells slots Q (GS b m pc ls (.long (lI x) :: rest)) := by
  intro T hT X
  obtain ⟨t, a, b⟩ := k T hT X
  refine ⟨t, ?_, b⟩
  jvm_step X.here [X.here.top, hexec, hb, hdg]
  exact a
theorem sy_vret {Qc : Array Value → State → Outcome → State → Prop} {free : Addr → Prop} {cell : Cell} (hexec : p.tables.exec = Jvm.exec) (hb : c.code = cc) (hr : meth.sig.returnType = none) (hlk : meth.locks = true) (hs : s.heap[b]? = some cell) (hen : cell.enterable s.cur)
    (hq : ∀ (t : State) (cT : Cell), H[b]? = some cT → t.heap = H.setIfInBounds b cT.left → s.WarmedH t.vm → Qc args s (.returned none) t) (hf : ∀ q ∈ locs, free q.base)
    (hdg : decode cc pc = .ok (.return_, 1)) : W p l e R (s.setCell b (cell.withEntry s.cur)) m args below meth c H locs cells slots (MQ below Qc args s cells slots free) (GS b m pc ls []) := by
  intro T hT X
  obtain ⟨fs, cT, hcT, hret, hrun, hended, hW, hframe⟩ := X.leaveSync hs hen hlk (v := none) (fun _ => rfl)
  have hmeth9 : T.vm.method? m = some meth := X.method'
  refine ⟨(T.setCell b cT.left).setFrames fs, ?_, .returned none, hrun, hended, hq _ cT (by rw [← hT]; exact hcT) (by rw [← hT]; rfl) hW, locs, ⟨⟨_, rfl⟩, hW, hframe⟩, hf⟩
  jvm_step X.here [X.here.top, hexec, hb, hdg, hmeth9, hr]
  (try refine ⟨rfl, ?_⟩); (try refine ⟨rfl, ?_⟩)
  first | (intro acts; rw [hret _ acts rfl rfl rfl]) | rw [hret _ _ rfl rfl rfl]
  exact Steps.refl _
theorem sy_iret {Qc : Array Value → State → Outcome → State → Prop} {free : Addr → Prop} {cell : Cell} {v : Int32} (hexec : p.tables.exec = Jvm.exec) (hb : c.code = cc) (hr : meth.sig.returnType = some .int) (hlk : meth.locks = true) (hs : s.heap[b]? = some cell) (hen : cell.enterable s.cur)
    (hq : ∀ (t : State) (cT : Cell), H[b]? = some cT → t.heap = H.setIfInBounds b cT.left → s.WarmedH t.vm → Qc args s (.returned (some (.int v))) t) (hf : ∀ q ∈ locs, free q.base)
    (hdg : decode cc pc = .ok (.ireturn, 1)) : W p l e R (s.setCell b (cell.withEntry s.cur)) m args below meth c H locs cells slots (MQ below Qc args s cells slots free) (GS b m pc ls [.int v]) := by
  intro T hT X
  obtain ⟨fs, cT, hcT, hret, hrun, hended, hW, hframe⟩ := X.leaveSync hs hen hlk (v := some (.int v)) (fun h => by rw [hr] at h; cases h)
  have hmeth9 : T.vm.method? m = some meth := X.method'
  refine ⟨(T.setCell b cT.left).setFrames fs, ?_, .returned (some (.int v)), hrun, hended, hq _ cT (by rw [← hT]; exact hcT) (by rw [← hT]; rfl) hW, locs, ⟨⟨_, rfl⟩, hW, hframe⟩, hf⟩
  jvm_step X.here [X.here.top, hexec, hb, hdg, hmeth9, hr, narrow]
  (try refine ⟨rfl, ?_⟩); (try refine ⟨rfl, ?_⟩)
  first | (intro acts; rw [hret _ acts rfl rfl rfl]) | rw [hret _ _ rfl rfl rfl]
  exact Steps.refl _
end
