/-! questions, in pure Lean -/
set_option maxRecDepth 100000
theorem qcR_n {x : zT} {P : Prop} [Decidable P] {V : Int} (h : P) : ∃ z, iI 0 = iI z ∧ qcR x (bI P) V z (uA x 8 0 (bI P)) := ⟨0, rfl, rfl, Or.inl ⟨by rw [bI_t h]; decide, rfl⟩⟩
theorem qcR_y {x : zT} {P : Prop} [Decidable P] {V : Int} (h : ¬ P) : ∃ z, iI V = iI z ∧ qcR x (bI P) V z (uA x 8 0 (bI P)) := ⟨V, rfl, rfl, Or.inr ⟨bI_f h, rfl⟩⟩
theorem mNet_bd {g : Nat → Int} {B : Int} (h : gOk g B) {p : Nat} (hp : p < 7) : -6993 ≤ mNet g p ∧ mNet g p ≤ 6993 := by
  have a := mCl_bd h hp
  have b := mOb_bd h hp
  unfold mNet; omega
abbrev mAhd (g : Nat → Int) (a b : Nat) : Prop := mNet g a < mNet g b ∨ (mNet g a = mNet g b ∧ (g (5 + a) < g (5 + b) ∨ (g (5 + a) = g (5 + b) ∧ a < b)))
def rkB (g : Nat → Int) (k o : Nat) : Int := bI (o ≠ k ∧ mAhd g o k)
def rkF (g : Nat → Int) (n k : Nat) : Int := sg (rkB g k) n
theorem rkB_01 {g : Nat → Int} {k o : Nat} : 0 ≤ rkB g k o ∧ rkB g k o ≤ 1 := by
  unfold rkB
  rcases bI_01 (P := o ≠ k ∧ mAhd g o k) with h | h <;> rw [h] <;> decide
theorem rkF_bd {g : Nat → Int} {n k i : Nat} (hi : i ≤ 7) : 0 ≤ sg (rkB g k) i ∧ sg (rkB g k) i ≤ 7 := by
  have := sg_bd (f := rkB g k) (n := i) (M := 1) (fun _ _ => rkB_01)
  omega
def paB (g : Nat → Int) (n : Nat) (R : Int) (k : Nat) : Option Nat := if rkF g n k = R then some k else none
def parF (g : Nat → Int) (n : Nat) (R : Int) : Option Nat := tryF (paB g n R) 0 n
def parR (x : zT) (n : Nat) (R : Int) : Int → zT → Prop := fun z y => (∃ k : Nat, parF (x 0) n R = some k ∧ z = (k : Int) ∧ y = uA x 8 0 0) ∨ (parF (x 0) n R = none ∧ z = 0 ∧ y = uA x 8 0 1)
/-- longs by their value -/
def lI (z : Int) : Int64 := Int64.ofInt z
theorem lI_add (a b : Int) : lI a + lI b = lI (a + b) := (Int64.ofInt_add a b).symm
theorem lI_sub (a b : Int) : lI a - lI b = lI (a - b) := (Int64.ofInt_sub a b).symm
theorem lI_toInt {z : Int} (h : -9223372036854775808 ≤ z ∧ z ≤ 9223372036854775807) : (lI z).toInt = z := Int64.toInt_ofInt_of_le h.1 (by have := h.2; omega)
theorem iI_l {z : Int} (h : rng z) : (iI z).toInt64 = lI z := by
  rw [← Int64.toInt_inj, Int32.toInt_toInt64, iI_toInt h, lI_toInt ⟨by have := h.1; omega, by have := h.2; omega⟩]
def dbB (k : Nat) : Int64 := (1 : Int64) <<< ((iI (k : Int)).toInt64 &&& 63)
def dbF (g : Nat → Int) : Nat → Int64
  | 0 => 0
  | i + 1 => if 0 < g (12 + i) then dbF g i ||| dbB i else dbF g i
/-! quotients of whole numbers are numbers -/
/-- a datum that is no NaN and fits -/
def fOk (f : FP.Core.Fmt) : FP.Core.Datum → Prop
  | .nan => False
  | .inf _ => True
  | .fin _ c q => c < 2 ^ f.p ∧ q ≤ f.qmax
theorem f_bound {f : FP.Core.Fmt} {s : Bool} {c : Nat} {q : Int} (h : c < 2 ^ f.p) : fOk f (FP.Core.bound f s c q) := by
  unfold FP.Core.bound
  split
  · exact ⟨h, by assumption⟩
  · trivial
theorem f_ratio {f : FP.Core.Fmt} (ht : f.tails < 2 ^ f.p) (hq : f.qmin ≤ f.qmax) (s : Bool) (num den : Nat) (e : Int) : fOk f (FP.Core.roundRatio f s num den e) := by
  unfold FP.Core.roundRatio
  split
  · exact ⟨Nat.two_pow_pos _, hq⟩
  · unfold FP.Core.roundAt FP.Core.settle
    split
    · exact f_bound (by assumption)
    · exact f_bound ht
theorem f_enc64 {d : FP.Core.Datum} (h : fOk FP.Core.b64 d) : FP.Core.encode FP.Core.b64 d % 2 ^ 63 ≤ 2047 * 2 ^ 52 := by
  cases d with
  | nan => exact absurd h id
  | inf s => cases s <;> decide
  | fin s c q =>
    obtain ⟨h1, h2⟩ := h
    have h1 : c < 9007199254740992 := h1
    have h2 : q ≤ 971 := h2
    have e1 : FP.Core.b64.tails = 4503599627370496 := rfl
    have e2 : FP.Core.b64.exps = 2048 := rfl
    have e3 : FP.Core.b64.qmin = -1074 := rfl
    unfold FP.Core.encode FP.Core.assemble
    rw [e1, e2, e3]
    dsimp only
    have hs : s.toNat ≤ 1 := by cases s <;> decide
    split <;> omega
theorem f_enc32 {d : FP.Core.Datum} (h : fOk FP.Core.b32 d) : FP.Core.encode FP.Core.b32 d % 2 ^ 31 ≤ 255 * 2 ^ 23 := by
  cases d with
  | nan => exact absurd h id
  | inf s => cases s <;> decide
  | fin s c q =>
    obtain ⟨h1, h2⟩ := h
    have h1 : c < 16777216 := h1
    have h2 : q ≤ 104 := h2
    have e1 : FP.Core.b32.tails = 8388608 := rfl
    have e2 : FP.Core.b32.exps = 256 := rfl
    have e3 : FP.Core.b32.qmin = -149 := rfl
    unfold FP.Core.encode FP.Core.assemble
    rw [e1, e2, e3]
    dsimp only
    have hs : s.toNat ≤ 1 := by cases s <;> decide
    split <;> omega
/-- a small whole number as a datum -/
theorem f_int {f : FP.Core.Fmt} (hp : 24 ≤ f.p) (ht : f.tails < 2 ^ f.p) (ht0 : 0 < f.tails) (hq : f.qmin ≤ 0) (hq1 : 1 ≤ f.qmax) {a : Int} (ha : 0 ≤ a ∧ a < 16777216) : ∃ s c q, FP.Core.round f (FP.Core.ofInt a) = .fin s c q ∧ c < 2 ^ f.p ∧ f.qmin ≤ q ∧ q ≤ 1 ∧ (0 < a → 0 < c) := by
  obtain ⟨n, rfl⟩ := Int.eq_ofNat_of_zero_le ha.1
  show ∃ s c q, FP.Core.roundRatio f _ (n : Int).natAbs 1 0 = .fin s c q ∧ _
  rw [Int.natAbs_natCast]
  unfold FP.Core.roundRatio
  by_cases h0 : n = 0
  · rw [if_pos h0]
    exact ⟨_, _, _, rfl, Nat.two_pow_pos _, Int.le_refl _, by omega, fun h => by omega⟩
  · rw [if_neg h0]
    have hl : n.log2 < 24 := (Nat.log2_lt h0).mpr (by omega)
    have hlead : FP.Core.leading n 1 ≤ 23 := by
      unfold FP.Core.leading
      have : Nat.log2 1 = 0 := by decide
      rw [this]
      dsimp only
      split <;> omega
    have hqq : FP.Core.quantum f n 1 0 ≤ 0 ∧ f.qmin ≤ FP.Core.quantum f n 1 0 := by
      unfold FP.Core.quantum
      omega
    generalize FP.Core.quantum f n 1 0 = q at hqq
    unfold FP.Core.roundAt FP.Core.unitsNum FP.Core.unitsDen
    have e1 : (q - 0).toNat = 0 := by omega
    rw [e1]
    have e2 : FP.Core.nearest (n * 2 ^ (0 - q).toNat) (1 * 2 ^ 0) = n * 2 ^ (0 - q).toNat := by
      unfold FP.Core.nearest
      simp [Nat.mod_one]
    rw [e2]
    have hc : 0 < n * 2 ^ (0 - q).toNat := Nat.mul_pos (by omega) (Nat.two_pow_pos _)
    generalize n * 2 ^ (0 - q).toNat = c at hc
    unfold FP.Core.settle FP.Core.bound
    split
    · rw [if_pos (by omega)]
      exact ⟨_, _, _, rfl, by assumption, hqq.2, by omega, fun _ => hc⟩
    · rw [if_pos (by omega)]
      exact ⟨_, _, _, rfl, ht, by omega, by omega, fun _ => ht0⟩
theorem f_dec64 {s : Bool} {c : Nat} {q : Int} (h : c < 2 ^ 53) (hq : -1074 ≤ q ∧ q ≤ 1) : ∃ s' c' q', FP.Core.decode FP.Core.b64 (UInt64.ofNat (FP.Core.encode FP.Core.b64 (.fin s c q))).toNat = .fin s' c' q' ∧ (0 < c → 0 < c') := by
  have e1 : FP.Core.b64.tails = 4503599627370496 := rfl
  have e2 : FP.Core.b64.exps = 2048 := rfl
  have e3 : FP.Core.b64.qmin = -1074 := rfl
  have hs : s.toNat ≤ 1 := by cases s <;> decide
  unfold FP.Core.encode FP.Core.assemble FP.Core.decode FP.Core.fieldE FP.Core.fieldT
  rw [e1, e2, e3]
  dsimp only
  rw [UInt64.toNat_ofNat']
  by_cases hc : c < 4503599627370496
  · rw [if_pos hc, if_neg (by omega), if_pos (by omega)]
    exact ⟨_, _, _, rfl, fun _ => by omega⟩
  · rw [if_neg hc, if_neg (by omega), if_neg (by omega)]
    exact ⟨_, _, _, rfl, fun _ => by omega⟩
theorem f_dec32 {s : Bool} {c : Nat} {q : Int} (h : c < 2 ^ 24) (hq : -149 ≤ q ∧ q ≤ 1) : ∃ s' c' q', FP.Core.decode FP.Core.b32 (UInt32.ofNat (FP.Core.encode FP.Core.b32 (.fin s c q))).toNat = .fin s' c' q' ∧ (0 < c → 0 < c') := by
  have e1 : FP.Core.b32.tails = 8388608 := rfl
  have e2 : FP.Core.b32.exps = 256 := rfl
  have e3 : FP.Core.b32.qmin = -149 := rfl
  have hs : s.toNat ≤ 1 := by cases s <;> decide
  unfold FP.Core.encode FP.Core.assemble FP.Core.decode FP.Core.fieldE FP.Core.fieldT
  rw [e1, e2, e3]
  dsimp only
  rw [UInt32.toNat_ofNat']
  by_cases hc : c < 8388608
  · rw [if_pos hc, if_neg (by omega), if_pos (by omega)]
    exact ⟨_, _, _, rfl, fun _ => by omega⟩
  · rw [if_neg hc, if_neg (by omega), if_neg (by omega)]
    exact ⟨_, _, _, rfl, fun _ => by omega⟩
theorem dv_ok {a b : Int} (ha : 0 ≤ a ∧ a < 16777216) (hb : 0 < b ∧ b < 16777216) : vf_n64 (FP.ddiv (FP.i2d (iI a)) (FP.i2d (iI b))) := by
  have ra : (iI a).toInt = a := iI_toInt ⟨by omega, by omega⟩
  have rb : (iI b).toInt = b := iI_toInt ⟨by omega, by omega⟩
  obtain ⟨s, c, q, h1, h2, h3, h4, -⟩ := f_int (f := FP.Core.b64) (by decide) (by decide) (by decide) (by decide) (by decide) ha
  obtain ⟨t, d, r, k1, k2, k3, k4, k5⟩ := f_int (f := FP.Core.b64) (by decide) (by decide) (by decide) (by decide) (by decide) ⟨by omega, hb.2⟩
  obtain ⟨s', c', q', x1, -⟩ := f_dec64 (s := s) h2 ⟨h3, h4⟩
  obtain ⟨t', d', r', y1, y2⟩ := f_dec64 (s := t) k2 ⟨k3, k4⟩
  have hd := y2 (k5 hb.1)
  have e : (FP.ddiv (FP.i2d (iI a)) (FP.i2d (iI b))).toNat % 2 ^ 63 ≤ 2047 * 2 ^ 52 := by
    show (UInt64.ofNat (FP.Core.encode FP.Core.b64 (FP.Core.quotient FP.Core.b64 (FP.Core.decode FP.Core.b64 (UInt64.ofNat (FP.Core.encode FP.Core.b64 (FP.Core.round FP.Core.b64 (FP.Core.ofInt (iI a).toInt)))).toNat) (FP.Core.decode FP.Core.b64 (UInt64.ofNat (FP.Core.encode FP.Core.b64 (FP.Core.round FP.Core.b64 (FP.Core.ofInt (iI b).toInt)))).toNat)))).toNat % 2 ^ 63 ≤ _
    rw [ra, rb, h1, k1, x1, y1]
    have : FP.Core.quotient FP.Core.b64 (.fin s' c' q') (.fin t' d' r') = FP.Core.roundRatio FP.Core.b64 (s' != t') c' d' (q' - r') := if_neg (by omega)
    rw [this, UInt64.toNat_ofNat']
    have := f_enc64 (f_ratio (f := FP.Core.b64) (by decide) (by decide) (s' != t') c' d' (q' - r'))
    omega
  unfold vf_n64
  rw [UInt64.le_iff_toNat_le, UInt64.toNat_and]
  have z : (0x7fffffffffffffff : UInt64).toNat = 2 ^ 63 - 1 := by decide
  rw [z, Nat.and_two_pow_sub_one_eq_mod]
  exact e
theorem fv_ok {a b : Int} (ha : 0 ≤ a ∧ a < 16777216) (hb : 0 < b ∧ b < 16777216) : vf_n32 (FP.fdiv (FP.i2f (iI a)) (FP.i2f (iI b))) := by
  have ra : (iI a).toInt = a := iI_toInt ⟨by omega, by omega⟩
  have rb : (iI b).toInt = b := iI_toInt ⟨by omega, by omega⟩
  obtain ⟨s, c, q, h1, h2, h3, h4, -⟩ := f_int (f := FP.Core.b32) (by decide) (by decide) (by decide) (by decide) (by decide) ha
  obtain ⟨t, d, r, k1, k2, k3, k4, k5⟩ := f_int (f := FP.Core.b32) (by decide) (by decide) (by decide) (by decide) (by decide) ⟨by omega, hb.2⟩
  obtain ⟨s', c', q', x1, -⟩ := f_dec32 (s := s) h2 ⟨h3, h4⟩
  obtain ⟨t', d', r', y1, y2⟩ := f_dec32 (s := t) k2 ⟨k3, k4⟩
  have hd := y2 (k5 hb.1)
  have e : (FP.fdiv (FP.i2f (iI a)) (FP.i2f (iI b))).toNat % 2 ^ 31 ≤ 255 * 2 ^ 23 := by
    show (UInt32.ofNat (FP.Core.encode FP.Core.b32 (FP.Core.quotient FP.Core.b32 (FP.Core.decode FP.Core.b32 (UInt32.ofNat (FP.Core.encode FP.Core.b32 (FP.Core.round FP.Core.b32 (FP.Core.ofInt (iI a).toInt)))).toNat) (FP.Core.decode FP.Core.b32 (UInt32.ofNat (FP.Core.encode FP.Core.b32 (FP.Core.round FP.Core.b32 (FP.Core.ofInt (iI b).toInt)))).toNat)))).toNat % 2 ^ 31 ≤ _
    rw [ra, rb, h1, k1, x1, y1]
    have : FP.Core.quotient FP.Core.b32 (.fin s' c' q') (.fin t' d' r') = FP.Core.roundRatio FP.Core.b32 (s' != t') c' d' (q' - r') := if_neg (by omega)
    rw [this, UInt32.toNat_ofNat']
    have := f_enc32 (f_ratio (f := FP.Core.b32) (by decide) (by decide) (s' != t') c' d' (q' - r'))
    omega
  unfold vf_n32
  rw [UInt32.le_iff_toNat_le, UInt32.toNat_and]
  have z : (0x7fffffff : UInt32).toNat = 2 ^ 31 - 1 := by decide
  rw [z, Nat.and_two_pow_sub_one_eq_mod]
  exact e
abbrev wQd (D : va_G) (cl : List vw_C) (w : zT → va_W) (post : UInt64 → zT → Prop) (sz : Nat) := va_Qd post (fun y t => va_P D cl (w y) t.heap) (wA w sz)
abbrev wQf (D : va_G) (cl : List vw_C) (w : zT → va_W) (post : UInt32 → zT → Prop) (sz : Nat) := va_Qf post (fun y t => va_P D cl (w y) t.heap) (wA w sz)
abbrev ML (l : Launch) (D : va_G) (Z : zZ) (o : Nat) (ad : Nat → Nat) (cA : Nat → ClassId) (y : MethodName) (ws : List Cond) (rm : Room) (av : List Value) (sz : Nat) (x : zT) (post : Int64 → zT → Prop) : Prop := Met l y ws rm (wPc D vwCl (tyL cA) Z (mW o ad cA) [] av sz x) (wQl D vwCl (mW o ad cA) post sz) 0 0 (wA (mW o ad cA) sz)
abbrev MD (l : Launch) (D : va_G) (Z : zZ) (o : Nat) (ad : Nat → Nat) (cA : Nat → ClassId) (y : MethodName) (ws : List Cond) (rm : Room) (av : List Value) (sz : Nat) (x : zT) (post : UInt64 → zT → Prop) : Prop := Met l y ws rm (wPc D vwCl (tyL cA) Z (mW o ad cA) [] av sz x) (wQd D vwCl (mW o ad cA) post sz) 0 0 (wA (mW o ad cA) sz)
abbrev MF (l : Launch) (D : va_G) (Z : zZ) (o : Nat) (ad : Nat → Nat) (cA : Nat → ClassId) (y : MethodName) (ws : List Cond) (rm : Room) (av : List Value) (sz : Nat) (x : zT) (post : UInt32 → zT → Prop) : Prop := Met l y ws rm (wPc D vwCl (tyL cA) Z (mW o ad cA) [] av sz x) (wQf D vwCl (mW o ad cA) post sz) 0 0 (wA (mW o ad cA) sz)
section
variable {p : Program} {l : Launch} {e : Env} {R : Room} {s : State} {m : MethodId} {args : Array Value} {below : List Frame} {meth : Method} {c : Code} {H : Heap} {locs : List Loc} {cells slots : Nat} {Q : State → Prop}
variable {cc : ByteArray} {pc : Nat} {ls : Array Slot} {rest : List Value} {D : va_G} {cl : List vw_C} {own : String} {nL : Nat} {ret : Option FieldType}
theorem w_lret {w : zT → va_W} {x : zT} {post : Int64 → zT → Prop} {sz : Nat} {v : Int64} (hX : zX p s m args meth c cc own nL (some .long)) (hP : va_P D cl (w x) H) (hS : va_S (wA w sz) s.heap H locs) (hq : post v x) (hdg : decode cc pc = .ok (.lreturn, 1)) : W p l e R s m args below meth c H locs cells slots (MQ below (wQl D cl w post sz) args s cells slots (wA w sz)) (F0 m pc ls [.long v]) :=
  W.lret hX.1 hX.2.1 hX.2.2.2.2.2.1 (fun t ht _ => ⟨⟨_, x, rfl, hq, by subst ht; exact hP⟩, hS.F ht⟩) hS.2.2 hdg hX.2.2.2.2.2.2
theorem w_dret {w : zT → va_W} {x : zT} {post : UInt64 → zT → Prop} {sz : Nat} {v : UInt64} (hX : zX p s m args meth c cc own nL (some .double)) (hP : va_P D cl (w x) H) (hS : va_S (wA w sz) s.heap H locs) (hq : post v x) (hdg : decode cc pc = .ok (.dreturn, 1)) : W p l e R s m args below meth c H locs cells slots (MQ below (wQd D cl w post sz) args s cells slots (wA w sz)) (F0 m pc ls [.double v]) :=
  W.dret hX.1 hX.2.1 hX.2.2.2.2.2.1 (fun t ht _ => ⟨⟨_, x, rfl, hq, by subst ht; exact hP⟩, hS.F ht⟩) hS.2.2 hdg hX.2.2.2.2.2.2
theorem w_fret {w : zT → va_W} {x : zT} {post : UInt32 → zT → Prop} {sz : Nat} {v : UInt32} (hX : zX p s m args meth c cc own nL (some .float)) (hP : va_P D cl (w x) H) (hS : va_S (wA w sz) s.heap H locs) (hq : post v x) (hdg : decode cc pc = .ok (.freturn, 1)) : W p l e R s m args below meth c H locs cells slots (MQ below (wQf D cl w post sz) args s cells slots (wA w sz)) (F0 m pc ls [.float v]) :=
  W.fret hX.1 hX.2.1 hX.2.2.2.2.2.1 (fun t ht _ => ⟨⟨_, x, rfl, hq, by subst ht; exact hP⟩, hS.F ht⟩) hS.2.2 hdg hX.2.2.2.2.2.2
/-- bits: sets of parties as numbers -/
theorem z_ishl1 (hX : zX p s m args meth c cc own nL ret) (k : Nat) (hk : k < 31) (hdg : decode cc pc = .ok (.ishl, 1)) (kk : W p l e R s m args below meth c H locs cells slots Q (F0 m (pc + 1) ls (.int (iI ((2 ^ k : Nat) : Int)) :: rest))) : W p l e R s m args below meth c H locs cells slots Q (F0 m pc ls (.int (iI (k : Int)) :: .int (iI 1) :: rest)) := by
  refine lv_ishl hX.1 hX.2.1 hdg ?_
  have e : iI 1 <<< (iI (k : Int) &&& 31) = iI ((2 ^ k : Nat) : Int) := by
    have h : ∀ k, k < 31 → (((nI k) &&& 31).toBitVec.smod 32).toNat = k := by decide +kernel
    have h2 : 2 ^ k < 2 ^ 31 := Nat.pow_lt_pow_right (by decide) hk
    rw [iI_nat, iI_nat, show iI 1 = nI 1 from rfl, pk_shlN _ k (h k hk) (by omega), Nat.one_mul]
  rw [e]; exact kk
theorem z_ibit (hX : zX p s m args meth c cc own nL ret) (v k : Nat) (hv : v < 2 ^ 31) (hk : k < 31) (hdg : decode cc pc = .ok (.ishr, 1)) (kk : W p l e R s m args below meth c H locs cells slots Q (F0 m (pc + 1) ls (.int (iI ((v / 2 ^ k : Nat) : Int)) :: rest))) : W p l e R s m args below meth c H locs cells slots Q (F0 m pc ls (.int (iI (k : Int)) :: .int (iI (v : Int)) :: rest)) := by
  refine lv_ishr hX.1 hX.2.1 hdg ?_
  have e : iI (v : Int) >>> (iI (k : Int) &&& 31) = iI ((v / 2 ^ k : Nat) : Int) := by
    have h : ∀ k, k < 31 → (((nI k) &&& 31).toBitVec.smod 32).toNat = k := by decide +kernel
    rw [iI_nat, iI_nat, iI_nat, pk_shrN hv _ k (h k hk)]
  rw [e]; exact kk
theorem z_iand1 (hX : zX p s m args meth c cc own nL ret) (v : Nat) (hv : v < 2 ^ 31) (hdg : decode cc pc = .ok (.iand, 1)) (kk : W p l e R s m args below meth c H locs cells slots Q (F0 m (pc + 1) ls (.int (iI ((v % 2 : Nat) : Int)) :: rest))) : W p l e R s m args below meth c H locs cells slots Q (F0 m pc ls (.int (iI 1) :: .int (iI (v : Int)) :: rest)) := by
  refine lv_iand hX.1 hX.2.1 hdg ?_
  rw [iI_nat, show iI 1 = (1 : Int32) from rfl, pk_andN (by omega) 1 (by decide)]
  exact kk
theorem z_ixor (hX : zX p s m args meth c cc own nL ret) (a b : Nat) (ha : a < 2 ^ 31) (hb : b < 2 ^ 31) (hdg : decode cc pc = .ok (.ixor, 1)) (kk : W p l e R s m args below meth c H locs cells slots Q (F0 m (pc + 1) ls (.int (iI ((a ^^^ b : Nat) : Int)) :: rest))) : W p l e R s m args below meth c H locs cells slots Q (F0 m pc ls (.int (iI (b : Int)) :: .int (iI (a : Int)) :: rest)) := by
  refine lv_ixor hX.1 hX.2.1 hdg ?_
  have e : iI (a : Int) ^^^ iI (b : Int) = iI ((a ^^^ b : Nat) : Int) := by
    rw [iI_nat, iI_nat, iI_nat]
    show Int32.ofNat a ^^^ Int32.ofNat b = Int32.ofNat (a ^^^ b)
    apply Int32.toBitVec.inj
    rw [Int32.toBitVec_xor]
    apply BitVec.eq_of_toNat_eq
    rw [BitVec.toNat_xor]
    simp only [Int32.toBitVec_ofNat', BitVec.toNat_ofNat]
    rw [Nat.mod_eq_of_lt (by omega), Nat.mod_eq_of_lt (by omega), Nat.mod_eq_of_lt (Nat.lt_trans (Nat.xor_lt_two_pow ha hb) (by decide))]
  rw [e]; exact kk
end
/-! settlements by sets, as the twin counts them -/
def nzB (g : Nat → Int) (k : Nat) : Int := bI (mNet g k ≠ 0)
def psF (g : Nat → Int) (s : Nat) : Nat → Int
  | 0 => 0
  | k + 1 => if s / 2 ^ k % 2 = 1 then psF g s k + mNet g k else psF g s k
def pmF (tab : Nat → Int) (s : Nat) : Nat → Int
  | 0 => 0
  | k + 1 => if s / 2 ^ k % 2 = 1 then max (pmF tab s k) (tab (s ^^^ 2 ^ k)) else pmF tab s k
def pgF (g : Nat → Int) (n : Nat) : Nat → (Nat → Int)
  | 0 => fun _ => 0
  | t + 1 => gU (pgF g n t) (t + 1) (pmF (pgF g n t) (t + 1) n + bI (psF g (t + 1) n = 0))
def mPay (g : Nat → Int) (n : Nat) : Int := if sg (nzB g) n = 0 then 0 else sg (nzB g) n - (pgF g n (2 ^ n - 1) (2 ^ n - 1) - (n - sg (nzB g) n))
theorem psF_bd {g : Nat → Int} {B : Int} (hg : gOk g B) {s : Nat} : ∀ k : Nat, k ≤ 7 → -7000 * (k : Int) ≤ psF g s k ∧ psF g s k ≤ 7000 * (k : Int) := by
  intro k
  induction k with
  | zero => intro _; simp [psF]
  | succ k ih =>
    intro hk
    have a := ih (by omega)
    have b := mNet_bd hg (p := k) (by omega)
    unfold psF
    split <;> omega
theorem xor_lt {s k : Nat} (hs : s < 128) (hk : k < 7) (h : s / 2 ^ k % 2 = 1) : s ^^^ 2 ^ k < s := by
  have h9 : ∀ s, s < 128 → ∀ k, k < 7 → s / 2 ^ k % 2 = 1 → s ^^^ 2 ^ k < s := by decide +kernel
  exact h9 s hs k hk h
theorem pmF_bd {tab : Nat → Int} {s : Nat} {M : Int} (hs : s < 128) (hM : 0 ≤ M) (h : ∀ j, j < s → 0 ≤ tab j ∧ tab j ≤ M) : ∀ k, k ≤ 7 → 0 ≤ pmF tab s k ∧ pmF tab s k ≤ M := by
  intro k
  induction k with
  | zero => intro _; exact ⟨Int.le_refl _, hM⟩
  | succ k ih =>
    intro hk
    have a := ih (by omega)
    unfold pmF
    split
    · next hb => have := h _ (xor_lt hs (by omega) hb); omega
    · exact a
theorem pgF_bd {g : Nat → Int} {n : Nat} (hn : n ≤ 7) : ∀ t : Nat, t < 128 → ∀ j, 0 ≤ pgF g n t j ∧ pgF g n t j ≤ t := by
  intro t
  induction t with
  | zero => intro _ j; exact ⟨Int.le_refl _, Int.le_refl _⟩
  | succ t ih =>
    intro ht j
    unfold pgF
    by_cases e : j = t + 1
    · subst e
      rw [gU_eq]
      have a := pmF_bd (tab := pgF g n t) (s := t + 1) (M := t) ht (by omega) (fun j _ => ih (by omega) j) n hn
      rcases bI_01 (P := psF g (t + 1) n = 0) with h | h <;> rw [h] <;> omega
    · rw [gU_ne e]
      have := ih (by omega) j; omega
theorem sg_sub {f h : Nat → Int} : ∀ n, sg (fun k => f k - h k) n = sg f n - sg h n := by
  intro n
  induction n with
  | zero => rfl
  | succ n ih => rw [sg_succ, sg_succ, sg_succ, ih]; omega
theorem sg_swap {f : Nat → Nat → Int} : ∀ n m, sg (fun i => sg (f i) m) n = sg (fun j => sg (fun i => f i j) n) m := by
  intro n
  induction n with
  | zero => intro m; exact (sg_zero m (fun k _ => rfl)).symm
  | succ n ih =>
    intro m
    rw [sg_succ, ih m, ← sg_add]
    rfl
/-- a sum that ends in zeros -/
theorem sg_cut {f : Nat → Int} {n : Nat} : ∀ N, n ≤ N → (∀ k, n ≤ k → k < N → f k = 0) → sg f N = sg f n := by
  intro N
  induction N with
  | zero => intro h _; rw [show n = 0 by omega]
  | succ N ih =>
    intro h hz
    by_cases e : n = N + 1
    · rw [e]
    · rw [sg_succ, ih (by omega) (fun k h1 h2 => hz k h1 (by omega)), hz N (by omega) (by omega)]; omega
theorem mNet_0 {g : Nat → Int} {B : Int} (hg : gOk g B) {n : Nat} (hn : g 0 = n ∧ n ≤ 7) : sg (fun k => mNet g k) n = 0 := by
  have h7 : sg (fun k => mNet g k) 7 = 0 := by
    unfold mNet mCl mOb
    rw [sg_sub, sg_swap (f := fun k j => g (12 + 7 * k + j))]
    omega
  rw [← sg_cut (f := fun k => mNet g k) (n := n) 7 hn.2 (fun k h1 h2 => ?_)]
  · exact h7
  · show mCl g k - mOb g k = 0
    unfold mCl mOb
    rw [sg_zero 7 (fun j hj => hg.2.2.2.1 j k hj h2 (by omega)), sg_zero 7 (fun j hj => hg.2.2.2.1 k j h2 hj (by omega))]
    rfl
theorem mSh_sumn {g : Nat → Int} {B : Int} (hg : gOk g B) {n : Nat} (hn : g 0 = n ∧ n ≤ 7) {p : Nat} (hp : p < 7) (h : 0 < mOb g p) : sg (fun k => mSh g p k) n = g (5 + p) := by
  rw [← sg_cut (f := fun k => mSh g p k) (n := n) 7 hn.2 (fun k h1 h2 => if_pos (hg.2.2.2.1 p k hp h2 (by omega)))]
  exact mSh_sum hg hp h
theorem mSh_bd {g : Nat → Int} {B : Int} (hg : gOk g B) (hB : B ≤ 2000000) {p k : Nat} (hp : p < 7) (hk : k < 7) (h : 0 < mOb g p) : 0 ≤ mSh g p k ∧ mSh g p k ≤ 2000001 := by
  have a := mPt_bd hg hp hk h
  have b := hg.2.1 p hp
  unfold mSh
  split
  · omega
  · rcases bI_01 (P := mRank g p k < mLeft g p) with e | e <;> rw [e] <;> omega
section
variable {p : Program} {l : Launch} {e : Env} {R : Room} {s : State} {m : MethodId} {args : Array Value} {below : List Frame} {meth : Method} {c : Code} {H : Heap} {locs : List Loc} {cells slots : Nat} {Q : State → Prop} {pc : Nat} {ls : Array Slot} {rest : List Value}
theorem z_ltop {x y : Int64} (h : x = y) (k : W p l e R s m args below meth c H locs cells slots Q (F0 m pc ls (.long y :: rest))) : W p l e R s m args below meth c H locs cells slots Q (F0 m pc ls (.long x :: rest)) := by
  rw [h]; exact k
end
def mdR (x : zT) (n : Nat) (S : Int) : UInt64 → zT → Prop := fun v y => (n = 0 ∧ y = uA x 8 0 1) ∨ (n ≠ 0 ∧ v = FP.ddiv (FP.i2d (iI S)) (FP.i2d (iI n)) ∧ y = uA x 8 0 0)
def cvR (x : zT) (C S : Int) : UInt32 → zT → Prop := fun v y => (S = 0 ∧ y = uA x 8 0 1) ∨ (S ≠ 0 ∧ v = FP.fdiv (FP.i2f (iI C)) (FP.i2f (iI S)) ∧ y = uA x 8 0 0)
def payR (x : zT) (n : Nat) : Int → zT → Prop := fun z y => ∃ a b, y = sA (sA (uA x 8 0 0) 17 a) 18 b ∧ z = mPay (x 0) n
/-! texts as lists of signs -/
def decL : Nat → Nat → List Nat
  | 0, n => [48 + n % 10]
  | f + 1, n => if 9 < n then decL f (n / 10) ++ [48 + n % 10] else [48 + n % 10]
def wr1 (x : zT) (c : Nat) : zT := uA (uA x 13 (x 14 0).toNat c) 14 0 (x 14 0 + 1)
def wrL (x : zT) (t : List Nat) : zT := t.foldl wr1 x
theorem wrL_app {x : zT} {t u : List Nat} : wrL (wrL x t) u = wrL x (t ++ u) := by unfold wrL; rw [List.foldl_append]
theorem wrL_1 {x : zT} {c : Nat} : wrL x [c] = wr1 x c := rfl
theorem wrL_0 {x : zT} : wrL x [] = x := rfl
theorem wr1_14 {x : zT} {c : Nat} : wr1 x c 14 0 = x 14 0 + 1 := uA_eq _ _ _ _
theorem wr1_i {x : zT} {c i : Nat} (h1 : i ≠ 13) (h2 : i ≠ 14) : wr1 x c i = x i := by
  unfold wr1
  rw [uA_sA, sA_i h2, uA_sA, sA_i h1]
theorem wrL_14 : ∀ (t : List Nat) (x : zT), wrL x t 14 0 = x 14 0 + t.length := by
  intro t
  induction t with
  | nil => intro x; simp [wrL]
  | cons c t ih =>
    intro x
    show wrL (wr1 x c) t 14 0 = _
    rw [ih, wr1_14, List.length_cons]; omega
theorem wrL_i {i : Nat} (h1 : i ≠ 13) (h2 : i ≠ 14) : ∀ (t : List Nat) (x : zT), wrL x t i = x i := by
  intro t
  induction t with
  | nil => intro x; rfl
  | cons c t ih => intro x; show wrL (wr1 x c) t i = _; rw [ih, wr1_i h1 h2]
theorem decL_len : ∀ f d n, 1 ≤ d → n < 10 ^ d → (decL f n).length ≤ d := by
  intro f
  induction f with
  | zero => intro d n h _; exact h
  | succ f ih =>
    intro d n h hn
    unfold decL
    split
    · next h9 =>
      rw [List.length_append]
      have hd : 2 ≤ d := by
        rcases Nat.lt_or_ge d 2 with q | q
        · have : d = 1 := by omega
          subst this; omega
        · exact q
      have := ih (d - 1) (n / 10) (by omega) (by
        rw [Nat.div_lt_iff_lt_mul (by decide)]
        have : 10 ^ d = 10 ^ (d - 1) * 10 := by rw [← Nat.pow_succ]; congr 1; omega
        omega)
      simp; omega
    · exact h
theorem decL_pos {f n : Nat} : 1 ≤ (decL f n).length := by
  cases f with
  | zero => exact Nat.le_refl _
  | succ f => unfold decL; split <;> simp
def tpF (g : Nat → Int) (p : Nat) : Nat → List Nat
  | 0 => decL 9 p ++ 36 :: decL 9 (g (5 + p)).toNat
  | k + 1 => if g (12 + 7 * p + k) = 0 then tpF g p k else tpF g p k ++ (62 :: decL 9 k) ++ (61 :: decL 9 (g (12 + 7 * p + k)).toNat)
theorem tpF_len {g : Nat → Int} {B : Int} (hg : gOk g B) (hB : B ≤ 2000000) {p : Nat} (hp : p < 7) : ∀ k, k ≤ 7 → (tpF g p k).length ≤ 9 + 6 * k := by
  intro k
  induction k with
  | zero =>
    intro _
    have a := decL_len 9 1 p (by decide) (by omega)
    have b := hg.2.1 p hp
    have c := decL_len 9 7 (g (5 + p)).toNat (by decide) (by omega)
    unfold tpF
    rw [List.length_append, List.length_cons]; omega
  | succ k ih =>
    intro hk
    have i1 := ih (by omega)
    unfold tpF
    split
    · omega
    · have a := decL_len 9 1 k (by decide) (by omega)
      have b := hg.2.2.1 p k hp (by omega)
      have c := decL_len 9 3 (g (12 + 7 * p + k)).toNat (by decide) (by omega)
      rw [List.length_append, List.length_append, List.length_cons, List.length_cons]; omega
def tcF (q : List Nat) : Nat → List Nat
  | 0 => decL 9 (qk q 0)
  | k + 1 => tcF q k ++ (62 :: decL 9 (qk q (k + 1)))
theorem tcF_len {q : List Nat} (h : ∀ k, k < q.length → qk q k < 7) (h0 : 0 < q.length) : ∀ k, k < q.length → (tcF q k).length ≤ 1 + 2 * k := by
  intro k
  induction k with
  | zero => intro _; exact decL_len 9 1 _ (by decide) (by have := h 0 h0; omega)
  | succ k ih =>
    intro hk
    have a := decL_len 9 1 (qk q (k + 1)) (by decide) (by have := h (k + 1) hk; omega)
    unfold tcF
    rw [List.length_append, List.length_cons]
    have := ih (by omega); omega
def wpR (x : zT) (P : Int) : Int → zT → Prop := fun z y => (¬ mIs (x 0) P ∧ z = 0 ∧ y = uA x 8 0 1) ∨ (mIs (x 0) P ∧ z = ((tpF (x 0) P.toNat 7).length : Nat) ∧ y = wrL (uA (uA x 8 0 0) 14 0 0) (tpF (x 0) P.toNat 7))
def wcR (x : zT) (n : Nat) : Int → zT → Prop := fun z y => ∃ c', (lookF (x 0) n = none ∧ z = 0 ∧ y = uA (sA x 15 c') 8 0 1) ∨ (∃ q, lookF (x 0) n = some q ∧ z = ((tcF q (q.length - 1) ++ 61 :: decL 9 (smF (x 0) q q.length).toNat).length : Nat) ∧ y = wrL (uA (uA (sA x 15 c') 8 0 0) 14 0 0) (tcF q (q.length - 1) ++ 61 :: decL 9 (smF (x 0) q q.length).toNat))
def appR (x : zT) (n : Nat) (P : Int) : Int → zT → Prop := fun z y => (n = 60 ∧ z = 0 ∧ y = uA x 8 0 1) ∨ (n ≠ 60 ∧ z = n + 1 ∧ y = uA (uA (uA x 8 0 0) 9 n P) 10 0 (n + 1))
def undR (x : zT) (n : Nat) : Int → zT → Prop := fun z y => (n = 0 ∧ z = 0 ∧ y = uA x 8 0 1) ∨ (∃ k, n = k + 1 ∧ z = k ∧ y = cpF (uA (uA x 8 0 0) 6 0 k) 1 (61 * k) 0 0 61)
def resR (x : zT) : zT → Prop := fun y => (x 5 0 = 0 ∧ y = uA x 8 0 1) ∨ (x 5 0 ≠ 0 ∧ y = uA (cpF (uA x 8 0 0) 2 0 0 0 61) 6 0 0)
def outR (x : zT) (P : Int) : Int → zT → Prop := fun z y => ((0 ≤ P ∧ P ≤ x 14 0 - 1) ∧ z = x 13 P.toNat ∧ y = uA x 8 0 0) ∨ (¬ (0 ≤ P ∧ P ≤ x 14 0 - 1) ∧ z = 32 ∧ y = uA x 8 0 1)
