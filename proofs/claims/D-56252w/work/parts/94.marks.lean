/-! marks: whether a party comes again -/
set_option maxRecDepth 100000
def upN (F : Nat → Nat) (p v : Nat) : Nat → Nat := fun k => if k = p then v else F k
theorem upN_e {F : Nat → Nat} {p v : Nat} : upN F p v p = v := if_pos rfl
theorem upN_n {F : Nat → Nat} {p v k : Nat} (h : k ≠ p) : upN F p v k = F k := if_neg h
abbrev enM (cA : Nat → ClassId) (q n : Nat) (mk : Nat → Nat) (F : Nat → Nat) : Nat × va_E := (q, .inl (cA 8, n, .inr (.inr (.inr (.inr (fun k => some (mk (F k))))))))
abbrev mkNm : List String := ["NEW", "OPEN", "DONE"]
abbrev zMk (mk : Nat → Nat) (A : Nat → Prop) (U : State) (H : Heap) : Prop := va_En "ClearingHouse$Mark" "LClearingHouse$Mark;" mkNm [] mk A U H
section
variable {p : Program} {l : Launch} {e : Env} {R : Room} {s : State} {m : MethodId} {args : Array Value} {below : List Frame} {meth : Method} {c : Code} {H H0 : Heap} {locs : List Loc} {cells slots : Nat} {Q : State → Prop}
variable {cc : ByteArray} {pc : Nat} {ls : Array Slot} {rest st0 : List Value} {D : va_G} {A : Nat → Prop} {nL : Nat} {ret : Option FieldType} {cA : Nat → ClassId} {own : String} {ws : va_W} {mk : Nat → Nat} {F : Nat → Nat}
theorem mk_ld (hX : zX p s m args meth c cc own nL ret) (hK : va_K D vwCl (tyL cA) s) (hP : va_P D vwCl ws H) (i : Nat) {q n : Nat} (he : ws[i]? = some (enM cA q n mk F)) {E : Int} (k : Nat) (hi : E = (k : Int) ∧ k < n) (hn : n < 2 ^ 31) (hdg : decode cc pc = .ok (.aaload, 1)) (kk : W p l e R s m args below meth c H locs cells slots Q (F0 m (pc + 1) ls (va_rf (some (mk (F k))) :: rest))) : W p l e R s m args below meth c H locs cells slots Q (F0 m pc ls (.int (iI E) :: .ref q :: rest)) :=
  va_aldq hX.1 hX.2.1 hK hP i 8 he ty_8 (iI_in k hi.1 hi.2 hn) hdg (by rw [iI_cl k hi.1 (by omega)]; exact kk)
theorem mk_st (hX : zX p s m args meth c cc own nL ret) (hK : va_K D vwCl (tyL cA) s) (hP : va_P D vwCl ws H) (hD : va_D A ws) (hS : va_S A s.heap H locs) (hE : zMk mk A s s.heap) (i : Nat) {q n : Nat} (he : ws[i]? = some (enM cA q n mk F)) {E : Int} (k v : Nat) (hv : v < 3) (hi : E = (k : Int) ∧ k < n) (hn : n < 2 ^ 31) (hdg : decode cc pc = .ok (.aastore, 1)) (kk : ∀ (H1 : Heap) (locs1 : List Loc), va_P D vwCl (ws.set i (enM cA q n mk (upN F k v))) H1 → va_D A (ws.set i (enM cA q n mk (upN F k v))) → va_S A s.heap H1 locs1 → W p l e R s m args below meth c H1 locs1 cells slots Q (F0 m (pc + 1) ls rest)) : W p l e R s m args below meth c H locs cells slots Q (F0 m pc ls (va_rf (some (mk v)) :: .int (iI E) :: .ref q :: rest)) := by
  have hu : va_up (fun j => some (mk (F j))) k (some (mk v)) = fun j => some (mk (upN F k v j)) := by
    funext j
    unfold va_up upN
    by_cases h : j = k
    · rw [if_pos h, if_pos h]
    · rw [if_neg h, if_neg h]
  refine vb_astq hX.1 hX.2.1 hK hP hD hS i 8 he ty_8 (va_recvE hE hv hS) (fun comp c0 h1 h2 => by cases h1.symm.trans h2; exact asg_self _ _) (iI_in k hi.1 hi.2 hn) hdg (fun H1 locs1 hP1 hD1 hS1 => kk H1 locs1 ?_ ?_ hS1)
  · rw [iI_cl k hi.1 (by omega), hu] at hP1; exact hP1
  · rw [iI_cl k hi.1 (by omega), hu] at hD1; exact hD1
theorem mk_gs (hX : zX p s m args meth c cc own nL ret) (hS : va_S A s.heap H locs) (hE : zMk mk A s s.heap) (v : Nat) (hv : v < 3) {idx : Nat} (hlink : Cond.fieldLink own idx "ClearingHouse$Mark" (mkNm.getD v "") "LClearingHouse$Mark;" ∈ lw_all) (hdg : decode cc pc = .ok (.getstatic idx, 3)) (kk : W p l e R s m args below meth c H locs cells slots Q (F0 m (pc + 3) ls (va_rf (some (mk v)) :: rest))) : W p l e R s m args below meth c H locs cells slots Q (F0 m pc ls rest) :=
  va_gets hX.1 hX.2.1 (hE.1 v hv).1 hS hX.ow (hX.hts _ hlink) (fun _ h => h) hdg kk
theorem mk_eq (hE : zMk mk A s s.heap) {i j : Nat} (hi : i < 3) (hj : j < 3) : some (mk i) = some (mk j) ↔ i = j := ⟨fun h => hE.2 i j hi hj (Option.some.inj h), fun h => by rw [h]⟩
end
/-- S: the way to the party under test; what is open, what is done -/
def mkJ (g : Nat → Int) (n : Nat) (F : Nat → Nat) (O : Nat → Prop) : Prop :=
  (∀ v, v < n → F v < 3 ∧ (F v = 1 ↔ O v)) ∧ (∀ v, v < n → F v = 2 → ∀ u, u < n → 0 < g (12 + 7 * v + u) → F u = 2) ∧ ∀ q, cOk g n q → ∃ k, k < q.length ∧ F (qk q k) ≠ 2
def newC (F : Nat → Nat) (n : Nat) : Int := sg (fun k => bI (F k = 0)) n
theorem newC_nn {F : Nat → Nat} {n : Nat} : 0 ≤ newC F n := by
  have := sg_bd (f := fun k => bI (F k = 0)) (n := n) (M := 1) (fun k _ => by rcases bI_01 (P := F k = 0) with h | h <;> omega)
  unfold newC; omega
theorem newC_le {F G : Nat → Nat} {n : Nat} (h : ∀ v, v < n → G v = 0 → F v = 0) : newC G n ≤ newC F n := by
  unfold newC
  refine sg_le n (fun k hk => ?_)
  by_cases c : G k = 0
  · rw [bI_t c, bI_t (h k hk c)]; omega
  · rw [bI_f c]; rcases bI_01 (P := F k = 0) with h | h <;> omega
theorem newC_up {F : Nat → Nat} {n p v : Nat} (hp : p < n) (h0 : F p = 0) (hv : v ≠ 0) : newC (upN F p v) n = newC F n - 1 := by
  unfold newC
  have e : (fun k => bI (upN F p v k = 0)) = fun k => if k = p then 0 else (fun k => bI (F k = 0)) k := by
    funext k
    by_cases c : k = p
    · subst c; rw [upN_e, if_pos rfl, bI_f hv]
    · rw [upN_n c, if_neg c]
  rw [e, sg_upd n hp, bI_t h0]
  omega
theorem qk_drop {S : List Nat} {j k : Nat} : qk (S.drop j) k = qk S (j + k) := by
  unfold qk
  rw [List.getD_eq_getElem?_getD, List.getD_eq_getElem?_getD, List.getElem?_drop]
/-- the way came back to one of its own -/
theorem cOk_drop {g : Nat → Int} {n : Nat} {S : List Nat} (h : pOk g n S) (hn : S.length ≤ n) {j : Nat} (hj : j + 1 < S.length) (he : 0 < g (12 + 7 * qk S (S.length - 1) + qk S j)) : cOk g n (S.drop j) := by
  have hl : (S.drop j).length = S.length - j := List.length_drop
  refine ⟨⟨by omega, fun k hk => ?_, fun a b ha hb e => ?_, fun k hk => ?_⟩, by omega, by omega, ?_⟩
  · rw [qk_drop]; exact h.2.1 _ (by omega)
  · rw [qk_drop, qk_drop] at e
    have := h.2.2.1 _ _ (by omega) (by omega) e
    omega
  · rw [qk_drop, qk_drop]
    exact h.2.2.2 (j + k) (by omega)
  · rw [qk_drop, qk_drop, hl, Nat.add_zero, show j + (S.length - j - 1) = S.length - 1 by omega]
    exact he
theorem cOk_back {g : Nat → Int} {n : Nat} {q : List Nat} (h : cOk g n q) {k : Nat} (hk : k < q.length) : ∃ j, j < q.length ∧ qk q j ≠ qk q k ∧ 0 < g (12 + 7 * qk q j + qk q k) := by
  have h2 := h.2.1
  have hlen : 0 < q.length := by omega
  have hj : (k + (q.length - 1)) % q.length < q.length := Nat.mod_lt _ hlen
  have hjk : ((k + (q.length - 1)) % q.length + 1) % q.length = k := by
    rw [Nat.mod_add_mod, show k + (q.length - 1) + 1 = k + q.length by omega, Nat.add_mod_right, Nat.mod_eq_of_lt hk]
  refine ⟨_, hj, fun e => ?_, ?_⟩
  · have h9 := h.1.2.2.1 _ _ hj hk e
    rw [h9] at hjk
    by_cases c : k + 1 < q.length
    · rw [Nat.mod_eq_of_lt c] at hjk; omega
    · rw [show k + 1 = q.length by omega, Nat.mod_self] at hjk; omega
  · have he := cOk_edge h hj
    unfold eI at he
    rw [hjk] at he
    exact he
theorem pig : ∀ (n : Nat) (f : Nat → Nat) (L : Nat), (∀ k, k < L → f k < n) → (∀ i j, i < L → j < L → f i = f j → i = j) → L ≤ n := by
  intro n
  induction n with
  | zero =>
    intro f L h1 _
    by_cases h : L = 0
    · omega
    · have := h1 0 (by omega); omega
  | succ n ih =>
    intro f L h1 h2
    by_cases c : ∃ i, i < L ∧ f i = n
    · obtain ⟨i, hi, e⟩ := c
      have h3 := ih (fun k => f (if k = i then L - 1 else k)) (L - 1) (fun k hk => by
        have hne : f (if k = i then L - 1 else k) ≠ n := fun q => by
          by_cases c2 : k = i
          · rw [if_pos c2] at q
            have := h2 _ _ (by omega) hi (q.trans e.symm); omega
          · rw [if_neg c2] at q
            have := h2 _ _ (by omega) hi (q.trans e.symm); omega
        have hlt : f (if k = i then L - 1 else k) < n + 1 := by
          by_cases c2 : k = i
          · rw [if_pos c2]; exact h1 _ (by omega)
          · rw [if_neg c2]; exact h1 _ (by omega)
        show f (if k = i then L - 1 else k) < n
        omega) (fun x y hx hy q => by
        have q9 : f (if x = i then L - 1 else x) = f (if y = i then L - 1 else y) := q
        by_cases c1 : x = i
        · by_cases c2 : y = i
          · omega
          · rw [if_pos c1, if_neg c2] at q9
            have := h2 _ _ (by omega) (by omega) q9; omega
        · by_cases c2 : y = i
          · rw [if_neg c1, if_pos c2] at q9
            have := h2 _ _ (by omega) (by omega) q9; omega
          · rw [if_neg c1, if_neg c2] at q9
            exact h2 _ _ (by omega) (by omega) q9)
      omega
    · have h3 := ih f L (fun k hk => by
        have := h1 k hk
        have hne : f k ≠ n := fun q => c ⟨k, hk, q⟩
        omega) h2
      omega
theorem pOk_len {g : Nat → Int} {n : Nat} {S : List Nat} (h : pOk g n S) : S.length ≤ n := pig n (qk S) S.length h.2.1 h.2.2.1
