/-! LAYER, second part: contracts that may throw (XM), calls over joined worlds -/
set_option maxRecDepth 100000
/-- a method that changes its world, and may throw: pX, WX say which class is thrown, and the world behind it (the thrown object at q) -/
def XM (l : Launch) (y : MethodName) (cc : ByteArray) (L : Nat) (ret : Option FieldType) (fr lo mc ms : Nat) (av : List Value) (g : hG) (E : hEnv) (ws : va_W) {S : Type} (vf : S → Option Value) (post : S → Prop) (W1 : S → va_W) {SX : Type} (pX : String → SX → Prop) (WX : SX → Nat → va_W) : Prop :=
  ∀ sz : Nat, vx_Met l y (ws_ y cc L ret) ({ frames := fr, cells := mc, slots := ms, locals := lo }) (va_Pc av (fun U => U.heap.size = sz ∧ va_P (gD g) Cl ws U.heap ∧ va_D (fun _ => True) ws ∧ E (va_A ws sz) U U.heap))
    (fun _ st o t => (∃ u : S, o = .returned (vf u) ∧ post u ∧ va_P (gD g) Cl (W1 u) t.heap ∧ va_D (va_A ws sz) (W1 u)) ∧ va_F (va_A ws sz) st t)
    (fun En q st t => (∃ u : SX, pX En u ∧ va_P (gD g) Cl (WX u q) t.heap ∧ va_D (va_A ws sz) (WX u q)) ∧ va_F (va_A ws sz) st t) mc ms (va_A ws sz)
/-- the same of a method with handlers -/
def XH (l : Launch) (y : MethodName) (cc : ByteArray) (L : Nat) (ret : Option FieldType) (hh : List (Nat × Nat × Nat × Nat)) (fr lo mc ms : Nat) (av : List Value) (g : hG) (E : hEnv) (ws : va_W) {S : Type} (vf : S → Option Value) (post : S → Prop) (W1 : S → va_W) {SX : Type} (pX : String → SX → Prop) (WX : SX → Nat → va_W) : Prop :=
  ∀ sz : Nat, vx_Met l y (wsW_ y cc L ret hh) ({ frames := fr, cells := mc, slots := ms, locals := lo }) (va_Pc av (fun U => U.heap.size = sz ∧ va_P (gD g) Cl ws U.heap ∧ va_D (fun _ => True) ws ∧ E (va_A ws sz) U U.heap))
    (fun _ st o t => (∃ u : S, o = .returned (vf u) ∧ post u ∧ va_P (gD g) Cl (W1 u) t.heap ∧ va_D (va_A ws sz) (W1 u)) ∧ va_F (va_A ws sz) st t)
    (fun En q st t => (∃ u : SX, pX En u ∧ va_P (gD g) Cl (WX u q) t.heap ∧ va_D (va_A ws sz) (WX u q)) ∧ va_F (va_A ws sz) st t) mc ms (va_A ws sz)
theorem XM.mk {l : Launch} {y : MethodName} {cc : ByteArray} {L : Nat} {ret : Option FieldType} {fr lo mc ms : Nat} {av : List Value} {g : hG} {E : hEnv} {ws : va_W} {S : Type} {vf : S → Option Value} {post : S → Prop} {W1 : S → va_W} {SX : Type} {pX : String → SX → Prop} {WX : SX → Nat → va_W} (hpn : plainName y.cls = true) (hn : (lg_sl av).length ≤ L)
    (body : ∀ (p : Program) (e : Env) (R : Room) (s : State) (m : MethodId) (args : Array Value) (below : List Frame) (meth : Method) (c : Code) (Q : State → Prop) (A : Nat → Prop) (H : Heap) (locs : List Loc) (ls : Array Slot),
      hX p l R s m args meth c y cc L ret fr lo → mc ≤ R.cells → ms ≤ R.slots → va_P (gD g) Cl ws H → va_D A ws → E A s s.heap → va_S A s.heap H locs → (∀ q : Nat, s.heap.size ≤ q → A q) → meth.name = y.name → lv_has ls L (lv_args 0 av) → (∀ x ∈ c.exceptionTable.toList, False) →
      Q = vx_MQ below (fun _ st o t => (∃ u : S, o = .returned (vf u) ∧ post u ∧ va_P (gD g) Cl (W1 u) t.heap ∧ va_D A (W1 u)) ∧ va_F A st t) (fun En q st t => (∃ u : SX, pX En u ∧ va_P (gD g) Cl (WX u q) t.heap ∧ va_D A (WX u q)) ∧ va_F A st t) args s mc ms A → W p l e R s m args below meth c H locs 0 0 Q (F0 m 0 ls [])) : XM l y cc L ret fr lo mc ms av g E ws vf post W1 pX WX := by
  intro sz
  refine vx_ofW (cc := cc) (maxL := L) (ret := ret) hpn rfl ?_
  intro p e s m args below meth c s₁ B hml ht hv
  obtain ⟨rfl, hsz, hP, hD0, hE⟩ := hv
  subst hsz
  have hts := atoms_spec (ws := ws_ y cc L ret) B.pre
  have hl := lv_entry av (n := L) hn
  rw [lg_entry_eq]
  exact body p e _ s m _ below meth c _ _ _ _ _ ⟨B.exec, B.bytes, B.returns, B.notSynchronized, hml, findClass_of_methodNamed B.named, fun w h => hts w (List.mem_cons_of_mem _ h), Nat.le_refl _, Nat.le_refl _⟩ (Nat.le_refl _) (Nat.le_refl _) hP (hD0.self (sz := s.heap.size)) hE va_S.rf (fun q h => Or.inr h) (name_of_methodNamed B.named B.method).1 hl ht rfl
theorem XH.mk {l : Launch} {y : MethodName} {cc : ByteArray} {L : Nat} {ret : Option FieldType} {hh : List (Nat × Nat × Nat × Nat)} {fr lo mc ms : Nat} {av : List Value} {g : hG} {E : hEnv} {ws : va_W} {S : Type} {vf : S → Option Value} {post : S → Prop} {W1 : S → va_W} {SX : Type} {pX : String → SX → Prop} {WX : SX → Nat → va_W} (hpn : plainName y.cls = true) (hn : (lg_sl av).length ≤ L)
    (body : ∀ (p : Program) (e : Env) (R : Room) (s : State) (m : MethodId) (args : Array Value) (below : List Frame) (meth : Method) (c : Code) (Q : State → Prop) (A : Nat → Prop) (H : Heap) (locs : List Loc) (ls : Array Slot),
      hX p l R s m args meth c y cc L ret fr lo → mc ≤ R.cells → ms ≤ R.slots → va_P (gD g) Cl ws H → va_D A ws → E A s s.heap → va_S A s.heap H locs → (∀ q : Nat, s.heap.size ≤ q → A q) → meth.name = y.name → lv_has ls L (lv_args 0 av) → c.exceptionTable.toList = tableOf hh →
      Q = vx_MQ below (fun _ st o t => (∃ u : S, o = .returned (vf u) ∧ post u ∧ va_P (gD g) Cl (W1 u) t.heap ∧ va_D A (W1 u)) ∧ va_F A st t) (fun En q st t => (∃ u : SX, pX En u ∧ va_P (gD g) Cl (WX u q) t.heap ∧ va_D A (WX u q)) ∧ va_F A st t) args s mc ms A → W p l e R s m args below meth c H locs 0 0 Q (F0 m 0 ls [])) : XH l y cc L ret hh fr lo mc ms av g E ws vf post W1 pX WX := by
  intro sz
  refine vx_ofWH (cc := cc) (maxL := L) (ret := ret) (hh := hh) hpn rfl ?_
  intro p e s m args below meth c s₁ B hml  hv
  obtain ⟨rfl, hsz, hP, hD0, hE⟩ := hv
  subst hsz
  have hts := atoms_spec (ws := wsW_ y cc L ret hh) B.pre
  have hl := lv_entry av (n := L) hn
  rw [lg_entry_eq]
  exact body p e _ s m _ below meth c _ _ _ _ _ ⟨B.exec, B.bytes, B.returns, B.notSynchronized, hml, findClass_of_methodNamed B.named, fun w h => hts w (List.mem_cons_of_mem _ h), Nat.le_refl _, Nat.le_refl _⟩ (Nat.le_refl _) (Nat.le_refl _) hP (hD0.self (sz := s.heap.size)) hE va_S.rf (fun q h => Or.inr h) (name_of_methodNamed B.named B.method).1 hl (vx_table (x := y) B (hts _ List.mem_cons_self)) rfl
def hkSH (y : MethodName) (b : ByteArray) (L : Nat) (r : Option FieldType) (hh : List (Nat × Nat × Nat × Nat)) (n : Nat) : Prop := Cond.static y ∈ lw_all ∧ Cond.initialized y.cls ∈ lw_all ∧ Cond.codeWith y b L r hh ∈ lw_all ∧ y.cls ≠ "java/lang/invoke/MethodHandle" ∧ y.cls ≠ "java/lang/invoke/VarHandle" ∧ (parseMethodDescriptor y.desc).map (fun d => d.parameters.length) = some n
def hkVH (C : String) (y : MethodName) (b : ByteArray) (L : Nat) (r : Option FieldType) (hh : List (Nat × Nat × Nat × Nat)) (n : Nat) : Prop := Cond.instanceMethod y ∈ lw_all ∧ Cond.selects C y y ∈ lw_all ∧ Cond.initialized C ∈ lw_all ∧ Cond.codeWith y b L r hh ∈ lw_all ∧ y.cls = C ∧ y.cls ≠ "java/lang/invoke/MethodHandle" ∧ y.cls ≠ "java/lang/invoke/VarHandle" ∧ (parseMethodDescriptor y.desc).map (fun d => d.parameters.length) = some n
section HCALLX
variable {p : Program} {l : Launch} {e : Env} {R : Room} {s : State} {m : MethodId} {args : Array Value} {below : List Frame} {meth : Method} {c : Code} {H : Heap} {locs : List Loc} {cells slots : Nat} {Q : State → Prop}
variable {cc bytes : ByteArray} {pc nL maxL n index fr lo fr' lo' mc ms : Nat} {ls : Array Slot} {rest st0 st1 As : List Value} {g : hG} {E Ec : hEnv} {A : Nat → Prop} {own C host : String} {y : MethodName} {ret : Option FieldType} {wc : va_W} {v : Option Value} {lv : List (Nat × Value)} {hh : List (Nat × Nat × Nat × Nat)}
variable {S : Type} {vf : S → Option Value} {post : S → Prop} {W1 : S → va_W} {ws wr : va_W} {SX : Type} {pX : String → SX → Prop} {WX : SX → Nat → va_W}

theorem mc_backA (hr : va_Run p l e R s m args below meth c H locs cells slots mc ms (F0 m pc ls st0) rest (fun st o t => (∃ u : S, o = .returned (vf u) ∧ post u ∧ va_P (gD g) Cl (W1 u) t.heap ∧ va_D (va_A wc H.size) (W1 u)) ∧ va_F (va_A wc H.size) st t) (va_A wc H.size))
    (hP : va_P (gD g) Cl (wc ++ wr) H) (hD0 : va_D A (wc ++ wr)) (hS : va_S A s.heap H locs) (hA : ∀ q : Nat, s.heap.size ≤ q → A q)
    (kk : ∀ (u : S) (H1 : Heap) (locs1 : List Loc), post u → va_P (gD g) Cl (wr ++ W1 u) H1 → va_D A (wr ++ W1 u) → va_S A s.heap H1 locs1 → H.size ≤ H1.size → (∀ q : Nat, q < H.size → ¬ va_A wc H.size q → H1[q]? = H[q]?) → W p l e R s m args below meth c H1 locs1 (cells + mc) (slots + ms) Q (F0 m (pc + 3) ls ((vf u).toList ++ rest))) : W p l e R s m args below meth c H locs cells slots Q (F0 m pc ls st0) :=
  mc_back hr hP hD0 hS hA (List.range wc.length) ((List.range wr.length).map (fun i => wc.length + i)) (ap_C wc wr) (ap_R wc wr) (nd_rangeR wr.length wc.length) (ap_dis wr.length wc.length) kk
theorem xc_back (hr : vx_Run p l e R s m args below meth c H locs cells slots mc ms (F0 m pc ls st0) rest (fun st o t => (∃ u : S, o = .returned (vf u) ∧ post u ∧ va_P (gD g) Cl (W1 u) t.heap ∧ va_D (va_A wc H.size) (W1 u)) ∧ va_F (va_A wc H.size) st t) (fun En q st t => (∃ u : SX, pX En u ∧ va_P (gD g) Cl (WX u q) t.heap ∧ va_D (va_A wc H.size) (WX u q)) ∧ va_F (va_A wc H.size) st t) (va_A wc H.size))
    (hP : va_P (gD g) Cl (wc ++ wr) H) (hD0 : va_D A (wc ++ wr)) (hS : va_S A s.heap H locs) (hA : ∀ q : Nat, s.heap.size ≤ q → A q)
    (kx : ∀ (En : String) (ce : Cell) (q9 : Nat) (u : SX) (H1 : Heap) (locs1 : List Loc), pX En u → va_P (gD g) Cl (wr ++ WX u q9) H1 → va_D A (wr ++ WX u q9) → va_S A s.heap H1 locs1 → H.size ≤ H1.size → (∀ q : Nat, q < H.size → ¬ va_A wc H.size q → H1[q]? = H[q]?) → H1[q9]? = some ce → ce.vm = .none → s.vm.findClass En = some ce.cls → vx_W p l e R s m args below meth c H1 locs1 (cells + mc) (slots + ms) Q (F0 m pc ls rest) q9)
    (kk : ∀ (u : S) (H1 : Heap) (locs1 : List Loc), post u → va_P (gD g) Cl (wr ++ W1 u) H1 → va_D A (wr ++ W1 u) → va_S A s.heap H1 locs1 → H.size ≤ H1.size → (∀ q : Nat, q < H.size → ¬ va_A wc H.size q → H1[q]? = H[q]?) → W p l e R s m args below meth c H1 locs1 (cells + mc) (slots + ms) Q (F0 m (pc + 3) ls ((vf u).toList ++ rest))) : W p l e R s m args below meth c H locs cells slots Q (F0 m pc ls st0) := by
  have hF := va_free (wc := wc) hD0 hS hA (List.range wc.length) (ap_C wc wr)
  intro T hT X
  rcases hr T hT X with ⟨v, st₀, t, T', L, h0, X', hL, e1, e2, ⟨⟨u, hv, hp, hP1, hD1⟩, hz, hk⟩, st⟩ | ⟨q, st₀, t, T', L, En, ce, h0, X', hL, e1, e2, ⟨⟨u, hp, hP1, hD1⟩, hz, hk⟩, hce, hcv, hcl, st⟩
  · cases hv
    rw [h0] at hz hk
    have hkey : ∀ q : Nat, q < H.size → ¬ va_A wc H.size q → T'.heap[q]? = H[q]? := fun q h1 h2 => by rw [e1]; exact hk q h1 h2
    have hj := va_join (A0 := A) (D := gD g) (cl := Cl) (ws := wc ++ wr) (wc := wc) (wr := wr) (w1 := W1 u) (H := H) (H1 := T'.heap) hP hD0 _ _ (ap_C wc wr) (ap_R wc wr) (nd_rangeR wr.length wc.length) (ap_dis wr.length wc.length) hkey hF (by rw [e1]; exact hP1) hD1
    obtain ⟨t2, a1, b1⟩ := kk u T'.heap (locs ++ L) hp hj.1 hj.2
      ⟨Nat.le_trans hS.1 (by rw [e1]; exact hz), fun q h1 h2 => by rw [hkey q (Nat.lt_of_lt_of_le h1 hS.1) (fun z => h2 (hF q z))]; exact hS.2.1 q h1 h2, fun q hq => by
        rcases List.mem_append.mp hq with h | h
        · exact hS.2.2 q h
        · exact hF _ (hL q h)⟩ (by rw [e1]; exact hz) hkey T' rfl X'
    exact ⟨t2, st t2 a1, b1⟩
  · rw [h0] at hz hk
    have hkey : ∀ q : Nat, q < H.size → ¬ va_A wc H.size q → T'.heap[q]? = H[q]? := fun q h1 h2 => by rw [e1]; exact hk q h1 h2
    have hj := va_join (A0 := A) (D := gD g) (cl := Cl) (ws := wc ++ wr) (wc := wc) (wr := wr) (w1 := WX u q) (H := H) (H1 := T'.heap) hP hD0 _ _ (ap_C wc wr) (ap_R wc wr) (nd_rangeR wr.length wc.length) (ap_dis wr.length wc.length) hkey hF (by rw [e1]; exact hP1) hD1
    obtain ⟨t2, a1, b1⟩ := kx En ce q u T'.heap (locs ++ L) hp hj.1 hj.2
      ⟨Nat.le_trans hS.1 (by rw [e1]; exact hz), fun q h1 h2 => by rw [hkey q (Nat.lt_of_lt_of_le h1 hS.1) (fun z => h2 (hF q z))]; exact hS.2.1 q h1 h2, fun q hq => by
        rcases List.mem_append.mp hq with h | h
        · exact hS.2.2 q h
        · exact hF _ (hL q h)⟩ (by rw [e1]; exact hz) hkey (by rw [e1]; exact hce) hcv hcl T' rfl X'
    exact ⟨t2, st.trans a1, b1⟩
theorem mc_backA5 (hr : va_Run5 p l e R s m args below meth c H locs cells slots mc ms (F0 m pc ls st0) rest (fun st o t => (∃ u : S, o = .returned (vf u) ∧ post u ∧ va_P (gD g) Cl (W1 u) t.heap ∧ va_D (va_A wc H.size) (W1 u)) ∧ va_F (va_A wc H.size) st t) (va_A wc H.size))
    (hP : va_P (gD g) Cl (wc ++ wr) H) (hD0 : va_D A (wc ++ wr)) (hS : va_S A s.heap H locs) (hA : ∀ q : Nat, s.heap.size ≤ q → A q)
    (kk : ∀ (u : S) (H1 : Heap) (locs1 : List Loc), post u → va_P (gD g) Cl (wr ++ W1 u) H1 → va_D A (wr ++ W1 u) → va_S A s.heap H1 locs1 → H.size ≤ H1.size → (∀ q : Nat, q < H.size → ¬ va_A wc H.size q → H1[q]? = H[q]?) → W p l e R s m args below meth c H1 locs1 (cells + mc) (slots + ms) Q (F0 m (pc + 5) ls ((vf u).toList ++ rest))) : W p l e R s m args below meth c H locs cells slots Q (F0 m pc ls st0) :=
  mc_back5 hr hP hD0 hS hA (List.range wc.length) ((List.range wr.length).map (fun i => wc.length + i)) (ap_C wc wr) (ap_R wc wr) (nd_rangeR wr.length wc.length) (ap_dis wr.length wc.length) kk
theorem xc_back5 (hr : vx_Run5 p l e R s m args below meth c H locs cells slots mc ms (F0 m pc ls st0) rest (fun st o t => (∃ u : S, o = .returned (vf u) ∧ post u ∧ va_P (gD g) Cl (W1 u) t.heap ∧ va_D (va_A wc H.size) (W1 u)) ∧ va_F (va_A wc H.size) st t) (fun En q st t => (∃ u : SX, pX En u ∧ va_P (gD g) Cl (WX u q) t.heap ∧ va_D (va_A wc H.size) (WX u q)) ∧ va_F (va_A wc H.size) st t) (va_A wc H.size))
    (hP : va_P (gD g) Cl (wc ++ wr) H) (hD0 : va_D A (wc ++ wr)) (hS : va_S A s.heap H locs) (hA : ∀ q : Nat, s.heap.size ≤ q → A q)
    (kx : ∀ (En : String) (ce : Cell) (q9 : Nat) (u : SX) (H1 : Heap) (locs1 : List Loc), pX En u → va_P (gD g) Cl (wr ++ WX u q9) H1 → va_D A (wr ++ WX u q9) → va_S A s.heap H1 locs1 → H.size ≤ H1.size → (∀ q : Nat, q < H.size → ¬ va_A wc H.size q → H1[q]? = H[q]?) → H1[q9]? = some ce → ce.vm = .none → s.vm.findClass En = some ce.cls → vx_W p l e R s m args below meth c H1 locs1 (cells + mc) (slots + ms) Q (F0 m pc ls rest) q9)
    (kk : ∀ (u : S) (H1 : Heap) (locs1 : List Loc), post u → va_P (gD g) Cl (wr ++ W1 u) H1 → va_D A (wr ++ W1 u) → va_S A s.heap H1 locs1 → H.size ≤ H1.size → (∀ q : Nat, q < H.size → ¬ va_A wc H.size q → H1[q]? = H[q]?) → W p l e R s m args below meth c H1 locs1 (cells + mc) (slots + ms) Q (F0 m (pc + 5) ls ((vf u).toList ++ rest))) : W p l e R s m args below meth c H locs cells slots Q (F0 m pc ls st0) := by
  have hF := va_free (wc := wc) hD0 hS hA (List.range wc.length) (ap_C wc wr)
  intro T hT X
  rcases hr T hT X with ⟨v, st₀, t, T', L, h0, X', hL, e1, e2, ⟨⟨u, hv, hp, hP1, hD1⟩, hz, hk⟩, st⟩ | ⟨q, st₀, t, T', L, En, ce, h0, X', hL, e1, e2, ⟨⟨u, hp, hP1, hD1⟩, hz, hk⟩, hce, hcv, hcl, st⟩
  · cases hv
    rw [h0] at hz hk
    have hkey : ∀ q : Nat, q < H.size → ¬ va_A wc H.size q → T'.heap[q]? = H[q]? := fun q h1 h2 => by rw [e1]; exact hk q h1 h2
    have hj := va_join (A0 := A) (D := gD g) (cl := Cl) (ws := wc ++ wr) (wc := wc) (wr := wr) (w1 := W1 u) (H := H) (H1 := T'.heap) hP hD0 _ _ (ap_C wc wr) (ap_R wc wr) (nd_rangeR wr.length wc.length) (ap_dis wr.length wc.length) hkey hF (by rw [e1]; exact hP1) hD1
    obtain ⟨t2, a1, b1⟩ := kk u T'.heap (locs ++ L) hp hj.1 hj.2
      ⟨Nat.le_trans hS.1 (by rw [e1]; exact hz), fun q h1 h2 => by rw [hkey q (Nat.lt_of_lt_of_le h1 hS.1) (fun z => h2 (hF q z))]; exact hS.2.1 q h1 h2, fun q hq => by
        rcases List.mem_append.mp hq with h | h
        · exact hS.2.2 q h
        · exact hF _ (hL q h)⟩ (by rw [e1]; exact hz) hkey T' rfl X'
    exact ⟨t2, st t2 a1, b1⟩
  · rw [h0] at hz hk
    have hkey : ∀ q : Nat, q < H.size → ¬ va_A wc H.size q → T'.heap[q]? = H[q]? := fun q h1 h2 => by rw [e1]; exact hk q h1 h2
    have hj := va_join (A0 := A) (D := gD g) (cl := Cl) (ws := wc ++ wr) (wc := wc) (wr := wr) (w1 := WX u q) (H := H) (H1 := T'.heap) hP hD0 _ _ (ap_C wc wr) (ap_R wc wr) (nd_rangeR wr.length wc.length) (ap_dis wr.length wc.length) hkey hF (by rw [e1]; exact hP1) hD1
    obtain ⟨t2, a1, b1⟩ := kx En ce q u T'.heap (locs ++ L) hp hj.1 hj.2
      ⟨Nat.le_trans hS.1 (by rw [e1]; exact hz), fun q h1 h2 => by rw [hkey q (Nat.lt_of_lt_of_le h1 hS.1) (fun z => h2 (hF q z))]; exact hS.2.1 q h1 h2, fun q hq => by
        rcases List.mem_append.mp hq with h | h
        · exact hS.2.2 q h
        · exact hF _ (hL q h)⟩ (by rw [e1]; exact hz) hkey (by rw [e1]; exact hce) hcv hcl T' rfl X'
    exact ⟨t2, st.trans a1, b1⟩
theorem rcVN {b : Nat}  (hC : RM l y bytes maxL ret fr' lo' (.ref b :: As) g E wc v) (hk : hkV C y bytes maxL ret n) (hln : va_Nw (.methodLinkNest own index y host) s) (hx : p.tables.exec = Jvm.exec) (hb : c.code = cc) (hml : c.maxLocals = nL) (hown : s.vm.findClass own = some m.cls) (hts : ∀ w ∈ lw_all, w.before args s = true) (hf : fr ≤ R.frames) (hlo : lo ≤ R.locals) (hg : hGo E) (hE : E A s s.heap) (hS : va_S A s.heap H locs)
    (hP : va_P (gD g) Cl wc H) (hrv : ∃ cell : Cell, H[b]? = some cell ∧ cell.vm.isStatics = false ∧ s.vm.findClass C = some cell.cls) (hcs : cells ≤ R.cells ∧ slots ≤ R.slots) (hls : lv_has ls nL lv) (hR : Nat.ble (fr' + 1) fr = true ∧ Nat.ble (8 + (maxL + 11) + lo') lo = true) (hst : st0 = As.reverse ++ .ref b :: rest) (hlen : As.length = n) (hW : (rest.map fun v => v.category).sum ≤ 8) (h1 : v.toList ++ rest = st1) (hd : decode cc pc = .ok (.invokevirtual index, 3))
    (kk : W p l e R s m args below meth c H locs cells slots Q (F0 m (pc + 3) ls st1)) : W p l e R s m args below meth c H locs cells slots Q (F0 m pc ls st0) := by
  subst hst
  obtain ⟨k1, k2, k3, k4, k9, k5⟩ := hk
  have hpre := hc_pre hg hP (fun U _ hW2 => hg.2 A _ s U _ _ hW2 hS.2.1 (fun q h => h.elim) hE) (.ref b :: As)
  exact hc_back (va_runVN (C := C) (As := As) (rest := rest)  ⟨hx, hb, hml, hown, hts⟩ hC ⟨va_cnB n hts (lw_meth k4) rfl rfl rfl hln (by rw [k9]; exact hts _ k3) k5 ⟨Nat.le_trans (Nat.le_of_ble_eq_true hR.1) hf, Nat.le_trans (Nat.le_of_ble_eq_true hR.2) hlo⟩, hts _ k1, hts _ k2⟩ ⟨hpre.1, hrv, hpre.2⟩ rfl hlen hls.1 rfl (lv_room hW) hd hcs) h1 kk
theorem mcSA  (hM : MM l y bytes maxL ret fr' lo' mc ms As g E wc vf post W1) (hk : hkS y bytes maxL ret n) (hl : Cond.methodLink own index y ∈ lw_all) (hx : p.tables.exec = Jvm.exec) (hb : c.code = cc) (hml : c.maxLocals = nL) (hown : s.vm.findClass own = some m.cls) (hts : ∀ w ∈ lw_all, w.before args s = true) (hf : fr ≤ R.frames) (hlo : lo ≤ R.locals) (hg : hGo E) (hE : E A s s.heap) (hS : va_S A s.heap H locs)
    (hP : va_P (gD g) Cl (wc ++ wr) H) (hD0 : va_D A (wc ++ wr)) (hA : ∀ q : Nat, s.heap.size ≤ q → A q) (hcs : cells + mc ≤ R.cells ∧ slots + ms ≤ R.slots)  (hls : lv_has ls nL lv) (hR : Nat.ble (fr' + 1) fr = true ∧ Nat.ble (8 + (maxL + 11) + lo') lo = true) (hst : st0 = As.reverse ++ rest) (hlen : As.length = n) (hW : (rest.map fun v => v.category).sum ≤ 8) (hd : decode cc pc = .ok (.invokestatic index, 3))
    (kk : ∀ (u : S) (H1 : Heap) (locs1 : List Loc), post u → va_P (gD g) Cl (wr ++ W1 u) H1 → va_D A (wr ++ W1 u) → va_S A s.heap H1 locs1 → H.size ≤ H1.size → (∀ q : Nat, q < H.size → ¬ va_A wc H.size q → H1[q]? = H[q]?) → W p l e R s m args below meth c H1 locs1 (cells + mc) (slots + ms) Q (F0 m (pc + 3) ls ((vf u).toList ++ rest))) : W p l e R s m args below meth c H locs cells slots Q (F0 m pc ls st0) := by
  subst hst
  obtain ⟨k1, k2, k3, k4⟩ := hk
  have hF := va_free (wc := wc) hD0 hS hA (List.range wc.length) (ap_C wc wr)
  have hD1 : va_D (fun _ => True) wc := (va_D_app.mp hD0).1.weaken (fun _ _ _ _ => trivial)
  have hpre := mc_pre hg (ap_Pc hP) hD1 (fun U _ hW2 => hg.2 A _ s U _ _ hW2 hS.2.1 hF hE) As
  exact mc_backA (va_runS (As := As) (rest := rest)  ⟨hx, hb, hml, hown, hts⟩ (hM H.size) (va_cwS n hts (lw_S hl k1 k2 k3) rfl rfl rfl k4 ⟨Nat.le_trans (Nat.le_of_ble_eq_true hR.1) hf, Nat.le_trans (Nat.le_of_ble_eq_true hR.2) hlo⟩) hpre rfl hlen hls.1 rfl (lv_room hW) hd hcs) hP hD0 hS hA kk
theorem mcVA {b : Nat}  (hM : MM l y bytes maxL ret fr' lo' mc ms (.ref b :: As) g E wc vf post W1) (hk : hkV C y bytes maxL ret n) (hl : Cond.methodLink own index y ∈ lw_all) (hx : p.tables.exec = Jvm.exec) (hb : c.code = cc) (hml : c.maxLocals = nL) (hown : s.vm.findClass own = some m.cls) (hts : ∀ w ∈ lw_all, w.before args s = true) (hf : fr ≤ R.frames) (hlo : lo ≤ R.locals) (hg : hGo E) (hE : E A s s.heap) (hS : va_S A s.heap H locs)
    (hP : va_P (gD g) Cl (wc ++ wr) H) (hD0 : va_D A (wc ++ wr)) (hA : ∀ q : Nat, s.heap.size ≤ q → A q) (hcs : cells + mc ≤ R.cells ∧ slots + ms ≤ R.slots) (hrv : ∃ cell : Cell, H[b]? = some cell ∧ cell.vm.isStatics = false ∧ s.vm.findClass C = some cell.cls) (hls : lv_has ls nL lv) (hR : Nat.ble (fr' + 1) fr = true ∧ Nat.ble (8 + (maxL + 11) + lo') lo = true) (hst : st0 = As.reverse ++ .ref b :: rest) (hlen : As.length = n) (hW : (rest.map fun v => v.category).sum ≤ 8) (hd : decode cc pc = .ok (.invokevirtual index, 3))
    (kk : ∀ (u : S) (H1 : Heap) (locs1 : List Loc), post u → va_P (gD g) Cl (wr ++ W1 u) H1 → va_D A (wr ++ W1 u) → va_S A s.heap H1 locs1 → H.size ≤ H1.size → (∀ q : Nat, q < H.size → ¬ va_A wc H.size q → H1[q]? = H[q]?) → W p l e R s m args below meth c H1 locs1 (cells + mc) (slots + ms) Q (F0 m (pc + 3) ls ((vf u).toList ++ rest))) : W p l e R s m args below meth c H locs cells slots Q (F0 m pc ls st0) := by
  subst hst
  obtain ⟨k1, k2, k3, k4, k5⟩ := hk
  have hF := va_free (wc := wc) hD0 hS hA (List.range wc.length) (ap_C wc wr)
  have hD1 : va_D (fun _ => True) wc := (va_D_app.mp hD0).1.weaken (fun _ _ _ _ => trivial)
  have hpre := mc_pre hg (ap_Pc hP) hD1 (fun U _ hW2 => hg.2 A _ s U _ _ hW2 hS.2.1 hF hE) (.ref b :: As)
  exact mc_backA (va_runV (C := C) (As := As) (rest := rest)  ⟨hx, hb, hml, hown, hts⟩ (hM H.size) (cwV n hts (lw_V hl k1 k2 k3 k4) rfl rfl rfl k5 ⟨Nat.le_trans (Nat.le_of_ble_eq_true hR.1) hf, Nat.le_trans (Nat.le_of_ble_eq_true hR.2) hlo⟩) ⟨hpre.1, hrv, hpre.2⟩ rfl hlen hls.1 rfl (lv_room hW) hd hcs) hP hD0 hS hA kk
theorem mcIA {b : Nat}  (hM : MM l y bytes maxL none fr' lo' mc ms (.ref b :: As) g E wc vf post W1) (hk : hkI y bytes maxL n) (hl : Cond.methodLink own index y ∈ lw_all) (hx : p.tables.exec = Jvm.exec) (hb : c.code = cc) (hml : c.maxLocals = nL) (hown : s.vm.findClass own = some m.cls) (hts : ∀ w ∈ lw_all, w.before args s = true) (hf : fr ≤ R.frames) (hlo : lo ≤ R.locals) (hg : hGo E) (hE : E A s s.heap) (hS : va_S A s.heap H locs)
    (hP : va_P (gD g) Cl (wc ++ wr) H) (hD0 : va_D A (wc ++ wr)) (hA : ∀ q : Nat, s.heap.size ≤ q → A q) (hcs : cells + mc ≤ R.cells ∧ slots + ms ≤ R.slots)  (hls : lv_has ls nL lv) (hR : Nat.ble (fr' + 1) fr = true ∧ Nat.ble (8 + (maxL + 11) + lo') lo = true) (hst : st0 = As.reverse ++ .ref b :: rest) (hlen : As.length = n) (hW : (rest.map fun v => v.category).sum ≤ 8) (hd : decode cc pc = .ok (.invokespecial index, 3))
    (kk : ∀ (u : S) (H1 : Heap) (locs1 : List Loc), post u → va_P (gD g) Cl (wr ++ W1 u) H1 → va_D A (wr ++ W1 u) → va_S A s.heap H1 locs1 → H.size ≤ H1.size → (∀ q : Nat, q < H.size → ¬ va_A wc H.size q → H1[q]? = H[q]?) → W p l e R s m args below meth c H1 locs1 (cells + mc) (slots + ms) Q (F0 m (pc + 3) ls ((vf u).toList ++ rest))) : W p l e R s m args below meth c H locs cells slots Q (F0 m pc ls st0) := by
  subst hst
  obtain ⟨k1, k2, k3, k4, k5⟩ := hk
  have hF := va_free (wc := wc) hD0 hS hA (List.range wc.length) (ap_C wc wr)
  have hD1 : va_D (fun _ => True) wc := (va_D_app.mp hD0).1.weaken (fun _ _ _ _ => trivial)
  have hpre := mc_pre hg (ap_Pc hP) hD1 (fun U _ hW2 => hg.2 A _ s U _ _ hW2 hS.2.1 hF hE) (.ref b :: As)
  exact mc_backA (va_runI (As := As) (rest := rest)  ⟨hx, hb, hml, hown, hts⟩ (hM H.size) (cwI n hts (lw_meth k3) rfl rfl rfl (hts _ k2) (hts _ hl) (hts _ k1) k4 k5 ⟨Nat.le_trans (Nat.le_of_ble_eq_true hR.1) hf, Nat.le_trans (Nat.le_of_ble_eq_true hR.2) hlo⟩) hpre rfl hlen hls.1 rfl (lv_room hW) hd hcs) hP hD0 hS hA kk
theorem mcFA {b : Nat} {x : MethodName} {cC : ClassId} {count : Nat} (hat : ClassAt s C cC) (hM : MM l y bytes maxL ret fr' lo' mc ms (.ref b :: As) g E wc vf post W1) (hk : hkF C x y bytes maxL ret n) (hFw : va_Fw C x y s) (hl : Cond.methodLink own index x ∈ lw_all) (hx : p.tables.exec = Jvm.exec) (hb : c.code = cc) (hml : c.maxLocals = nL) (hown : s.vm.findClass own = some m.cls) (hts : ∀ w ∈ lw_all, w.before args s = true) (hf : fr ≤ R.frames) (hlo : lo ≤ R.locals) (hg : hGo E) (hE : E A s s.heap) (hS : va_S A s.heap H locs)
    (hP : va_P (gD g) Cl (wc ++ wr) H) (hD0 : va_D A (wc ++ wr)) (hA : ∀ q : Nat, s.heap.size ≤ q → A q) (hcs : cells + mc ≤ R.cells ∧ slots + ms ≤ R.slots) (hrv : ∃ cell : Cell, H[b]? = some cell ∧ cell.vm.isStatics = false ∧ s.vm.findClass C = some cell.cls) (hls : lv_has ls nL lv) (hR : Nat.ble (fr' + 1) fr = true ∧ Nat.ble (8 + (maxL + 11) + lo') lo = true) (hst : st0 = As.reverse ++ .ref b :: rest) (hlen : As.length = n) (hW : (rest.map fun v => v.category).sum ≤ 8) (hd : decode cc pc = .ok (.invokeinterface index count, 5))
    (kk : ∀ (u : S) (H1 : Heap) (locs1 : List Loc), post u → va_P (gD g) Cl (wr ++ W1 u) H1 → va_D A (wr ++ W1 u) → va_S A s.heap H1 locs1 → H.size ≤ H1.size → (∀ q : Nat, q < H.size → ¬ va_A wc H.size q → H1[q]? = H[q]?) → W p l e R s m args below meth c H1 locs1 (cells + mc) (slots + ms) Q (F0 m (pc + 5) ls ((vf u).toList ++ rest))) : W p l e R s m args below meth c H locs cells slots Q (F0 m pc ls st0) := by
  subst hst
  obtain ⟨k1, k2, k3, k4, k5⟩ := hk
  have hF := va_free (wc := wc) hD0 hS hA (List.range wc.length) (ap_C wc wr)
  have hD1 : va_D (fun _ => True) wc := (va_D_app.mp hD0).1.weaken (fun _ _ _ _ => trivial)
  have hpre := mc_pre hg (ap_Pc hP) hD1 (fun U _ hW2 => hg.2 A _ s U _ _ hW2 hS.2.1 hF hE) (.ref b :: As)
  exact mc_backA5 (va_runF (C := C) (As := As) (rest := rest) hat ⟨hx, hb, hml, hown, hts⟩ (hM H.size) (va_cwF n hts (lw_F hl k1 k2 k3 k4) rfl rfl rfl hFw k5 ⟨Nat.le_trans (Nat.le_of_ble_eq_true hR.1) hf, Nat.le_trans (Nat.le_of_ble_eq_true hR.2) hlo⟩) ⟨hpre.1, hrv, hpre.2⟩ rfl hlen hls.1 rfl (lv_room hW) hd hcs) hP hD0 hS hA kk
theorem mcSNA  (hM : MM l y bytes maxL ret fr' lo' mc ms As g E wc vf post W1) (hk : hkS y bytes maxL ret n) (hln : va_Nw (.methodLinkNest own index y host) s) (hx : p.tables.exec = Jvm.exec) (hb : c.code = cc) (hml : c.maxLocals = nL) (hown : s.vm.findClass own = some m.cls) (hts : ∀ w ∈ lw_all, w.before args s = true) (hf : fr ≤ R.frames) (hlo : lo ≤ R.locals) (hg : hGo E) (hE : E A s s.heap) (hS : va_S A s.heap H locs)
    (hP : va_P (gD g) Cl (wc ++ wr) H) (hD0 : va_D A (wc ++ wr)) (hA : ∀ q : Nat, s.heap.size ≤ q → A q) (hcs : cells + mc ≤ R.cells ∧ slots + ms ≤ R.slots)  (hls : lv_has ls nL lv) (hR : Nat.ble (fr' + 1) fr = true ∧ Nat.ble (8 + (maxL + 11) + lo') lo = true) (hst : st0 = As.reverse ++ rest) (hlen : As.length = n) (hW : (rest.map fun v => v.category).sum ≤ 8) (hd : decode cc pc = .ok (.invokestatic index, 3))
    (kk : ∀ (u : S) (H1 : Heap) (locs1 : List Loc), post u → va_P (gD g) Cl (wr ++ W1 u) H1 → va_D A (wr ++ W1 u) → va_S A s.heap H1 locs1 → H.size ≤ H1.size → (∀ q : Nat, q < H.size → ¬ va_A wc H.size q → H1[q]? = H[q]?) → W p l e R s m args below meth c H1 locs1 (cells + mc) (slots + ms) Q (F0 m (pc + 3) ls ((vf u).toList ++ rest))) : W p l e R s m args below meth c H locs cells slots Q (F0 m pc ls st0) := by
  subst hst
  obtain ⟨k1, k2, k3, k4⟩ := hk
  have hF := va_free (wc := wc) hD0 hS hA (List.range wc.length) (ap_C wc wr)
  have hD1 : va_D (fun _ => True) wc := (va_D_app.mp hD0).1.weaken (fun _ _ _ _ => trivial)
  have hpre := mc_pre hg (ap_Pc hP) hD1 (fun U _ hW2 => hg.2 A _ s U _ _ hW2 hS.2.1 hF hE) As
  exact mc_backA (va_runSN (As := As) (rest := rest)  ⟨hx, hb, hml, hown, hts⟩ (hM H.size) ⟨va_cnB n hts (lw_meth k3) rfl rfl rfl hln (hts _ k2) k4 ⟨Nat.le_trans (Nat.le_of_ble_eq_true hR.1) hf, Nat.le_trans (Nat.le_of_ble_eq_true hR.2) hlo⟩, hts _ k1, trivial⟩ hpre rfl hlen hls.1 rfl (lv_room hW) hd hcs) hP hD0 hS hA kk
theorem mcVNA {b : Nat}  (hM : MM l y bytes maxL ret fr' lo' mc ms (.ref b :: As) g E wc vf post W1) (hk : hkV C y bytes maxL ret n) (hln : va_Nw (.methodLinkNest own index y host) s) (hx : p.tables.exec = Jvm.exec) (hb : c.code = cc) (hml : c.maxLocals = nL) (hown : s.vm.findClass own = some m.cls) (hts : ∀ w ∈ lw_all, w.before args s = true) (hf : fr ≤ R.frames) (hlo : lo ≤ R.locals) (hg : hGo E) (hE : E A s s.heap) (hS : va_S A s.heap H locs)
    (hP : va_P (gD g) Cl (wc ++ wr) H) (hD0 : va_D A (wc ++ wr)) (hA : ∀ q : Nat, s.heap.size ≤ q → A q) (hcs : cells + mc ≤ R.cells ∧ slots + ms ≤ R.slots) (hrv : ∃ cell : Cell, H[b]? = some cell ∧ cell.vm.isStatics = false ∧ s.vm.findClass C = some cell.cls) (hls : lv_has ls nL lv) (hR : Nat.ble (fr' + 1) fr = true ∧ Nat.ble (8 + (maxL + 11) + lo') lo = true) (hst : st0 = As.reverse ++ .ref b :: rest) (hlen : As.length = n) (hW : (rest.map fun v => v.category).sum ≤ 8) (hd : decode cc pc = .ok (.invokevirtual index, 3))
    (kk : ∀ (u : S) (H1 : Heap) (locs1 : List Loc), post u → va_P (gD g) Cl (wr ++ W1 u) H1 → va_D A (wr ++ W1 u) → va_S A s.heap H1 locs1 → H.size ≤ H1.size → (∀ q : Nat, q < H.size → ¬ va_A wc H.size q → H1[q]? = H[q]?) → W p l e R s m args below meth c H1 locs1 (cells + mc) (slots + ms) Q (F0 m (pc + 3) ls ((vf u).toList ++ rest))) : W p l e R s m args below meth c H locs cells slots Q (F0 m pc ls st0) := by
  subst hst
  obtain ⟨k1, k2, k3, k4, k9, k5⟩ := hk
  have hF := va_free (wc := wc) hD0 hS hA (List.range wc.length) (ap_C wc wr)
  have hD1 : va_D (fun _ => True) wc := (va_D_app.mp hD0).1.weaken (fun _ _ _ _ => trivial)
  have hpre := mc_pre hg (ap_Pc hP) hD1 (fun U _ hW2 => hg.2 A _ s U _ _ hW2 hS.2.1 hF hE) (.ref b :: As)
  exact mc_backA (va_runVN (C := C) (As := As) (rest := rest)  ⟨hx, hb, hml, hown, hts⟩ (hM H.size) ⟨va_cnB n hts (lw_meth k4) rfl rfl rfl hln (by rw [k9]; exact hts _ k3) k5 ⟨Nat.le_trans (Nat.le_of_ble_eq_true hR.1) hf, Nat.le_trans (Nat.le_of_ble_eq_true hR.2) hlo⟩, hts _ k1, hts _ k2⟩ ⟨hpre.1, hrv, hpre.2⟩ rfl hlen hls.1 rfl (lv_room hW) hd hcs) hP hD0 hS hA kk
theorem mcINA {b : Nat}  (hM : MM l y bytes maxL none fr' lo' mc ms (.ref b :: As) g E wc vf post W1) (hk : hkI y bytes maxL n) (hln : va_Nw (.methodLinkNest own index y host) s) (hx : p.tables.exec = Jvm.exec) (hb : c.code = cc) (hml : c.maxLocals = nL) (hown : s.vm.findClass own = some m.cls) (hts : ∀ w ∈ lw_all, w.before args s = true) (hf : fr ≤ R.frames) (hlo : lo ≤ R.locals) (hg : hGo E) (hE : E A s s.heap) (hS : va_S A s.heap H locs)
    (hP : va_P (gD g) Cl (wc ++ wr) H) (hD0 : va_D A (wc ++ wr)) (hA : ∀ q : Nat, s.heap.size ≤ q → A q) (hcs : cells + mc ≤ R.cells ∧ slots + ms ≤ R.slots)  (hls : lv_has ls nL lv) (hR : Nat.ble (fr' + 1) fr = true ∧ Nat.ble (8 + (maxL + 11) + lo') lo = true) (hst : st0 = As.reverse ++ .ref b :: rest) (hlen : As.length = n) (hW : (rest.map fun v => v.category).sum ≤ 8) (hd : decode cc pc = .ok (.invokespecial index, 3))
    (kk : ∀ (u : S) (H1 : Heap) (locs1 : List Loc), post u → va_P (gD g) Cl (wr ++ W1 u) H1 → va_D A (wr ++ W1 u) → va_S A s.heap H1 locs1 → H.size ≤ H1.size → (∀ q : Nat, q < H.size → ¬ va_A wc H.size q → H1[q]? = H[q]?) → W p l e R s m args below meth c H1 locs1 (cells + mc) (slots + ms) Q (F0 m (pc + 3) ls ((vf u).toList ++ rest))) : W p l e R s m args below meth c H locs cells slots Q (F0 m pc ls st0) := by
  subst hst
  obtain ⟨k1, k2, k3, k4, k5⟩ := hk
  have hF := va_free (wc := wc) hD0 hS hA (List.range wc.length) (ap_C wc wr)
  have hD1 : va_D (fun _ => True) wc := (va_D_app.mp hD0).1.weaken (fun _ _ _ _ => trivial)
  have hpre := mc_pre hg (ap_Pc hP) hD1 (fun U _ hW2 => hg.2 A _ s U _ _ hW2 hS.2.1 hF hE) (.ref b :: As)
  exact mc_backA (va_runIN (As := As) (rest := rest)  ⟨hx, hb, hml, hown, hts⟩ (hM H.size) ⟨va_cnB n hts (lw_meth k3) rfl rfl rfl hln (hts _ k2) k5 ⟨Nat.le_trans (Nat.le_of_ble_eq_true hR.1) hf, Nat.le_trans (Nat.le_of_ble_eq_true hR.2) hlo⟩, k4, hts _ k1⟩ hpre rfl hlen hls.1 rfl (lv_room hW) hd hcs) hP hD0 hS hA kk
theorem xcS  (hM : XM l y bytes maxL ret fr' lo' mc ms As g E wc vf post W1 pX WX) (hk : hkS y bytes maxL ret n) (hl : Cond.methodLink own index y ∈ lw_all) (hx : p.tables.exec = Jvm.exec) (hb : c.code = cc) (hml : c.maxLocals = nL) (hown : s.vm.findClass own = some m.cls) (hts : ∀ w ∈ lw_all, w.before args s = true) (hf : fr ≤ R.frames) (hlo : lo ≤ R.locals) (hg : hGo E) (hE : E A s s.heap) (hS : va_S A s.heap H locs)
    (hP : va_P (gD g) Cl (wc ++ wr) H) (hD0 : va_D A (wc ++ wr)) (hA : ∀ q : Nat, s.heap.size ≤ q → A q) (hcs : cells + mc ≤ R.cells ∧ slots + ms ≤ R.slots)  (hls : lv_has ls nL lv) (hR : Nat.ble (fr' + 1) fr = true ∧ Nat.ble (8 + (maxL + 11) + lo') lo = true) (hst : st0 = As.reverse ++ rest) (hlen : As.length = n) (hW : (rest.map fun v => v.category).sum ≤ 8) (hd : decode cc pc = .ok (.invokestatic index, 3))
    (kx : ∀ (En : String) (ce : Cell) (q9 : Nat) (u : SX) (H1 : Heap) (locs1 : List Loc), pX En u → va_P (gD g) Cl (wr ++ WX u q9) H1 → va_D A (wr ++ WX u q9) → va_S A s.heap H1 locs1 → H.size ≤ H1.size → (∀ q : Nat, q < H.size → ¬ va_A wc H.size q → H1[q]? = H[q]?) → H1[q9]? = some ce → ce.vm = .none → s.vm.findClass En = some ce.cls → vx_W p l e R s m args below meth c H1 locs1 (cells + mc) (slots + ms) Q (F0 m pc ls rest) q9)
    (kk : ∀ (u : S) (H1 : Heap) (locs1 : List Loc), post u → va_P (gD g) Cl (wr ++ W1 u) H1 → va_D A (wr ++ W1 u) → va_S A s.heap H1 locs1 → H.size ≤ H1.size → (∀ q : Nat, q < H.size → ¬ va_A wc H.size q → H1[q]? = H[q]?) → W p l e R s m args below meth c H1 locs1 (cells + mc) (slots + ms) Q (F0 m (pc + 3) ls ((vf u).toList ++ rest))) : W p l e R s m args below meth c H locs cells slots Q (F0 m pc ls st0) := by
  subst hst
  obtain ⟨k1, k2, k3, k4⟩ := hk
  have hF := va_free (wc := wc) hD0 hS hA (List.range wc.length) (ap_C wc wr)
  have hD1 : va_D (fun _ => True) wc := (va_D_app.mp hD0).1.weaken (fun _ _ _ _ => trivial)
  have hpre := mc_pre hg (ap_Pc hP) hD1 (fun U _ hW2 => hg.2 A _ s U _ _ hW2 hS.2.1 hF hE) As
  exact xc_back (vx_runS (As := As) (rest := rest)  ⟨hx, hb, hml, hown, hts⟩ (hM H.size) (va_cwS n hts (lw_S hl k1 k2 k3) rfl rfl rfl k4 ⟨Nat.le_trans (Nat.le_of_ble_eq_true hR.1) hf, Nat.le_trans (Nat.le_of_ble_eq_true hR.2) hlo⟩) hpre rfl hlen hls.1 rfl (lv_room hW) hd hcs) hP hD0 hS hA kx kk
theorem xcV {b : Nat}  (hM : XM l y bytes maxL ret fr' lo' mc ms (.ref b :: As) g E wc vf post W1 pX WX) (hk : hkV C y bytes maxL ret n) (hl : Cond.methodLink own index y ∈ lw_all) (hx : p.tables.exec = Jvm.exec) (hb : c.code = cc) (hml : c.maxLocals = nL) (hown : s.vm.findClass own = some m.cls) (hts : ∀ w ∈ lw_all, w.before args s = true) (hf : fr ≤ R.frames) (hlo : lo ≤ R.locals) (hg : hGo E) (hE : E A s s.heap) (hS : va_S A s.heap H locs)
    (hP : va_P (gD g) Cl (wc ++ wr) H) (hD0 : va_D A (wc ++ wr)) (hA : ∀ q : Nat, s.heap.size ≤ q → A q) (hcs : cells + mc ≤ R.cells ∧ slots + ms ≤ R.slots) (hrv : ∃ cell : Cell, H[b]? = some cell ∧ cell.vm.isStatics = false ∧ s.vm.findClass C = some cell.cls) (hls : lv_has ls nL lv) (hR : Nat.ble (fr' + 1) fr = true ∧ Nat.ble (8 + (maxL + 11) + lo') lo = true) (hst : st0 = As.reverse ++ .ref b :: rest) (hlen : As.length = n) (hW : (rest.map fun v => v.category).sum ≤ 8) (hd : decode cc pc = .ok (.invokevirtual index, 3))
    (kx : ∀ (En : String) (ce : Cell) (q9 : Nat) (u : SX) (H1 : Heap) (locs1 : List Loc), pX En u → va_P (gD g) Cl (wr ++ WX u q9) H1 → va_D A (wr ++ WX u q9) → va_S A s.heap H1 locs1 → H.size ≤ H1.size → (∀ q : Nat, q < H.size → ¬ va_A wc H.size q → H1[q]? = H[q]?) → H1[q9]? = some ce → ce.vm = .none → s.vm.findClass En = some ce.cls → vx_W p l e R s m args below meth c H1 locs1 (cells + mc) (slots + ms) Q (F0 m pc ls rest) q9)
    (kk : ∀ (u : S) (H1 : Heap) (locs1 : List Loc), post u → va_P (gD g) Cl (wr ++ W1 u) H1 → va_D A (wr ++ W1 u) → va_S A s.heap H1 locs1 → H.size ≤ H1.size → (∀ q : Nat, q < H.size → ¬ va_A wc H.size q → H1[q]? = H[q]?) → W p l e R s m args below meth c H1 locs1 (cells + mc) (slots + ms) Q (F0 m (pc + 3) ls ((vf u).toList ++ rest))) : W p l e R s m args below meth c H locs cells slots Q (F0 m pc ls st0) := by
  subst hst
  obtain ⟨k1, k2, k3, k4, k5⟩ := hk
  have hF := va_free (wc := wc) hD0 hS hA (List.range wc.length) (ap_C wc wr)
  have hD1 : va_D (fun _ => True) wc := (va_D_app.mp hD0).1.weaken (fun _ _ _ _ => trivial)
  have hpre := mc_pre hg (ap_Pc hP) hD1 (fun U _ hW2 => hg.2 A _ s U _ _ hW2 hS.2.1 hF hE) (.ref b :: As)
  exact xc_back (vx_runV (C := C) (As := As) (rest := rest)  ⟨hx, hb, hml, hown, hts⟩ (hM H.size) (cwV n hts (lw_V hl k1 k2 k3 k4) rfl rfl rfl k5 ⟨Nat.le_trans (Nat.le_of_ble_eq_true hR.1) hf, Nat.le_trans (Nat.le_of_ble_eq_true hR.2) hlo⟩) ⟨hpre.1, hrv, hpre.2⟩ rfl hlen hls.1 rfl (lv_room hW) hd hcs) hP hD0 hS hA kx kk
theorem xcF {b : Nat} {x : MethodName} {cC : ClassId} {count : Nat} (hat : ClassAt s C cC) (hM : XM l y bytes maxL ret fr' lo' mc ms (.ref b :: As) g E wc vf post W1 pX WX) (hk : hkF C x y bytes maxL ret n) (hFw : va_Fw C x y s) (hl : Cond.methodLink own index x ∈ lw_all) (hx : p.tables.exec = Jvm.exec) (hb : c.code = cc) (hml : c.maxLocals = nL) (hown : s.vm.findClass own = some m.cls) (hts : ∀ w ∈ lw_all, w.before args s = true) (hf : fr ≤ R.frames) (hlo : lo ≤ R.locals) (hg : hGo E) (hE : E A s s.heap) (hS : va_S A s.heap H locs)
    (hP : va_P (gD g) Cl (wc ++ wr) H) (hD0 : va_D A (wc ++ wr)) (hA : ∀ q : Nat, s.heap.size ≤ q → A q) (hcs : cells + mc ≤ R.cells ∧ slots + ms ≤ R.slots) (hrv : ∃ cell : Cell, H[b]? = some cell ∧ cell.vm.isStatics = false ∧ s.vm.findClass C = some cell.cls) (hls : lv_has ls nL lv) (hR : Nat.ble (fr' + 1) fr = true ∧ Nat.ble (8 + (maxL + 11) + lo') lo = true) (hst : st0 = As.reverse ++ .ref b :: rest) (hlen : As.length = n) (hW : (rest.map fun v => v.category).sum ≤ 8) (hd : decode cc pc = .ok (.invokeinterface index count, 5))
    (kx : ∀ (En : String) (ce : Cell) (q9 : Nat) (u : SX) (H1 : Heap) (locs1 : List Loc), pX En u → va_P (gD g) Cl (wr ++ WX u q9) H1 → va_D A (wr ++ WX u q9) → va_S A s.heap H1 locs1 → H.size ≤ H1.size → (∀ q : Nat, q < H.size → ¬ va_A wc H.size q → H1[q]? = H[q]?) → H1[q9]? = some ce → ce.vm = .none → s.vm.findClass En = some ce.cls → vx_W p l e R s m args below meth c H1 locs1 (cells + mc) (slots + ms) Q (F0 m pc ls rest) q9)
    (kk : ∀ (u : S) (H1 : Heap) (locs1 : List Loc), post u → va_P (gD g) Cl (wr ++ W1 u) H1 → va_D A (wr ++ W1 u) → va_S A s.heap H1 locs1 → H.size ≤ H1.size → (∀ q : Nat, q < H.size → ¬ va_A wc H.size q → H1[q]? = H[q]?) → W p l e R s m args below meth c H1 locs1 (cells + mc) (slots + ms) Q (F0 m (pc + 5) ls ((vf u).toList ++ rest))) : W p l e R s m args below meth c H locs cells slots Q (F0 m pc ls st0) := by
  subst hst
  obtain ⟨k1, k2, k3, k4, k5⟩ := hk
  have hF := va_free (wc := wc) hD0 hS hA (List.range wc.length) (ap_C wc wr)
  have hD1 : va_D (fun _ => True) wc := (va_D_app.mp hD0).1.weaken (fun _ _ _ _ => trivial)
  have hpre := mc_pre hg (ap_Pc hP) hD1 (fun U _ hW2 => hg.2 A _ s U _ _ hW2 hS.2.1 hF hE) (.ref b :: As)
  exact xc_back5 (vx_runF (C := C) (As := As) (rest := rest) hat ⟨hx, hb, hml, hown, hts⟩ (hM H.size) (va_cwF n hts (lw_F hl k1 k2 k3 k4) rfl rfl rfl hFw k5 ⟨Nat.le_trans (Nat.le_of_ble_eq_true hR.1) hf, Nat.le_trans (Nat.le_of_ble_eq_true hR.2) hlo⟩) ⟨hpre.1, hrv, hpre.2⟩ rfl hlen hls.1 rfl (lv_room hW) hd hcs) hP hD0 hS hA kx kk
theorem xcSN  (hM : XM l y bytes maxL ret fr' lo' mc ms As g E wc vf post W1 pX WX) (hk : hkS y bytes maxL ret n) (hln : va_Nw (.methodLinkNest own index y host) s) (hx : p.tables.exec = Jvm.exec) (hb : c.code = cc) (hml : c.maxLocals = nL) (hown : s.vm.findClass own = some m.cls) (hts : ∀ w ∈ lw_all, w.before args s = true) (hf : fr ≤ R.frames) (hlo : lo ≤ R.locals) (hg : hGo E) (hE : E A s s.heap) (hS : va_S A s.heap H locs)
    (hP : va_P (gD g) Cl (wc ++ wr) H) (hD0 : va_D A (wc ++ wr)) (hA : ∀ q : Nat, s.heap.size ≤ q → A q) (hcs : cells + mc ≤ R.cells ∧ slots + ms ≤ R.slots)  (hls : lv_has ls nL lv) (hR : Nat.ble (fr' + 1) fr = true ∧ Nat.ble (8 + (maxL + 11) + lo') lo = true) (hst : st0 = As.reverse ++ rest) (hlen : As.length = n) (hW : (rest.map fun v => v.category).sum ≤ 8) (hd : decode cc pc = .ok (.invokestatic index, 3))
    (kx : ∀ (En : String) (ce : Cell) (q9 : Nat) (u : SX) (H1 : Heap) (locs1 : List Loc), pX En u → va_P (gD g) Cl (wr ++ WX u q9) H1 → va_D A (wr ++ WX u q9) → va_S A s.heap H1 locs1 → H.size ≤ H1.size → (∀ q : Nat, q < H.size → ¬ va_A wc H.size q → H1[q]? = H[q]?) → H1[q9]? = some ce → ce.vm = .none → s.vm.findClass En = some ce.cls → vx_W p l e R s m args below meth c H1 locs1 (cells + mc) (slots + ms) Q (F0 m pc ls rest) q9)
    (kk : ∀ (u : S) (H1 : Heap) (locs1 : List Loc), post u → va_P (gD g) Cl (wr ++ W1 u) H1 → va_D A (wr ++ W1 u) → va_S A s.heap H1 locs1 → H.size ≤ H1.size → (∀ q : Nat, q < H.size → ¬ va_A wc H.size q → H1[q]? = H[q]?) → W p l e R s m args below meth c H1 locs1 (cells + mc) (slots + ms) Q (F0 m (pc + 3) ls ((vf u).toList ++ rest))) : W p l e R s m args below meth c H locs cells slots Q (F0 m pc ls st0) := by
  subst hst
  obtain ⟨k1, k2, k3, k4⟩ := hk
  have hF := va_free (wc := wc) hD0 hS hA (List.range wc.length) (ap_C wc wr)
  have hD1 : va_D (fun _ => True) wc := (va_D_app.mp hD0).1.weaken (fun _ _ _ _ => trivial)
  have hpre := mc_pre hg (ap_Pc hP) hD1 (fun U _ hW2 => hg.2 A _ s U _ _ hW2 hS.2.1 hF hE) As
  exact xc_back (vx_runSN (As := As) (rest := rest)  ⟨hx, hb, hml, hown, hts⟩ (hM H.size) ⟨va_cnB n hts (lw_meth k3) rfl rfl rfl hln (hts _ k2) k4 ⟨Nat.le_trans (Nat.le_of_ble_eq_true hR.1) hf, Nat.le_trans (Nat.le_of_ble_eq_true hR.2) hlo⟩, hts _ k1, trivial⟩ hpre rfl hlen hls.1 rfl (lv_room hW) hd hcs) hP hD0 hS hA kx kk
theorem xcVN {b : Nat}  (hM : XM l y bytes maxL ret fr' lo' mc ms (.ref b :: As) g E wc vf post W1 pX WX) (hk : hkV C y bytes maxL ret n) (hln : va_Nw (.methodLinkNest own index y host) s) (hx : p.tables.exec = Jvm.exec) (hb : c.code = cc) (hml : c.maxLocals = nL) (hown : s.vm.findClass own = some m.cls) (hts : ∀ w ∈ lw_all, w.before args s = true) (hf : fr ≤ R.frames) (hlo : lo ≤ R.locals) (hg : hGo E) (hE : E A s s.heap) (hS : va_S A s.heap H locs)
    (hP : va_P (gD g) Cl (wc ++ wr) H) (hD0 : va_D A (wc ++ wr)) (hA : ∀ q : Nat, s.heap.size ≤ q → A q) (hcs : cells + mc ≤ R.cells ∧ slots + ms ≤ R.slots) (hrv : ∃ cell : Cell, H[b]? = some cell ∧ cell.vm.isStatics = false ∧ s.vm.findClass C = some cell.cls) (hls : lv_has ls nL lv) (hR : Nat.ble (fr' + 1) fr = true ∧ Nat.ble (8 + (maxL + 11) + lo') lo = true) (hst : st0 = As.reverse ++ .ref b :: rest) (hlen : As.length = n) (hW : (rest.map fun v => v.category).sum ≤ 8) (hd : decode cc pc = .ok (.invokevirtual index, 3))
    (kx : ∀ (En : String) (ce : Cell) (q9 : Nat) (u : SX) (H1 : Heap) (locs1 : List Loc), pX En u → va_P (gD g) Cl (wr ++ WX u q9) H1 → va_D A (wr ++ WX u q9) → va_S A s.heap H1 locs1 → H.size ≤ H1.size → (∀ q : Nat, q < H.size → ¬ va_A wc H.size q → H1[q]? = H[q]?) → H1[q9]? = some ce → ce.vm = .none → s.vm.findClass En = some ce.cls → vx_W p l e R s m args below meth c H1 locs1 (cells + mc) (slots + ms) Q (F0 m pc ls rest) q9)
    (kk : ∀ (u : S) (H1 : Heap) (locs1 : List Loc), post u → va_P (gD g) Cl (wr ++ W1 u) H1 → va_D A (wr ++ W1 u) → va_S A s.heap H1 locs1 → H.size ≤ H1.size → (∀ q : Nat, q < H.size → ¬ va_A wc H.size q → H1[q]? = H[q]?) → W p l e R s m args below meth c H1 locs1 (cells + mc) (slots + ms) Q (F0 m (pc + 3) ls ((vf u).toList ++ rest))) : W p l e R s m args below meth c H locs cells slots Q (F0 m pc ls st0) := by
  subst hst
  obtain ⟨k1, k2, k3, k4, k9, k5⟩ := hk
  have hF := va_free (wc := wc) hD0 hS hA (List.range wc.length) (ap_C wc wr)
  have hD1 : va_D (fun _ => True) wc := (va_D_app.mp hD0).1.weaken (fun _ _ _ _ => trivial)
  have hpre := mc_pre hg (ap_Pc hP) hD1 (fun U _ hW2 => hg.2 A _ s U _ _ hW2 hS.2.1 hF hE) (.ref b :: As)
  exact xc_back (vx_runVN (C := C) (As := As) (rest := rest)  ⟨hx, hb, hml, hown, hts⟩ (hM H.size) ⟨va_cnB n hts (lw_meth k4) rfl rfl rfl hln (by rw [k9]; exact hts _ k3) k5 ⟨Nat.le_trans (Nat.le_of_ble_eq_true hR.1) hf, Nat.le_trans (Nat.le_of_ble_eq_true hR.2) hlo⟩, hts _ k1, hts _ k2⟩ ⟨hpre.1, hrv, hpre.2⟩ rfl hlen hls.1 rfl (lv_room hW) hd hcs) hP hD0 hS hA kx kk
theorem xcSH  (hM : XH l y bytes maxL ret hh fr' lo' mc ms As g E wc vf post W1 pX WX) (hk : hkSH y bytes maxL ret hh n) (hl : Cond.methodLink own index y ∈ lw_all) (hx : p.tables.exec = Jvm.exec) (hb : c.code = cc) (hml : c.maxLocals = nL) (hown : s.vm.findClass own = some m.cls) (hts : ∀ w ∈ lw_all, w.before args s = true) (hf : fr ≤ R.frames) (hlo : lo ≤ R.locals) (hg : hGo E) (hE : E A s s.heap) (hS : va_S A s.heap H locs)
    (hP : va_P (gD g) Cl (wc ++ wr) H) (hD0 : va_D A (wc ++ wr)) (hA : ∀ q : Nat, s.heap.size ≤ q → A q) (hcs : cells + mc ≤ R.cells ∧ slots + ms ≤ R.slots)  (hls : lv_has ls nL lv) (hR : Nat.ble (fr' + 1) fr = true ∧ Nat.ble (8 + (maxL + 11) + lo') lo = true) (hst : st0 = As.reverse ++ rest) (hlen : As.length = n) (hW : (rest.map fun v => v.category).sum ≤ 8) (hd : decode cc pc = .ok (.invokestatic index, 3))
    (kx : ∀ (En : String) (ce : Cell) (q9 : Nat) (u : SX) (H1 : Heap) (locs1 : List Loc), pX En u → va_P (gD g) Cl (wr ++ WX u q9) H1 → va_D A (wr ++ WX u q9) → va_S A s.heap H1 locs1 → H.size ≤ H1.size → (∀ q : Nat, q < H.size → ¬ va_A wc H.size q → H1[q]? = H[q]?) → H1[q9]? = some ce → ce.vm = .none → s.vm.findClass En = some ce.cls → vx_W p l e R s m args below meth c H1 locs1 (cells + mc) (slots + ms) Q (F0 m pc ls rest) q9)
    (kk : ∀ (u : S) (H1 : Heap) (locs1 : List Loc), post u → va_P (gD g) Cl (wr ++ W1 u) H1 → va_D A (wr ++ W1 u) → va_S A s.heap H1 locs1 → H.size ≤ H1.size → (∀ q : Nat, q < H.size → ¬ va_A wc H.size q → H1[q]? = H[q]?) → W p l e R s m args below meth c H1 locs1 (cells + mc) (slots + ms) Q (F0 m (pc + 3) ls ((vf u).toList ++ rest))) : W p l e R s m args below meth c H locs cells slots Q (F0 m pc ls st0) := by
  subst hst
  obtain ⟨k1, k2, k3, k4⟩ := hk
  have hF := va_free (wc := wc) hD0 hS hA (List.range wc.length) (ap_C wc wr)
  have hD1 : va_D (fun _ => True) wc := (va_D_app.mp hD0).1.weaken (fun _ _ _ _ => trivial)
  have hpre := mc_pre hg (ap_Pc hP) hD1 (fun U _ hW2 => hg.2 A _ s U _ _ hW2 hS.2.1 hF hE) As
  exact xc_back (vx_runSX (As := As) (rest := rest)  ⟨hx, hb, hml, hown, hts⟩ (hM H.size) (vx_cwSW n hts (lw_SW hl k1 k2 k3) rfl rfl rfl k4 ⟨Nat.le_trans (Nat.le_of_ble_eq_true hR.1) hf, Nat.le_trans (Nat.le_of_ble_eq_true hR.2) hlo⟩) hpre rfl hlen hls.1 rfl (lv_room hW) hd hcs) hP hD0 hS hA kx kk
theorem xcVH {b : Nat}  (hM : XH l y bytes maxL ret hh fr' lo' mc ms (.ref b :: As) g E wc vf post W1 pX WX) (hk : hkVH C y bytes maxL ret hh n) (hl : Cond.methodLink own index y ∈ lw_all) (hx : p.tables.exec = Jvm.exec) (hb : c.code = cc) (hml : c.maxLocals = nL) (hown : s.vm.findClass own = some m.cls) (hts : ∀ w ∈ lw_all, w.before args s = true) (hf : fr ≤ R.frames) (hlo : lo ≤ R.locals) (hg : hGo E) (hE : E A s s.heap) (hS : va_S A s.heap H locs)
    (hP : va_P (gD g) Cl (wc ++ wr) H) (hD0 : va_D A (wc ++ wr)) (hA : ∀ q : Nat, s.heap.size ≤ q → A q) (hcs : cells + mc ≤ R.cells ∧ slots + ms ≤ R.slots) (hrv : ∃ cell : Cell, H[b]? = some cell ∧ cell.vm.isStatics = false ∧ s.vm.findClass C = some cell.cls) (hls : lv_has ls nL lv) (hR : Nat.ble (fr' + 1) fr = true ∧ Nat.ble (8 + (maxL + 11) + lo') lo = true) (hst : st0 = As.reverse ++ .ref b :: rest) (hlen : As.length = n) (hW : (rest.map fun v => v.category).sum ≤ 8) (hd : decode cc pc = .ok (.invokevirtual index, 3))
    (kx : ∀ (En : String) (ce : Cell) (q9 : Nat) (u : SX) (H1 : Heap) (locs1 : List Loc), pX En u → va_P (gD g) Cl (wr ++ WX u q9) H1 → va_D A (wr ++ WX u q9) → va_S A s.heap H1 locs1 → H.size ≤ H1.size → (∀ q : Nat, q < H.size → ¬ va_A wc H.size q → H1[q]? = H[q]?) → H1[q9]? = some ce → ce.vm = .none → s.vm.findClass En = some ce.cls → vx_W p l e R s m args below meth c H1 locs1 (cells + mc) (slots + ms) Q (F0 m pc ls rest) q9)
    (kk : ∀ (u : S) (H1 : Heap) (locs1 : List Loc), post u → va_P (gD g) Cl (wr ++ W1 u) H1 → va_D A (wr ++ W1 u) → va_S A s.heap H1 locs1 → H.size ≤ H1.size → (∀ q : Nat, q < H.size → ¬ va_A wc H.size q → H1[q]? = H[q]?) → W p l e R s m args below meth c H1 locs1 (cells + mc) (slots + ms) Q (F0 m (pc + 3) ls ((vf u).toList ++ rest))) : W p l e R s m args below meth c H locs cells slots Q (F0 m pc ls st0) := by
  subst hst
  obtain ⟨k1, k2, k3, k4, k5⟩ := hk
  have hF := va_free (wc := wc) hD0 hS hA (List.range wc.length) (ap_C wc wr)
  have hD1 : va_D (fun _ => True) wc := (va_D_app.mp hD0).1.weaken (fun _ _ _ _ => trivial)
  have hpre := mc_pre hg (ap_Pc hP) hD1 (fun U _ hW2 => hg.2 A _ s U _ _ hW2 hS.2.1 hF hE) (.ref b :: As)
  exact xc_back (vx_runVX (C := C) (As := As) (rest := rest)  ⟨hx, hb, hml, hown, hts⟩ (hM H.size) (vx_cwVW n hts (lw_VW hl k1 k2 k3 k4) rfl rfl rfl k5 ⟨Nat.le_trans (Nat.le_of_ble_eq_true hR.1) hf, Nat.le_trans (Nat.le_of_ble_eq_true hR.2) hlo⟩) ⟨hpre.1, hrv, hpre.2⟩ rfl hlen hls.1 rfl (lv_room hW) hd hcs) hP hD0 hS hA kx kk
end HCALLX
section HEXX
variable {p : Program} {l : Launch} {e : Env} {R : Room} {s : State} {m : MethodId} {args : Array Value} {below : List Frame} {meth : Method} {c : Code} {H : Heap} {locs : List Loc} {cells slots : Nat} {Q : State → Prop}
variable {cc : ByteArray} {pc : Nat} {ls : Array Slot} {rest st0 st1 : List Value} {g : hG} {E : hEnv} {A : Nat → Prop} {mc ms : Nat} {Qc : Array Value → State → Outcome → State → Prop} {SX : Type} {pX : String → SX → Prop} {WX : SX → Nat → va_W}
/-- what is thrown leaves the method -/
theorem hx_out {En : String} {ce : Cell} {q : Nat} (hout : ∀ x ∈ c.exceptionTable.toList, covers x pc = false) (hlk : meth.locks = false) (hc9 : H[q]? = some ce) (hv9 : ce.vm = .none) (hcl9 : s.vm.findClass En = some ce.cls) (u : SX) (hp : pX En u) (hP : va_P (gD g) Cl (WX u q) H) (hD : va_D A (WX u q)) (hS : va_S A s.heap H locs) (hc : cells ≤ mc) (hs : slots ≤ ms) : vx_W p l e R s m args below meth c H locs cells slots (vx_MQ below Qc (fun En q st t => (∃ u : SX, pX En u ∧ va_P (gD g) Cl (WX u q) t.heap ∧ va_D A (WX u q)) ∧ va_F A st t) args s mc ms A) (F0 m pc ls rest) q :=
  vx_out hout hlk hc9 hv9 hcl9 (fun t ht _ => ⟨⟨u, hp, by rw [ht]; exact hP, hD⟩, hS.F ht⟩) hS.2.2 hc hs
end HEXX
