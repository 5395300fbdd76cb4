/-! LAYER: uniform contracts (RM: reads only, one answer; MM: changes its world, answers) and one row a call -/
set_option maxRecDepth 100000
/-- the classes whose objects the worlds hold -/
abbrev Cl : List vw_C := [(RX4, TX4, 21), (RX1, TX1, 8), (RX2, TX2, 14), (RX3, TX3, 2), (RX5, TX5, 2), (RX6, TX6, 7), (RX7, TX7, 1), (RX8, TX8, 4), (RX9, TX9, 4), (RX10, TX10, 8), (RX11, TX11, 1), (RX12, TX12, 2), (RX13, TX13, 7), (RJ2, TJ2, 3), (RJ3, TJ3, 3), (RJ5, TJ5, 4), (RJ6, TJ6, 4), (RJ19, TJ19, 1), (RJ27, TJ27, 4), (RJ22, TJ22, 0)]
/-- the classes' and arrays' numbers, addresses of what is read only -/
abbrev hG : Type := (Nat → ClassId) × (Nat → Nat → Nat) × (Nat → ClassId) × (Nat → Nat)
abbrev gD (g : hG) : va_G := (g.1, g.2.1)
abbrev gA (g : hG) (k : Nat) : Nat := g.2.2.2 k
abbrev gTy (g : hG) : List (ClassId × FieldType) := [(g.2.2.1 0, .int), (g.2.2.1 1, .byte), (g.2.2.1 2, .long), (g.2.2.1 3, .double), (g.2.2.1 4, .object "java/lang/Object"), (g.2.2.1 5, .object "java/lang/String"), (g.2.2.1 6, .object "java/lang/Integer")]
abbrev hEnv : Type := (Nat → Prop) → State → Heap → Prop
/-- an environment that survives: other tables of the same kind, a heap that differs on the method's own cells alone, fewer cells of its own -/
def hGo (E : hEnv) : Prop := (∀ (A : Nat → Prop) (u U : State) (H : Heap), U.vm = u.vm → E A u H → E A U H) ∧
  ∀ (A B : Nat → Prop) (s U : State) (H0 H : Heap), s.WarmedH U.vm → (∀ q : Nat, q < H0.size → ¬ A q → H[q]? = H0[q]?) → (∀ q, B q → A q) → E A s H0 → E B U H
/-- a method that reads only: one answer, the heap as it was -/
def RM (l : Launch) (y : MethodName) (cc : ByteArray) (L : Nat) (ret : Option FieldType) (fr lo : Nat) (av : List Value) (g : hG) (E : hEnv) (ws : va_W) (v : Option Value) : Prop :=
  Met l y (ws_ y cc L ret) ({ frames := fr, cells := 0, slots := 0, locals := lo }) (va_Pc av (fun U => va_P (gD g) Cl ws U.heap ∧ E (fun _ => False) U U.heap)) (fun _ st o t => o = .returned v ∧ t.heap = st.heap) 0 0 (fun _ => False)
/-- a method that changes its world -/
def MM (l : Launch) (y : MethodName) (cc : ByteArray) (L : Nat) (ret : Option FieldType) (fr lo mc ms : Nat) (av : List Value) (g : hG) (E : hEnv) (ws : va_W) {S : Type} (vf : S → Option Value) (post : S → Prop) (W1 : S → va_W) : Prop :=
  ∀ sz : Nat, Met l y (ws_ y cc L ret) ({ frames := fr, cells := mc, slots := ms, locals := lo }) (va_Pc av (fun U => U.heap.size = sz ∧ va_P (gD g) Cl ws U.heap ∧ va_D (fun _ => True) ws ∧ E (va_A ws sz) U U.heap))
    (fun _ st o t => (∃ u : S, o = .returned (vf u) ∧ post u ∧ va_P (gD g) Cl (W1 u) t.heap ∧ va_D (va_A ws sz) (W1 u)) ∧ va_F (va_A ws sz) st t) mc ms (va_A ws sz)
/-- what a body's walk starts from -/
abbrev hX (p : Program) (l : Launch) (R : Room) (s : State) (m : MethodId) (args : Array Value) (meth : Method) (c : Code) (y : MethodName) (cc : ByteArray) (L : Nat) (ret : Option FieldType) (fr lo : Nat) : Prop :=
  p.tables.exec = Jvm.exec ∧ c.code = cc ∧ meth.sig.returnType = ret ∧ meth.locks = false ∧ c.maxLocals = L ∧ s.vm.findClass y.cls = some m.cls ∧ (∀ w ∈ lw_all, w.before args s = true) ∧ fr ≤ R.frames ∧ lo ≤ R.locals
theorem RM.mk {l : Launch} {y : MethodName} {cc : ByteArray} {L : Nat} {ret : Option FieldType} {fr lo : Nat} {av : List Value} {g : hG} {E : hEnv} {ws : va_W} {v : Option Value} (hpn : plainName y.cls = true) (hn : (lg_sl av).length ≤ L)
    (body : ∀ (p : Program) (e : Env) (R : Room) (s : State) (m : MethodId) (args : Array Value) (below : List Frame) (meth : Method) (c : Code) (Q : State → Prop) (ls : Array Slot),
      hX p l R s m args meth c y cc L ret fr lo → va_P (gD g) Cl ws s.heap → E (fun _ => False) s s.heap → va_S (fun _ => False) s.heap s.heap [] → lv_has ls L (lv_args 0 av) →
      Q = MQ below (fun _ st o t => o = .returned v ∧ t.heap = st.heap) args s 0 0 (fun _ => False) → W p l e R s m args below meth c s.heap [] 0 0 Q (F0 m 0 ls [])) : RM l y cc L ret fr lo av g E ws v := by
  refine Met.ofW (cc := cc) (maxL := L) (ret := ret) hpn rfl ?_
  intro p e s m args below meth c s₁ B hml hv
  obtain ⟨rfl, hP, hE⟩ := hv
  have hts := atoms_spec (ws := ws_ y cc L ret) B.pre
  have hl := lv_entry av (n := L) hn
  rw [lg_entry_eq]
  exact body p e _ s m _ below meth c _ _ ⟨B.exec, B.bytes, B.returns, B.notSynchronized, hml, findClass_of_methodNamed B.named, fun w h => hts w (List.mem_cons_of_mem _ h), Nat.le_refl _, Nat.le_refl _⟩ hP hE va_S.rf hl rfl
theorem MM.mk {l : Launch} {y : MethodName} {cc : ByteArray} {L : Nat} {ret : Option FieldType} {fr lo mc ms : Nat} {av : List Value} {g : hG} {E : hEnv} {ws : va_W} {S : Type} {vf : S → Option Value} {post : S → Prop} {W1 : S → va_W} (hpn : plainName y.cls = true) (hn : (lg_sl av).length ≤ L)
    (body : ∀ (p : Program) (e : Env) (R : Room) (s : State) (m : MethodId) (args : Array Value) (below : List Frame) (meth : Method) (c : Code) (Q : State → Prop) (A : Nat → Prop) (H : Heap) (locs : List Loc) (ls : Array Slot),
      hX p l R s m args meth c y cc L ret fr lo → mc ≤ R.cells → ms ≤ R.slots → va_P (gD g) Cl ws H → va_D A ws → E A s s.heap → va_S A s.heap H locs → (∀ q : Nat, s.heap.size ≤ q → A q) → meth.name = y.name → lv_has ls L (lv_args 0 av) →
      Q = MQ below (fun _ st o t => (∃ u : S, o = .returned (vf u) ∧ post u ∧ va_P (gD g) Cl (W1 u) t.heap ∧ va_D A (W1 u)) ∧ va_F A st t) args s mc ms A → W p l e R s m args below meth c H locs 0 0 Q (F0 m 0 ls [])) : MM l y cc L ret fr lo mc ms av g E ws vf post W1 := by
  intro sz
  refine Met.ofW (cc := cc) (maxL := L) (ret := ret) hpn rfl ?_
  intro p e s m args below meth c s₁ B hml hv
  obtain ⟨rfl, hsz, hP, hD0, hE⟩ := hv
  subst hsz
  have hts := atoms_spec (ws := ws_ y cc L ret) B.pre
  have hl := lv_entry av (n := L) hn
  rw [lg_entry_eq]
  exact body p e _ s m _ below meth c _ _ _ _ _ ⟨B.exec, B.bytes, B.returns, B.notSynchronized, hml, findClass_of_methodNamed B.named, fun w h => hts w (List.mem_cons_of_mem _ h), Nat.le_refl _, Nat.le_refl _⟩ (Nat.le_refl _) (Nat.le_refl _) hP (hD0.self (sz := s.heap.size)) hE va_S.rf (fun q h => Or.inr h) (name_of_methodNamed B.named B.method).1 hl rfl
section HEX
variable {p : Program} {l : Launch} {e : Env} {R : Room} {s : State} {m : MethodId} {args : Array Value} {below : List Frame} {meth : Method} {c : Code} {H : Heap} {locs : List Loc} {cells slots : Nat} {Q : State → Prop}
variable {cc : ByteArray} {pc : Nat} {ls : Array Slot} {rest st0 st1 : List Value} {g : hG} {E : hEnv} {A : Nat → Prop}
/-- ends of a method that reads only -/
theorem hr_i {v : Option Value} {x : Int32} {ty : FieldType} (hQ : Q = MQ below (fun _ st o t => o = .returned v ∧ t.heap = st.heap) args s 0 0 (fun _ => False)) (hx : p.tables.exec = Jvm.exec) (hb : c.code = cc) (hr : meth.sig.returnType = some ty) (hlk : meth.locks = false) (hn : narrow ty (.int x) = .int x) (hv : v = some (.int x)) (hd : decode cc pc = .ok (.ireturn, 1)) : W p l e R s m args below meth c s.heap [] 0 0 Q (F0 m pc ls [.int x]) := by
  subst hQ; subst hv
  exact W.zret (v := x) hx hb hr hn (fun t ht _ => ⟨rfl, ht⟩) (fun q h => nomatch h) hd hlk
theorem hr_v (hQ : Q = MQ below (fun _ st o t => o = .returned none ∧ t.heap = st.heap) args s 0 0 (fun _ => False)) (hx : p.tables.exec = Jvm.exec) (hb : c.code = cc) (hr : meth.sig.returnType = none) (hlk : meth.locks = false) (hd : decode cc pc = .ok (.return_, 1)) : W p l e R s m args below meth c s.heap [] 0 0 Q (F0 m pc ls []) := by
  subst hQ
  exact W.vret hx hb hr (fun t ht _ => ⟨rfl, ht⟩) (fun q h => nomatch h) hd hlk
theorem hr_a {v : Option Value} {x : Value} {rt : FieldType} (hQ : Q = MQ below (fun _ st o t => o = .returned v ∧ t.heap = st.heap) args s 0 0 (fun _ => False)) (hx : p.tables.exec = Jvm.exec) (hb : c.code = cc) (hr : meth.sig.returnType = some rt) (hlk : meth.locks = false) (hrt : (∃ n, rt = .object n) ∨ ∃ t, rt = .array t) (hva : x = .null ∨ ∃ a, x = .ref a) (hv : v = some x) (hd : decode cc pc = .ok (.areturn, 1)) : W p l e R s m args below meth c s.heap [] 0 0 Q (F0 m pc ls [x]) := by
  subst hQ; subst hv
  exact W.aret hx hb hr hrt hva (fun t ht _ => ⟨rfl, ht⟩) (fun q h => nomatch h) hd hlk
variable {S : Type} {vf : S → Option Value} {post : S → Prop} {W1 : S → va_W} {mc ms : Nat}
/-- ends of a method that changes its world -/
theorem hm_i {x : Int32} {ty : FieldType} (hQ : Q = MQ below (fun _ st o t => (∃ u : S, o = .returned (vf u) ∧ post u ∧ va_P (gD g) Cl (W1 u) t.heap ∧ va_D A (W1 u)) ∧ va_F A st t) args s mc ms A) (hx : p.tables.exec = Jvm.exec) (hb : c.code = cc) (hr : meth.sig.returnType = some ty) (hlk : meth.locks = false) (hn : narrow ty (.int x) = .int x) (u : S) (hv : vf u = some (.int x)) (hp : post u) (hP : va_P (gD g) Cl (W1 u) H) (hD : va_D A (W1 u)) (hS : va_S A s.heap H locs) (hc : cells ≤ mc) (hs : slots ≤ ms) (hd : decode cc pc = .ok (.ireturn, 1)) : W p l e R s m args below meth c H locs cells slots Q (F0 m pc ls [.int x]) := by
  subst hQ
  refine W.widen hc hs ?_
  exact W.zret (v := x) hx hb hr hn (fun t ht _ => ⟨⟨u, by rw [hv], hp, by rw [ht]; exact hP, hD⟩, hS.F ht⟩) hS.2.2 hd hlk
theorem hm_v (hQ : Q = MQ below (fun _ st o t => (∃ u : S, o = .returned (vf u) ∧ post u ∧ va_P (gD g) Cl (W1 u) t.heap ∧ va_D A (W1 u)) ∧ va_F A st t) args s mc ms A) (hx : p.tables.exec = Jvm.exec) (hb : c.code = cc) (hr : meth.sig.returnType = none) (hlk : meth.locks = false) (u : S) (hv : vf u = none) (hp : post u) (hP : va_P (gD g) Cl (W1 u) H) (hD : va_D A (W1 u)) (hS : va_S A s.heap H locs) (hc : cells ≤ mc) (hs : slots ≤ ms) (hd : decode cc pc = .ok (.return_, 1)) : W p l e R s m args below meth c H locs cells slots Q (F0 m pc ls []) := by
  subst hQ
  refine W.widen hc hs ?_
  exact W.vret hx hb hr (fun t ht _ => ⟨⟨u, by rw [hv], hp, by rw [ht]; exact hP, hD⟩, hS.F ht⟩) hS.2.2 hd hlk
theorem hm_a {x : Value} {rt : FieldType} (hQ : Q = MQ below (fun _ st o t => (∃ u : S, o = .returned (vf u) ∧ post u ∧ va_P (gD g) Cl (W1 u) t.heap ∧ va_D A (W1 u)) ∧ va_F A st t) args s mc ms A) (hx : p.tables.exec = Jvm.exec) (hb : c.code = cc) (hr : meth.sig.returnType = some rt) (hlk : meth.locks = false) (hrt : (∃ n, rt = .object n) ∨ ∃ t, rt = .array t) (hva : x = .null ∨ ∃ a, x = .ref a) (u : S) (hv : vf u = some x) (hp : post u) (hP : va_P (gD g) Cl (W1 u) H) (hD : va_D A (W1 u)) (hS : va_S A s.heap H locs) (hc : cells ≤ mc) (hs : slots ≤ ms) (hd : decode cc pc = .ok (.areturn, 1)) : W p l e R s m args below meth c H locs cells slots Q (F0 m pc ls [x]) := by
  subst hQ
  refine W.widen hc hs ?_
  exact W.aret hx hb hr hrt hva (fun t ht _ => ⟨⟨u, by rw [hv], hp, by rw [ht]; exact hP, hD⟩, hS.F ht⟩) hS.2.2 hd hlk
end HEX
/-- what the tables say of a method that is called: static, through an object of its class, a constructor -/
def hkS (y : MethodName) (b : ByteArray) (L : Nat) (r : Option FieldType) (n : Nat) : Prop := Cond.static y ∈ lw_all ∧ Cond.initialized y.cls ∈ lw_all ∧ Cond.code y b L r ∈ lw_all ∧ y.cls ≠ "java/lang/invoke/MethodHandle" ∧ y.cls ≠ "java/lang/invoke/VarHandle" ∧ (parseMethodDescriptor y.desc).map (fun d => d.parameters.length) = some n
def hkV (C : String) (y : MethodName) (b : ByteArray) (L : Nat) (r : Option FieldType) (n : Nat) : Prop := Cond.instanceMethod y ∈ lw_all ∧ Cond.selects C y y ∈ lw_all ∧ Cond.initialized C ∈ lw_all ∧ Cond.code y b L r ∈ lw_all ∧ y.cls = C ∧ y.cls ≠ "java/lang/invoke/MethodHandle" ∧ y.cls ≠ "java/lang/invoke/VarHandle" ∧ (parseMethodDescriptor y.desc).map (fun d => d.parameters.length) = some n
def hkI (y : MethodName) (b : ByteArray) (L : Nat) (n : Nat) : Prop := Cond.instanceMethod y ∈ lw_all ∧ Cond.initialized y.cls ∈ lw_all ∧ Cond.code y b L none ∈ lw_all ∧ y.name = "<init>" ∧ y.cls ≠ "java/lang/invoke/MethodHandle" ∧ y.cls ≠ "java/lang/invoke/VarHandle" ∧ (parseMethodDescriptor y.desc).map (fun d => d.parameters.length) = some n
section HCALL
variable {p : Program} {l : Launch} {e : Env} {R : Room} {s : State} {m : MethodId} {args : Array Value} {below : List Frame} {meth : Method} {c : Code} {H : Heap} {locs : List Loc} {cells slots : Nat} {Q : State → Prop}
variable {cc bytes : ByteArray} {pc nL maxL n index fr lo fr' lo' mc ms : Nat} {ls : Array Slot} {rest st0 st1 As : List Value} {g : hG} {E Ec : hEnv} {A : Nat → Prop} {own C : String} {y : MethodName} {ret : Option FieldType} {wc : va_W} {v : Option Value} {lv : List (Nat × Value)}
/-- the callee that reads only comes back -/
theorem hc_back (hr : va_Run p l e R s m args below meth c H locs cells slots 0 0 (F0 m pc ls st0) rest (fun st o t => o = .returned v ∧ t.heap = st.heap) (fun _ => False)) (h1 : v.toList ++ rest = st1) (kk : W p l e R s m args below meth c H locs cells slots Q (F0 m (pc + 3) ls st1)) : W p l e R s m args below meth c H locs cells slots Q (F0 m pc ls st0) := by
  intro T hT X
  obtain ⟨v', st₀, t, T', L, h0, X', hL, e1, -, ⟨hv, hh⟩, st⟩ := hr T hT X
  cases hv
  subst h1
  obtain ⟨t2, a1, b1⟩ := kk T' (by rw [e1, hh, h0]) (Stand.forget X' (fun q h => (hL q h).elim))
  exact ⟨t2, st t2 a1, b1⟩
theorem hc_pre {ws : va_W} (hg : hGo E) (hP : va_P (gD g) Cl ws H) (hE : ∀ U : State, U.heap = H → s.WarmedH U.vm → E (fun _ => False) U H) (av : List Value) : FrameBlind (va_Pc av (fun U => va_P (gD g) Cl ws U.heap ∧ E (fun _ => False) U U.heap)) ∧ ∀ U : State, U.heap = H → s.WarmedH U.vm → va_Pc av (fun U => va_P (gD g) Cl ws U.heap ∧ E (fun _ => False) U U.heap) av.toArray U := by
  refine ⟨fun a U g' mk q => ?_, fun U hU hW => ⟨rfl, by rw [hU]; exact hP, by rw [hU]; exact hE U hU hW⟩⟩
  obtain ⟨q0, q1, q2⟩ := q
  exact ⟨q0, q1, hg.1 _ U (U.calling g' mk a) _ rfl q2⟩
theorem rcS (hC : RM l y bytes maxL ret fr' lo' As g E wc v) (hk : hkS y bytes maxL ret n) (hl : Cond.methodLink own index y ∈ lw_all) (hx : p.tables.exec = Jvm.exec) (hb : c.code = cc) (hml : c.maxLocals = nL) (hown : s.vm.findClass own = some m.cls) (hts : ∀ w ∈ lw_all, w.before args s = true) (hf : fr ≤ R.frames) (hlo : lo ≤ R.locals) (hg : hGo E) (hE : E A s s.heap) (hS : va_S A s.heap H locs)
    (hP : va_P (gD g) Cl wc H) (hcs : cells ≤ R.cells ∧ slots ≤ R.slots) (hls : lv_has ls nL lv) (hR : Nat.ble (fr' + 1) fr = true ∧ Nat.ble (8 + (maxL + 11) + lo') lo = true) (hst : st0 = As.reverse ++ rest) (hlen : As.length = n) (hW : (rest.map fun v => v.category).sum ≤ 8) (h1 : v.toList ++ rest = st1) (hd : decode cc pc = .ok (.invokestatic index, 3))
    (kk : W p l e R s m args below meth c H locs cells slots Q (F0 m (pc + 3) ls st1)) : W p l e R s m args below meth c H locs cells slots Q (F0 m pc ls st0) := by
  subst hst
  obtain ⟨k1, k2, k3, k4⟩ := hk
  exact hc_back (va_runS (As := As) (rest := rest) ⟨hx, hb, hml, hown, hts⟩ hC (va_cwS n hts (lw_S hl k1 k2 k3) rfl rfl rfl k4 ⟨Nat.le_trans (Nat.le_of_ble_eq_true hR.1) hf, Nat.le_trans (Nat.le_of_ble_eq_true hR.2) hlo⟩) (hc_pre hg hP (fun U _ hW2 => hg.2 A _ s U _ _ hW2 hS.2.1 (fun q h => h.elim) hE) As) rfl hlen hls.1 rfl (lv_room hW) hd hcs) h1 kk
theorem rcV {b : Nat} (hC : RM l y bytes maxL ret fr' lo' (.ref b :: As) g E wc v) (hk : hkV C y bytes maxL ret n) (hl : Cond.methodLink own index y ∈ lw_all) (hx : p.tables.exec = Jvm.exec) (hb : c.code = cc) (hml : c.maxLocals = nL) (hown : s.vm.findClass own = some m.cls) (hts : ∀ w ∈ lw_all, w.before args s = true) (hf : fr ≤ R.frames) (hlo : lo ≤ R.locals) (hg : hGo E) (hE : E A s s.heap) (hS : va_S A s.heap H locs)
    (hP : va_P (gD g) Cl wc H) (hrv : ∃ cell : Cell, H[b]? = some cell ∧ cell.vm.isStatics = false ∧ s.vm.findClass C = some cell.cls) (hcs : cells ≤ R.cells ∧ slots ≤ R.slots) (hls : lv_has ls nL lv) (hR : Nat.ble (fr' + 1) fr = true ∧ Nat.ble (8 + (maxL + 11) + lo') lo = true) (hst : st0 = As.reverse ++ .ref b :: rest) (hlen : As.length = n) (hW : (rest.map fun v => v.category).sum ≤ 8) (h1 : v.toList ++ rest = st1) (hd : decode cc pc = .ok (.invokevirtual index, 3))
    (kk : W p l e R s m args below meth c H locs cells slots Q (F0 m (pc + 3) ls st1)) : W p l e R s m args below meth c H locs cells slots Q (F0 m pc ls st0) := by
  subst hst
  obtain ⟨k1, k2, k3, k4, k5⟩ := hk
  have hpre := hc_pre hg hP (fun U _ hW2 => hg.2 A _ s U _ _ hW2 hS.2.1 (fun q h => h.elim) hE) (.ref b :: As)
  exact hc_back (va_runV (C := C) (As := As) (rest := rest) ⟨hx, hb, hml, hown, hts⟩ hC (cwV n hts (lw_V hl k1 k2 k3 k4) rfl rfl rfl k5 ⟨Nat.le_trans (Nat.le_of_ble_eq_true hR.1) hf, Nat.le_trans (Nat.le_of_ble_eq_true hR.2) hlo⟩) ⟨hpre.1, hrv, hpre.2⟩ rfl hlen hls.1 rfl (lv_room hW) hd hcs) h1 kk
variable {S : Type} {vf : S → Option Value} {post : S → Prop} {W1 : S → va_W} {ws wr : va_W}
theorem mc_back (hr : va_Run p l e R s m args below meth c H locs cells slots mc ms (F0 m pc ls st0) rest (fun st o t => (∃ u : S, o = .returned (vf u) ∧ post u ∧ va_P (gD g) Cl (W1 u) t.heap ∧ va_D (va_A wc H.size) (W1 u)) ∧ va_F (va_A wc H.size) st t) (va_A wc H.size))
    (hP : va_P (gD g) Cl ws H) (hD0 : va_D A ws) (hS : va_S A s.heap H locs) (hA : ∀ q : Nat, s.heap.size ≤ q → A q) (isC isR : List Nat) (hC : isC.map (fun i => ws[i]?) = wc.map some) (hR : isR.map (fun i => ws[i]?) = wr.map some) (hn : va_nd isR = true) (hdis : ∀ i ∈ isR, i ∉ isC)
    (kk : ∀ (u : S) (H1 : Heap) (locs1 : List Loc), post u → va_P (gD g) Cl (wr ++ W1 u) H1 → va_D A (wr ++ W1 u) → va_S A s.heap H1 locs1 → H.size ≤ H1.size → (∀ q : Nat, q < H.size → ¬ va_A wc H.size q → H1[q]? = H[q]?) → W p l e R s m args below meth c H1 locs1 (cells + mc) (slots + ms) Q (F0 m (pc + 3) ls ((vf u).toList ++ rest))) : W p l e R s m args below meth c H locs cells slots Q (F0 m pc ls st0) := by
  have hF := va_free (wc := wc) hD0 hS hA isC hC
  intro T hT X
  obtain ⟨v, st₀, t, T', L, h0, X', hL, e1, e2, ⟨⟨u, hv, hp, hP1, hD1⟩, hz, hk⟩, st⟩ := hr T hT X
  cases hv
  rw [h0] at hz hk
  have hkey : ∀ q : Nat, q < H.size → ¬ va_A wc H.size q → T'.heap[q]? = H[q]? := fun q h1 h2 => by rw [e1]; exact hk q h1 h2
  have hj := va_join (A0 := A) (D := gD g) (cl := Cl) (ws := ws) (wc := wc) (wr := wr) (w1 := W1 u) (H := H) (H1 := T'.heap) hP hD0 isC isR hC hR hn hdis hkey hF (by rw [e1]; exact hP1) hD1
  obtain ⟨t2, a1, b1⟩ := kk u T'.heap (locs ++ L) hp hj.1 hj.2
    ⟨Nat.le_trans hS.1 (by rw [e1]; exact hz), fun q h1 h2 => by rw [hkey q (Nat.lt_of_lt_of_le h1 hS.1) (fun z => h2 (hF q z))]; exact hS.2.1 q h1 h2, fun q hq => by
      rcases List.mem_append.mp hq with h | h
      · exact hS.2.2 q h
      · exact hF _ (hL q h)⟩ (by rw [e1]; exact hz) hkey T' rfl X'
  exact ⟨t2, st t2 a1, b1⟩
theorem mc_pre (hg : hGo E) (hP : va_P (gD g) Cl wc H) (hD0 : va_D (fun _ => True) wc) (hE : ∀ U : State, U.heap = H → s.WarmedH U.vm → E (va_A wc H.size) U H) (av : List Value) : FrameBlind (va_Pc av (fun U => U.heap.size = H.size ∧ va_P (gD g) Cl wc U.heap ∧ va_D (fun _ => True) wc ∧ E (va_A wc H.size) U U.heap)) ∧ ∀ U : State, U.heap = H → s.WarmedH U.vm → va_Pc av (fun U => U.heap.size = H.size ∧ va_P (gD g) Cl wc U.heap ∧ va_D (fun _ => True) wc ∧ E (va_A wc H.size) U U.heap) av.toArray U := by
  refine ⟨fun a U g' mk q => ?_, fun U hU hW => ⟨rfl, by rw [hU], by rw [hU]; exact hP, hD0, by rw [hU]; exact hE U hU hW⟩⟩
  obtain ⟨q0, q1, q2, q3, q4⟩ := q
  exact ⟨q0, q1, q2, q3, hg.1 _ U (U.calling g' mk a) _ rfl q4⟩
theorem mc_sub {ws wc : va_W} {H : Heap} (hP : va_P (gD g) Cl ws H) (isC : List Nat) (hC : isC.map (fun i => ws[i]?) = wc.map some) : va_P (gD g) Cl wc H := by
  refine hP.sub isC ?_
  have h2 : (isC.map (fun i => ws[i]?)).filterMap id = wc := by rw [hC, List.filterMap_map]; simp
  rw [List.filterMap_map] at h2
  exact h2
theorem mcS (hM : MM l y bytes maxL ret fr' lo' mc ms As g E wc vf post W1) (hk : hkS y bytes maxL ret n) (hl : Cond.methodLink own index y ∈ lw_all) (hx : p.tables.exec = Jvm.exec) (hb : c.code = cc) (hml : c.maxLocals = nL) (hown : s.vm.findClass own = some m.cls) (hts : ∀ w ∈ lw_all, w.before args s = true) (hf : fr ≤ R.frames) (hlo : lo ≤ R.locals) (hg : hGo E) (hE : E A s s.heap) (hS : va_S A s.heap H locs)
    (hP : va_P (gD g) Cl ws H) (hD0 : va_D A ws) (hA : ∀ q : Nat, s.heap.size ≤ q → A q) (isC isR : List Nat) (hC : isC.map (fun i => ws[i]?) = wc.map some) (hnC : va_nd isC = true) (hRr : isR.map (fun i => ws[i]?) = wr.map some) (hn : va_nd isR = true) (hdis : ∀ i ∈ isR, i ∉ isC) (hcs : cells + mc ≤ R.cells ∧ slots + ms ≤ R.slots) (hls : lv_has ls nL lv) (hR : Nat.ble (fr' + 1) fr = true ∧ Nat.ble (8 + (maxL + 11) + lo') lo = true) (hst : st0 = As.reverse ++ rest) (hlen : As.length = n) (hW : (rest.map fun v => v.category).sum ≤ 8) (hd : decode cc pc = .ok (.invokestatic index, 3))
    (kk : ∀ (u : S) (H1 : Heap) (locs1 : List Loc), post u → va_P (gD g) Cl (wr ++ W1 u) H1 → va_D A (wr ++ W1 u) → va_S A s.heap H1 locs1 → H.size ≤ H1.size → (∀ q : Nat, q < H.size → ¬ va_A wc H.size q → H1[q]? = H[q]?) → W p l e R s m args below meth c H1 locs1 (cells + mc) (slots + ms) Q (F0 m (pc + 3) ls ((vf u).toList ++ rest))) : W p l e R s m args below meth c H locs cells slots Q (F0 m pc ls st0) := by
  subst hst
  obtain ⟨k1, k2, k3, k4⟩ := hk
  have hF := va_free (wc := wc) hD0 hS hA isC hC
  have hD1 : va_D (fun _ => True) wc := (hD0.sub isC hnC hC).weaken (fun _ _ _ _ => trivial)
  have hpre := mc_pre hg (mc_sub hP isC hC) hD1 (fun U _ hW2 => hg.2 A _ s U _ _ hW2 hS.2.1 hF hE) As
  exact mc_back (va_runS (As := As) (rest := rest) ⟨hx, hb, hml, hown, hts⟩ (hM H.size) (va_cwS n hts (lw_S hl k1 k2 k3) rfl rfl rfl k4 ⟨Nat.le_trans (Nat.le_of_ble_eq_true hR.1) hf, Nat.le_trans (Nat.le_of_ble_eq_true hR.2) hlo⟩) hpre rfl hlen hls.1 rfl (lv_room hW) hd hcs) hP hD0 hS hA isC isR hC hRr hn hdis kk
theorem mcV {b : Nat} (hM : MM l y bytes maxL ret fr' lo' mc ms (.ref b :: As) g E wc vf post W1) (hk : hkV C y bytes maxL ret n) (hl : Cond.methodLink own index y ∈ lw_all) (hx : p.tables.exec = Jvm.exec) (hb : c.code = cc) (hml : c.maxLocals = nL) (hown : s.vm.findClass own = some m.cls) (hts : ∀ w ∈ lw_all, w.before args s = true) (hf : fr ≤ R.frames) (hlo : lo ≤ R.locals) (hg : hGo E) (hE : E A s s.heap) (hS : va_S A s.heap H locs)
    (hP : va_P (gD g) Cl ws H) (hD0 : va_D A ws) (hA : ∀ q : Nat, s.heap.size ≤ q → A q) (isC isR : List Nat) (hC : isC.map (fun i => ws[i]?) = wc.map some) (hnC : va_nd isC = true) (hRr : isR.map (fun i => ws[i]?) = wr.map some) (hn : va_nd isR = true) (hdis : ∀ i ∈ isR, i ∉ isC) (hcs : cells + mc ≤ R.cells ∧ slots + ms ≤ R.slots) (hrv : ∃ cell : Cell, H[b]? = some cell ∧ cell.vm.isStatics = false ∧ s.vm.findClass C = some cell.cls) (hls : lv_has ls nL lv) (hR : Nat.ble (fr' + 1) fr = true ∧ Nat.ble (8 + (maxL + 11) + lo') lo = true) (hst : st0 = As.reverse ++ .ref b :: rest) (hlen : As.length = n) (hW : (rest.map fun v => v.category).sum ≤ 8) (hd : decode cc pc = .ok (.invokevirtual index, 3))
    (kk : ∀ (u : S) (H1 : Heap) (locs1 : List Loc), post u → va_P (gD g) Cl (wr ++ W1 u) H1 → va_D A (wr ++ W1 u) → va_S A s.heap H1 locs1 → H.size ≤ H1.size → (∀ q : Nat, q < H.size → ¬ va_A wc H.size q → H1[q]? = H[q]?) → W p l e R s m args below meth c H1 locs1 (cells + mc) (slots + ms) Q (F0 m (pc + 3) ls ((vf u).toList ++ rest))) : W p l e R s m args below meth c H locs cells slots Q (F0 m pc ls st0) := by
  subst hst
  obtain ⟨k1, k2, k3, k4, k5⟩ := hk
  have hF := va_free (wc := wc) hD0 hS hA isC hC
  have hD1 : va_D (fun _ => True) wc := (hD0.sub isC hnC hC).weaken (fun _ _ _ _ => trivial)
  have hpre := mc_pre hg (mc_sub hP isC hC) hD1 (fun U _ hW2 => hg.2 A _ s U _ _ hW2 hS.2.1 hF hE) (.ref b :: As)
  exact mc_back (va_runV (C := C) (As := As) (rest := rest) ⟨hx, hb, hml, hown, hts⟩ (hM H.size) (cwV n hts (lw_V hl k1 k2 k3 k4) rfl rfl rfl k5 ⟨Nat.le_trans (Nat.le_of_ble_eq_true hR.1) hf, Nat.le_trans (Nat.le_of_ble_eq_true hR.2) hlo⟩) ⟨hpre.1, hrv, hpre.2⟩ rfl hlen hls.1 rfl (lv_room hW) hd hcs) hP hD0 hS hA isC isR hC hRr hn hdis kk
theorem mcI {b : Nat} (hM : MM l y bytes maxL none fr' lo' mc ms (.ref b :: As) g E wc vf post W1) (hk : hkI y bytes maxL n) (hl : Cond.methodLink own index y ∈ lw_all) (hx : p.tables.exec = Jvm.exec) (hb : c.code = cc) (hml : c.maxLocals = nL) (hown : s.vm.findClass own = some m.cls) (hts : ∀ w ∈ lw_all, w.before args s = true) (hf : fr ≤ R.frames) (hlo : lo ≤ R.locals) (hg : hGo E) (hE : E A s s.heap) (hS : va_S A s.heap H locs)
    (hP : va_P (gD g) Cl ws H) (hD0 : va_D A ws) (hA : ∀ q : Nat, s.heap.size ≤ q → A q) (isC isR : List Nat) (hC : isC.map (fun i => ws[i]?) = wc.map some) (hnC : va_nd isC = true) (hRr : isR.map (fun i => ws[i]?) = wr.map some) (hn : va_nd isR = true) (hdis : ∀ i ∈ isR, i ∉ isC) (hcs : cells + mc ≤ R.cells ∧ slots + ms ≤ R.slots) (hls : lv_has ls nL lv) (hR : Nat.ble (fr' + 1) fr = true ∧ Nat.ble (8 + (maxL + 11) + lo') lo = true) (hst : st0 = As.reverse ++ .ref b :: rest) (hlen : As.length = n) (hW : (rest.map fun v => v.category).sum ≤ 8) (hd : decode cc pc = .ok (.invokespecial index, 3))
    (kk : ∀ (u : S) (H1 : Heap) (locs1 : List Loc), post u → va_P (gD g) Cl (wr ++ W1 u) H1 → va_D A (wr ++ W1 u) → va_S A s.heap H1 locs1 → H.size ≤ H1.size → (∀ q : Nat, q < H.size → ¬ va_A wc H.size q → H1[q]? = H[q]?) → W p l e R s m args below meth c H1 locs1 (cells + mc) (slots + ms) Q (F0 m (pc + 3) ls ((vf u).toList ++ rest))) : W p l e R s m args below meth c H locs cells slots Q (F0 m pc ls st0) := by
  subst hst
  obtain ⟨k1, k2, k3, k4, k5⟩ := hk
  have hF := va_free (wc := wc) hD0 hS hA isC hC
  have hD1 : va_D (fun _ => True) wc := (hD0.sub isC hnC hC).weaken (fun _ _ _ _ => trivial)
  have hpre := mc_pre hg (mc_sub hP isC hC) hD1 (fun U _ hW2 => hg.2 A _ s U _ _ hW2 hS.2.1 hF hE) (.ref b :: As)
  exact mc_back (va_runI (As := As) (rest := rest) ⟨hx, hb, hml, hown, hts⟩ (hM H.size) (cwI n hts (lw_meth k3) rfl rfl rfl (hts _ k2) (hts _ hl) (hts _ k1) k4 k5 ⟨Nat.le_trans (Nat.le_of_ble_eq_true hR.1) hf, Nat.le_trans (Nat.le_of_ble_eq_true hR.2) hlo⟩) hpre rfl hlen hls.1 rfl (lv_room hW) hd hcs) hP hD0 hS hA isC isR hC hRr hn hdis kk
end HCALL
