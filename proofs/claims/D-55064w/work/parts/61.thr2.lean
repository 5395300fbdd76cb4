/-! THROWING: exceptions of the component's own -/
set_option maxRecDepth 100000
/-- a constructor of such an exception: its object is fresh when it begins -/
def MB (l : Launch) (y : MethodName) (cc : ByteArray) (L : Nat) (fr lo : Nat) (av : List Value) (g : hG) (E : hEnv) (q ci : Nat) (fs : List Value) (W1 : (Nat → Value) → va_W) : Prop :=
  ∀ sz : Nat, Met l y (ws_ y cc L none) ({ frames := fr, cells := 0, slots := 0, locals := lo }) (va_Pc av (fun U => (U.heap.size = sz ∧ va_P (gD g) Cl [(q, .inr (ci, fs))] U.heap ∧ va_D (fun _ => True) [(q, .inr (ci, fs))] ∧ E (va_A [(q, .inr (ci, fs))] sz) U U.heap) ∧ ∃ kC : Class, U.vm.classes[g.1 ci]? = some kC ∧ U.heap[q]? = some (freshCell (g.1 ci) kC)))
    (fun _ st o t => (∃ u : Nat → Value, o = .returned none ∧ True ∧ va_P (gD g) Cl (W1 u) t.heap ∧ va_D (va_A [(q, .inr (ci, fs))] sz) (W1 u)) ∧ va_F (va_A [(q, .inr (ci, fs))] sz) st t) 0 0 (va_A [(q, .inr (ci, fs))] sz)
theorem MB.mk {l : Launch} {y : MethodName} {cc : ByteArray} {L : Nat} {fr lo : Nat} {av : List Value} {g : hG} {E : hEnv} {q ci : Nat} {fs : List Value} {W1 : (Nat → Value) → va_W} (hpn : plainName y.cls = true) (hn : (lg_sl av).length ≤ L)
    (body : ∀ (p : Program) (e : Env) (R : Room) (s : State) (m : MethodId) (args : Array Value) (below : List Frame) (meth : Method) (c : Code) (Q : State → Prop) (A : Nat → Prop) (ls : Array Slot) (kC : Class),
      hX p l R s m args meth c y cc L none fr lo → s.vm.classes[g.1 ci]? = some kC → s.heap[q]? = some (freshCell (g.1 ci) kC) → va_P (gD g) Cl [(q, .inr (ci, fs))] s.heap → va_D A [(q, .inr (ci, fs))] → E A s s.heap → va_S A s.heap s.heap [] → meth.name = y.name → lv_has ls L (lv_args 0 av) →
      Q = MQ below (fun _ st o t => (∃ u : Nat → Value, o = .returned none ∧ True ∧ va_P (gD g) Cl (W1 u) t.heap ∧ va_D A (W1 u)) ∧ va_F A st t) args s 0 0 A → W p l e R s m args below meth c s.heap [] 0 0 Q (F0 m 0 ls [])) : MB l y cc L fr lo av g E q ci fs W1 := by
  intro sz
  refine Met.ofW (cc := cc) (maxL := L) (ret := none) hpn rfl ?_
  intro p e s m args below meth c s₁ B hml hv
  obtain ⟨rfl, ⟨hsz, hP, hD0, hE⟩, kC, hkC, hbl⟩ := hv
  subst hsz
  have hts := atoms_spec (ws := ws_ y cc L none) B.pre
  have hl := lv_entry av (n := L) hn
  rw [lg_entry_eq]
  exact body p e _ s m _ below meth c _ _ _ kC ⟨B.exec, B.bytes, B.returns, B.notSynchronized, hml, findClass_of_methodNamed B.named, fun w h => hts w (List.mem_cons_of_mem _ h), Nat.le_refl _, Nat.le_refl _⟩ hkC hbl hP (hD0.self (sz := s.heap.size)) hE va_S.rf (name_of_methodNamed B.named B.method).1 hl rfl
section HMB
variable {p : Program} {l : Launch} {e : Env} {R : Room} {s : State} {m : MethodId} {args : Array Value} {below : List Frame} {meth : Method} {c : Code} {H : Heap} {locs : List Loc} {cells slots : Nat} {Q : State → Prop}
variable {cc bytes : ByteArray} {pc nL maxL n index fr lo fr' lo' : Nat} {ls : Array Slot} {rest st0 st1 As : List Value} {g : hG} {E : hEnv} {A : Nat → Prop} {own : String} {y : MethodName} {wr : va_W} {lv : List (Nat × Value)} {b ci : Nat} {fs : List Value} {W1 : (Nat → Value) → va_W}
theorem mbI (hM : MB l y bytes maxL fr' lo' (.ref b :: As) g E b ci fs W1) (hk : hkI y bytes maxL n) (hl : Cond.methodLink own index y ∈ lw_all) (hx : p.tables.exec = Jvm.exec) (hb : c.code = cc) (hml : c.maxLocals = nL) (hown : s.vm.findClass own = some m.cls) (hts : ∀ w ∈ lw_all, w.before args s = true) (hf : fr ≤ R.frames) (hlo : lo ≤ R.locals) (hg : hGo E) (hE : E A s s.heap) (hS : va_S A s.heap H locs) {kC : Class} (hkC : s.vm.classes[g.1 ci]? = some kC) (hbl : H[b]? = some (freshCell (g.1 ci) kC))
    (hP : va_P (gD g) Cl ([(b, .inr (ci, fs))] ++ wr) H) (hD0 : va_D A ([(b, .inr (ci, fs))] ++ wr)) (hA : ∀ q : Nat, s.heap.size ≤ q → A q) (hcs : cells + 0 ≤ R.cells ∧ slots + 0 ≤ R.slots) (hls : lv_has ls nL lv) (hR : Nat.ble (fr' + 1) fr = true ∧ Nat.ble (8 + (maxL + 11) + lo') lo = true) (hst : st0 = As.reverse ++ .ref b :: rest) (hlen : As.length = n) (hW : (rest.map fun v => v.category).sum ≤ 8) (hd : decode cc pc = .ok (.invokespecial index, 3))
    (kk : ∀ (u : Nat → Value) (H1 : Heap) (locs1 : List Loc), va_P (gD g) Cl (wr ++ W1 u) H1 → va_D A (wr ++ W1 u) → va_S A s.heap H1 locs1 → W p l e R s m args below meth c H1 locs1 (cells + 0) (slots + 0) Q (F0 m (pc + 3) ls rest)) : W p l e R s m args below meth c H locs cells slots Q (F0 m pc ls st0) := by
  subst hst
  obtain ⟨k1, k2, k3, k4, k5⟩ := hk
  have hF := va_free (wc := [(b, .inr (ci, fs))]) hD0 hS hA [0] rfl
  have hD1 : va_D (fun _ => True) [(b, .inr (ci, fs))] := (va_D_app.mp hD0).1.weaken (fun _ _ _ _ => trivial)
  have hpre := mc_pre hg (ap_Pc hP) hD1 (fun U _ hW2 => hg.2 A _ s U _ _ hW2 hS.2.1 hF hE) (.ref b :: As)
  refine mc_backA (vf := fun _ => none) (post := fun _ => True) (W1 := W1) (va_runI (As := As) (rest := rest) ⟨hx, hb, hml, hown, hts⟩ (hM H.size) (cwI n hts (lw_meth k3) rfl rfl rfl (hts _ k2) (hts _ hl) (hts _ k1) k4 k5 ⟨Nat.le_trans (Nat.le_of_ble_eq_true hR.1) hf, Nat.le_trans (Nat.le_of_ble_eq_true hR.2) hlo⟩) ⟨?_, ?_⟩ rfl hlen hls.1 rfl (lv_room hW) hd hcs) hP hD0 hS hA (fun u H1 locs1 _ a1 a2 a3 _ _ => kk u H1 locs1 a1 a2 a3)
  · intro a U g' mk q
    obtain ⟨z0, z1, z2⟩ := q
    exact ⟨z0, (hpre.1 a U g' mk ⟨z0, z1⟩).2, z2⟩
  · intro U hU hW2
    obtain ⟨z0, z1⟩ := hpre.2 U hU hW2
    refine ⟨z0, z1, ?_⟩
    obtain ⟨k', hk', he⟩ := hW2.alike.2.2 _ _ hkC
    exact ⟨k', hk', by rw [hU, hbl, he]⟩
/-- super() of such a constructor -/
theorem h_sup0 {cls : String} {nf N a : Nat} {T0 : u_T} {kC : Class} (hx : p.tables.exec = Jvm.exec) (hb : c.code = cc) (hst : l.stackTraces = false) (hown : s.vm.findClass cls = some m.cls) (hat : ∀ w ∈ sup0 cls nf, vx_no w = true → w.before args s = true ∧ vx_ot w = true) (hj : jF g A s s.heap) (hc : Cl[ci]? = some (cls, T0, N)) (hkC : s.vm.classes[g.1 ci]? = some kC) (hbl : s.heap[a]? = some (freshCell (g.1 ci) kC)) (hP : va_P (gD g) Cl [(a, .inr (ci, fs))] s.heap) (hD : va_D A [(a, .inr (ci, fs))])
    (hml : c.maxLocals = nL) (hls : lv_has ls nL lv) (hd : decode cc pc = .ok (.invokespecial 1, 3)) (hRf : 3 < R.frames) (hRl : (rest.map fun v => v.category).sum + 60 ≤ R.locals)
    (kk : ∀ (u : Nat → Value) (H1 : Heap) (locs1 : List Loc), va_P (gD g) Cl [(a, .inr (ci, (List.range N).map u))] H1 → va_D A [(a, .inr (ci, (List.range N).map u))] → va_S A s.heap H1 locs1 → W p l e R s m args below meth c H1 locs1 cells slots Q (F0 m (pc + 3) ls rest)) : W p l e R s m args below meth c s.heap [] cells slots Q (F0 m pc ls (.ref a :: rest)) := by
  intro T hT X
  have htr : e.platform.stackTraces = false := (show e.platform.stackTraces = l.stackTraces by rw [X.admits.platform]).trans hst
  have hall : ∀ w ∈ sup0 cls nf, w.before args s = true := vx_own (fun w hw => by
    obtain ⟨h1, h2⟩ := List.mem_filter.mp hw
    exact (hat w h1 h2).1) (vx_isRefq hj.xx.us.1) (vx_isRefq hj.xx.ss.1) hj.xx.us.2.word hj.xx.ss.2.word
  have hKn := hj.kn.1 ci _ hc
  obtain ⟨V, ce, L, Z, hL, hlt, hVh, hcl, hvm, hsz, st⟩ := sup_made X hx htr (cls := cls) (nf := nf) hown hall (fun x hx => nomatch hx) (cX := g.1 ci) (kX := kC) hKn.2.1 hkC (by rw [hT]; exact hbl)
    (g := F0 m pc ls (.ref a :: rest)) rfl (hls.1.trans hml.symm) (rest := rest) rfl (by rw [hb]; exact hd) hRf (by show 2 * 0 + _ + 60 ≤ _; omega)
  obtain ⟨r, h1, cell, q1, q2, q3, q4⟩ := hP 0 _ rfl
  have hr : r = (cls, T0, N) := Option.some.inj (h1.symm.trans hc)
  subst hr
  have hcell : cell = freshCell (g.1 ci) kC := Option.some.inj (q1.symm.trans hbl)
  subst hcell
  have hAa : A a := hD.2 0 _ rfl
  have hH : (V.setCell a ce).heap = s.heap.setIfInBounds a ce := by
    show V.heap.setIfInBounds a ce = _
    rw [hVh, hT]
  have hself : (V.setCell a ce).heap[a]? = some ce := heapAt_setCell_self (s := V) ce hlt
  have hother : ∀ z : Nat, z ≠ a → (V.setCell a ce).heap[z]? = s.heap[z]? := fun z hz => by
    rw [heapAt_setCell_ne (s := V) ce (Ne.symm hz), hVh, hT]
  obtain ⟨t, a1, b1⟩ := kk (fun k => (ce.slots[(gD g).2 ci k]?).getD .null) (V.setCell a ce).heap L (fun k x hx => by
      have hz : k < 1 := (List.getElem?_eq_some_iff.mp hx).1
      rw [show k = 0 by omega] at hx
      cases hx
      refine ⟨_, hc, ce, hself, hcl, hvm, fun k hk => ?_⟩
      have h3 := (Array.getElem?_eq_some_iff.mp (q4 k hk)).1
      rw [← hsz] at h3
      unfold vp_V
      rw [List.getD_eq_getElem?_getD, List.getElem?_map, List.getElem?_range hk]
      show _ = some ((ce.slots[(gD g).2 ci k]?).getD .null)
      rw [Array.getElem?_eq_getElem h3]
      rfl) (fs_D (ws := [(a, .inr (ci, fs))]) rfl hD) ⟨by rw [hH, Array.size_setIfInBounds]; exact Nat.le_refl _, fun z _ hz => hother z (fun e => hz (e ▸ hAa)), fun y hy => by rw [hL y hy]; exact hAa⟩ (V.setCell a ce) rfl (by simpa using Z)
  exact ⟨t, st _ a1, b1⟩
/-- what is thrown is an object of its class -/
theorem h_thrown {D : va_G} {cl : List vw_C} {tys : List (ClassId × FieldType)} {ws : va_W} {a : Nat} {C : String} {T0 : u_T} {N : Nat} (hK : va_K D cl tys s) (hP : va_P D cl ws H) (q0 : Nat) (he : ws[q0]? = some (a, .inr (ci, fs))) (hc : cl[ci]? = some (C, T0, N)) : ∃ ce : Cell, H[a]? = some ce ∧ ce.vm = .none ∧ s.vm.findClass C = some ce.cls := by
  obtain ⟨r, h1, cell, q1, q2, q3, q4⟩ := hP q0 _ he
  exact ⟨cell, q1, q3, by rw [q2]; exact (hK.1 ci _ hc).2.1⟩
end HMB
theorem kX10_init : hkI yX10_init cX10_init 3 2 := ⟨q1105, q97, q1106, rfl, by decide +kernel⟩
set_option maxHeartbeats 4000000 in
theorem jX10_init (l : Launch) (g : hG) (E : hEnv) (ho : jOk g E) (hst : l.stackTraces = false) (q : Nat) (r d : Int32) : MB l yX10_init cX10_init 3 4 70 [.ref q, .int r, .int d] g E q 9 [.null, .null, .null, .null, .null, .int 0, .int 0, .int 0] (fun u => [(q, .inr (9, [u 0, u 1, u 2, u 3, u 4, u 5, .int r, .int d]))]) := by
  refine MB.mk (by decide) (Nat.le_of_ble_eq_true rfl) ?_
  intro p e R s m args below meth c Q A ls kC hX hkC hbl hP hD hE hS hnm hl hQ
  obtain ⟨hx, hb, hr, hlk, hml, hown, hts, hRf, hRl⟩ := hX
  have hown : s.vm.findClass RX10 = some m.cls := hown
  have hj := ho.2 _ _ _ hE
  have hK := hj.kn
  have hl : lv_has ls 3 [(0, .ref q), (1, .int r), (2, .int d)] := hl
  refine lv_aload_n hx hb dX10_init_0 rfl (lv_at hl 0 rfl) ?_
  refine h_sup0 (cls := RX10) (nf := 8) (N := 8) (T0 := TX10) (ci := 9) hx hb hst hown (sup_X10 hts (fun w h1 h2 => hj.tw h1 h2)) hj rfl hkC hbl hP hD hml hl dX10_init_1 (Nat.lt_of_lt_of_le (by decide) hRf) (Nat.le_trans (by decide) hRl) (fun u H locs hP hD hS => ?_)
  have hP : va_P (gD g) Cl [(q, .inr (9, [u 0, u 1, u 2, u 3, u 4, u 5, u 6, u 7]))] H := hP
  have hD : va_D A [(q, .inr (9, [u 0, u 1, u 2, u 3, u 4, u 5, u 6, u 7]))] := hD
  refine lv_aload_n hx hb dX10_init_4 rfl (lv_at hl 0 rfl) ?_
  refine lv_iload_n hx hb dX10_init_5 rfl (lv_at hl 1 rfl) ?_
  refine va_putF (D := gD g) (ci := 9) (v := .int r) (ty := .int) (C := RX10) (T := TX10) (N := 8) hx hb hts in_X10 tyX10 tyX10_ok nmX10 hown hK hP hD hS 0 rfl rfl 6 (by decide) (hts _ q1111) (fun _ h9 => h9) rfl hnm rfl (by decide +kernel) rfl rfl (Nat.le_of_ble_eq_true rfl) dX10_init_6 (fun H locs hP hD hS => ?_)
  have hP : va_P (gD g) Cl [(q, .inr (9, [u 0, u 1, u 2, u 3, u 4, u 5, .int r, u 7]))] H := hP
  have hD : va_D A [(q, .inr (9, [u 0, u 1, u 2, u 3, u 4, u 5, .int r, u 7]))] := hD
  refine lv_aload_n hx hb dX10_init_9 rfl (lv_at hl 0 rfl) ?_
  refine lv_iload_n hx hb dX10_init_10 rfl (lv_at hl 2 rfl) ?_
  refine va_putF (D := gD g) (ci := 9) (v := .int d) (ty := .int) (C := RX10) (T := TX10) (N := 8) hx hb hts in_X10 tyX10 tyX10_ok nmX10 hown hK hP hD hS 0 rfl rfl 7 (by decide) (hts _ q1113) (fun _ h9 => h9) rfl hnm rfl (by decide +kernel) rfl rfl (Nat.le_of_ble_eq_true rfl) dX10_init_11 (fun H locs hP hD hS => ?_)
  exact hm_v hQ hx hb hr hlk u rfl trivial hP hD hS (Nat.le_refl _) (Nat.le_refl _) dX10_init_14
theorem kX13_init : hkI yX13_init cX13_init 2 1 := ⟨q2138, q113, q2139, rfl, by decide +kernel⟩
set_option maxHeartbeats 4000000 in
theorem jX13_init (l : Launch) (g : hG) (E : hEnv) (ho : jOk g E) (hst : l.stackTraces = false) (q : Nat) (r : Int32) : MB l yX13_init cX13_init 2 4 70 [.ref q, .int r] g E q 12 [.null, .null, .null, .null, .null, .int 0, .int 0] (fun u => [(q, .inr (12, [u 0, u 1, u 2, u 3, u 4, u 5, .int r]))]) := by
  refine MB.mk (by decide) (Nat.le_of_ble_eq_true rfl) ?_
  intro p e R s m args below meth c Q A ls kC hX hkC hbl hP hD hE hS hnm hl hQ
  obtain ⟨hx, hb, hr, hlk, hml, hown, hts, hRf, hRl⟩ := hX
  have hown : s.vm.findClass RX13 = some m.cls := hown
  have hj := ho.2 _ _ _ hE
  have hK := hj.kn
  have hl : lv_has ls 2 [(0, .ref q), (1, .int r)] := hl
  refine lv_aload_n hx hb dX13_init_0 rfl (lv_at hl 0 rfl) ?_
  refine h_sup0 (cls := RX13) (nf := 7) (N := 7) (T0 := TX13) (ci := 12) hx hb hst hown (sup_X13 hts (fun w h1 h2 => hj.tw h1 h2)) hj rfl hkC hbl hP hD hml hl dX13_init_1 (Nat.lt_of_lt_of_le (by decide) hRf) (Nat.le_trans (by decide) hRl) (fun u H locs hP hD hS => ?_)
  have hP : va_P (gD g) Cl [(q, .inr (12, [u 0, u 1, u 2, u 3, u 4, u 5, u 6]))] H := hP
  have hD : va_D A [(q, .inr (12, [u 0, u 1, u 2, u 3, u 4, u 5, u 6]))] := hD
  refine lv_aload_n hx hb dX13_init_4 rfl (lv_at hl 0 rfl) ?_
  refine lv_iload_n hx hb dX13_init_5 rfl (lv_at hl 1 rfl) ?_
  refine va_putF (D := gD g) (ci := 12) (v := .int r) (ty := .int) (C := RX13) (T := TX13) (N := 7) hx hb hts in_X13 tyX13 tyX13_ok nmX13 hown hK hP hD hS 0 rfl rfl 6 (by decide) (hts _ q2141) (fun _ h9 => h9) rfl hnm rfl (by decide +kernel) rfl rfl (Nat.le_of_ble_eq_true rfl) dX13_init_6 (fun H locs hP hD hS => ?_)
  exact hm_v hQ hx hb hr hlk u rfl trivial hP hD hS (Nat.le_refl _) (Nat.le_refl _) dX13_init_9
