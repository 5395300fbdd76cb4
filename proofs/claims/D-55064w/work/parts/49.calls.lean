/-! CALLS of an interface's method on an object of a known class -/
theorem lw_F {own : String} {idx : Nat} {C : String} {x y : MethodName} {b : ByteArray} {L : Nat} {r : Option FieldType} (h1 : Cond.methodLink own idx x ∈ lw_all) (h3 : Cond.selects C x y ∈ lw_all) (h2 : Cond.instanceMethod y ∈ lw_all) (h4 : Cond.initialized y.cls ∈ lw_all) (h5 : Cond.code y b L r ∈ lw_all) : GoodIn lw_all (va_wsF own idx C x y (ws_ y b L r)) := by
  unfold va_wsF
  refine lw_app ?_ (lw_meth h5)
  intro w hw
  simp only [List.mem_cons, List.not_mem_nil, or_false] at hw
  rcases hw with e | e | e | e
  · rw [e]; exact h1
  · rw [e]; exact h3
  · rw [e]; exact h2
  · rw [e]; exact h4
def hkF (C : String) (x y : MethodName) (b : ByteArray) (L : Nat) (r : Option FieldType) (n : Nat) : Prop := Cond.selects C x y ∈ lw_all ∧ Cond.instanceMethod y ∈ lw_all ∧ Cond.initialized y.cls ∈ lw_all ∧ Cond.code y b L r ∈ lw_all ∧ x.cls ≠ "java/lang/invoke/MethodHandle" ∧ x.cls ≠ "java/lang/invoke/VarHandle" ∧ (parseMethodDescriptor x.desc).map (fun d => d.parameters.length) = some n
section HCALLF
variable {p : Program} {l : Launch} {e : Env} {R : Room} {s : State} {m : MethodId} {args : Array Value} {below : List Frame} {meth : Method} {c : Code} {H : Heap} {locs : List Loc} {cells slots : Nat} {Q : State → Prop}
variable {cc bytes : ByteArray} {pc nL maxL n index fr lo fr' lo' mc ms : Nat} {ls : Array Slot} {rest st0 st1 As : List Value} {g : hG} {E Ec : hEnv} {A : Nat → Prop} {own C : String} {y : MethodName} {ret : Option FieldType} {wc : va_W} {v : Option Value} {lv : List (Nat × Value)}
theorem hc_back5 (hr : va_Run5 p l e R s m args below meth c H locs cells slots 0 0 (F0 m pc ls st0) rest (fun st o t => o = .returned v ∧ t.heap = st.heap) (fun _ => False)) (h1 : v.toList ++ rest = st1) (kk : W p l e R s m args below meth c H locs cells slots Q (F0 m (pc + 5) ls st1)) : W p l e R s m args below meth c H locs cells slots Q (F0 m pc ls st0) := by
  intro T hT X
  obtain ⟨v', st₀, t, T', L, h0, X', hL, e1, -, ⟨hv, hh⟩, st⟩ := hr T hT X
  cases hv
  subst h1
  obtain ⟨t2, a1, b1⟩ := kk T' (by rw [e1, hh, h0]) (Stand.forget X' (fun q h => (hL q h).elim))
  exact ⟨t2, st t2 a1, b1⟩
theorem rcF {b : Nat} {x : MethodName} {cC : ClassId} {count : Nat} (hat : ClassAt s C cC) (hC : RM l y bytes maxL ret fr' lo' (.ref b :: As) g E wc v) (hk : hkF C x y bytes maxL ret n) (hF : va_Fw C x y s) (hl : Cond.methodLink own index x ∈ lw_all) (hx : p.tables.exec = Jvm.exec) (hb : c.code = cc) (hml : c.maxLocals = nL) (hown : s.vm.findClass own = some m.cls) (hts : ∀ w ∈ lw_all, w.before args s = true) (hf : fr ≤ R.frames) (hlo : lo ≤ R.locals) (hg : hGo E) (hE : E A s s.heap) (hS : va_S A s.heap H locs)
    (hP : va_P (gD g) Cl wc H) (hrv : ∃ cell : Cell, H[b]? = some cell ∧ cell.vm.isStatics = false ∧ s.vm.findClass C = some cell.cls) (hcs : cells ≤ R.cells ∧ slots ≤ R.slots) (hls : lv_has ls nL lv) (hR : Nat.ble (fr' + 1) fr = true ∧ Nat.ble (8 + (maxL + 11) + lo') lo = true) (hst : st0 = As.reverse ++ .ref b :: rest) (hlen : As.length = n) (hW : (rest.map fun v => v.category).sum ≤ 8) (h1 : v.toList ++ rest = st1) (hd : decode cc pc = .ok (.invokeinterface index count, 5))
    (kk : W p l e R s m args below meth c H locs cells slots Q (F0 m (pc + 5) ls st1)) : W p l e R s m args below meth c H locs cells slots Q (F0 m pc ls st0) := by
  subst hst
  obtain ⟨k1, k2, k3, k4, k5⟩ := hk
  have hpre := hc_pre hg hP (fun U _ hW2 => hg.2 A _ s U _ _ hW2 hS.2.1 (fun q h => h.elim) hE) (.ref b :: As)
  exact hc_back5 (va_runF (C := C) (As := As) (rest := rest) hat ⟨hx, hb, hml, hown, hts⟩ hC (va_cwF n hts (lw_F hl k1 k2 k3 k4) rfl rfl rfl hF k5 ⟨Nat.le_trans (Nat.le_of_ble_eq_true hR.1) hf, Nat.le_trans (Nat.le_of_ble_eq_true hR.2) hlo⟩) ⟨hpre.1, hrv, hpre.2⟩ rfl hlen hls.1 rfl (lv_room hW) hd hcs) h1 kk
theorem rcSN {host : String} (hC : RM l y bytes maxL ret fr' lo' As g E wc v) (hk : hkS y bytes maxL ret n) (hln : va_Nw (.methodLinkNest own index y host) s) (hx : p.tables.exec = Jvm.exec) (hb : c.code = cc) (hml : c.maxLocals = nL) (hown : s.vm.findClass own = some m.cls) (hts : ∀ w ∈ lw_all, w.before args s = true) (hf : fr ≤ R.frames) (hlo : lo ≤ R.locals) (hg : hGo E) (hE : E A s s.heap) (hS : va_S A s.heap H locs)
    (hP : va_P (gD g) Cl wc H) (hcs : cells ≤ R.cells ∧ slots ≤ R.slots) (hls : lv_has ls nL lv) (hR : Nat.ble (fr' + 1) fr = true ∧ Nat.ble (8 + (maxL + 11) + lo') lo = true) (hst : st0 = As.reverse ++ rest) (hlen : As.length = n) (hW : (rest.map fun v => v.category).sum ≤ 8) (h1 : v.toList ++ rest = st1) (hd : decode cc pc = .ok (.invokestatic index, 3))
    (kk : W p l e R s m args below meth c H locs cells slots Q (F0 m (pc + 3) ls st1)) : W p l e R s m args below meth c H locs cells slots Q (F0 m pc ls st0) := by
  subst hst
  obtain ⟨k1, k2, k3, k4⟩ := hk
  exact hc_back (va_runSN (As := As) (rest := rest) ⟨hx, hb, hml, hown, hts⟩ hC ⟨va_cnB n hts (lw_meth k3) rfl rfl rfl hln (hts _ k2) k4 ⟨Nat.le_trans (Nat.le_of_ble_eq_true hR.1) hf, Nat.le_trans (Nat.le_of_ble_eq_true hR.2) hlo⟩, hts _ k1, trivial⟩ (hc_pre hg hP (fun U _ hW2 => hg.2 A _ s U _ _ hW2 hS.2.1 (fun q h => h.elim) hE) As) rfl hlen hls.1 rfl (lv_room hW) hd hcs) h1 kk
variable {S : Type} {vf : S → Option Value} {post : S → Prop} {W1 : S → va_W} {ws wr : va_W}
theorem mc_back5 (hr : va_Run5 p l e R s m args below meth c H locs cells slots mc ms (F0 m pc ls st0) rest (fun st o t => (∃ u : S, o = .returned (vf u) ∧ post u ∧ va_P (gD g) Cl (W1 u) t.heap ∧ va_D (va_A wc H.size) (W1 u)) ∧ va_F (va_A wc H.size) st t) (va_A wc H.size))
    (hP : va_P (gD g) Cl ws H) (hD0 : va_D A ws) (hS : va_S A s.heap H locs) (hA : ∀ q : Nat, s.heap.size ≤ q → A q) (isC isR : List Nat) (hC : isC.map (fun i => ws[i]?) = wc.map some) (hR : isR.map (fun i => ws[i]?) = wr.map some) (hn : va_nd isR = true) (hdis : ∀ i ∈ isR, i ∉ isC)
    (kk : ∀ (u : S) (H1 : Heap) (locs1 : List Loc), post u → va_P (gD g) Cl (wr ++ W1 u) H1 → va_D A (wr ++ W1 u) → va_S A s.heap H1 locs1 → H.size ≤ H1.size → (∀ q : Nat, q < H.size → ¬ va_A wc H.size q → H1[q]? = H[q]?) → W p l e R s m args below meth c H1 locs1 (cells + mc) (slots + ms) Q (F0 m (pc + 5) ls ((vf u).toList ++ rest))) : W p l e R s m args below meth c H locs cells slots Q (F0 m pc ls st0) := by
  have hF := va_free (wc := wc) hD0 hS hA isC hC
  intro T hT X
  obtain ⟨v, st₀, t, T', L, h0, X', hL, e1, e2, ⟨⟨u, hv, hp, hP1, hD1⟩, hz, hk⟩, st⟩ := hr T hT X
  cases hv
  rw [h0] at hz hk
  have hkey : ∀ q : Nat, q < H.size → ¬ va_A wc H.size q → T'.heap[q]? = H[q]? := fun q h1 h2 => by rw [e1]; exact hk q h1 h2
  have hj := va_join (A0 := A) (D := gD g) (cl := Cl) (ws := ws) (wc := wc) (wr := wr) (w1 := W1 u) (H := H) (H1 := T'.heap) hP hD0 isC isR hC hR hn hdis hkey hF (by rw [e1]; exact hP1) hD1
  obtain ⟨t2, a1, b1⟩ := kk u T'.heap (locs ++ L) hp hj.1 hj.2
    ⟨Nat.le_trans hS.1 (by rw [e1]; exact hz), fun q h1 h2 => by rw [hkey q (Nat.lt_of_lt_of_le h1 hS.1) (fun z => h2 (hF q z))]; exact hS.2.1 q h1 h2, fun q hq => by
      rcases List.mem_append.mp hq with h | h
      · exact hS.2.2 q h
      · exact hF _ (hL q h)⟩ (by rw [e1]; exact hz) hkey T' rfl X'
  exact ⟨t2, st t2 a1, b1⟩
theorem mcF {b : Nat} {x : MethodName} {cC : ClassId} {count : Nat} (hat : ClassAt s C cC) (hM : MM l y bytes maxL ret fr' lo' mc ms (.ref b :: As) g E wc vf post W1) (hk : hkF C x y bytes maxL ret n) (hFw : va_Fw C x y s) (hl : Cond.methodLink own index x ∈ lw_all) (hx : p.tables.exec = Jvm.exec) (hb : c.code = cc) (hml : c.maxLocals = nL) (hown : s.vm.findClass own = some m.cls) (hts : ∀ w ∈ lw_all, w.before args s = true) (hf : fr ≤ R.frames) (hlo : lo ≤ R.locals) (hg : hGo E) (hE : E A s s.heap) (hS : va_S A s.heap H locs)
    (hP : va_P (gD g) Cl ws H) (hD0 : va_D A ws) (hA : ∀ q : Nat, s.heap.size ≤ q → A q) (isC isR : List Nat) (hC : isC.map (fun i => ws[i]?) = wc.map some) (hnC : va_nd isC = true) (hRr : isR.map (fun i => ws[i]?) = wr.map some) (hn : va_nd isR = true) (hdis : ∀ i ∈ isR, i ∉ isC) (hcs : cells + mc ≤ R.cells ∧ slots + ms ≤ R.slots) (hrv : ∃ cell : Cell, H[b]? = some cell ∧ cell.vm.isStatics = false ∧ s.vm.findClass C = some cell.cls) (hls : lv_has ls nL lv) (hR : Nat.ble (fr' + 1) fr = true ∧ Nat.ble (8 + (maxL + 11) + lo') lo = true) (hst : st0 = As.reverse ++ .ref b :: rest) (hlen : As.length = n) (hW : (rest.map fun v => v.category).sum ≤ 8) (hd : decode cc pc = .ok (.invokeinterface index count, 5))
    (kk : ∀ (u : S) (H1 : Heap) (locs1 : List Loc), post u → va_P (gD g) Cl (wr ++ W1 u) H1 → va_D A (wr ++ W1 u) → va_S A s.heap H1 locs1 → H.size ≤ H1.size → (∀ q : Nat, q < H.size → ¬ va_A wc H.size q → H1[q]? = H[q]?) → W p l e R s m args below meth c H1 locs1 (cells + mc) (slots + ms) Q (F0 m (pc + 5) ls ((vf u).toList ++ rest))) : W p l e R s m args below meth c H locs cells slots Q (F0 m pc ls st0) := by
  subst hst
  obtain ⟨k1, k2, k3, k4, k5⟩ := hk
  have hF := va_free (wc := wc) hD0 hS hA isC hC
  have hD1 : va_D (fun _ => True) wc := (hD0.sub isC hnC hC).weaken (fun _ _ _ _ => trivial)
  have hpre := mc_pre hg (mc_sub hP isC hC) hD1 (fun U _ hW2 => hg.2 A _ s U _ _ hW2 hS.2.1 hF hE) (.ref b :: As)
  exact mc_back5 (va_runF (C := C) (As := As) (rest := rest) hat ⟨hx, hb, hml, hown, hts⟩ (hM H.size) (va_cwF n hts (lw_F hl k1 k2 k3 k4) rfl rfl rfl hFw k5 ⟨Nat.le_trans (Nat.le_of_ble_eq_true hR.1) hf, Nat.le_trans (Nat.le_of_ble_eq_true hR.2) hlo⟩) ⟨hpre.1, hrv, hpre.2⟩ rfl hlen hls.1 rfl (lv_room hW) hd hcs) hP hD0 hS hA isC isR hC hRr hn hdis kk
end HCALLF
