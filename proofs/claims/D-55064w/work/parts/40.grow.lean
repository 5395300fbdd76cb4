/-! NEW ARRAYS, of the classes that are known -/
set_option maxRecDepth 100000
theorem va_RA.eq {U : State} {c1 c2 : ClassId} {ty : FieldType} (h1 : va_RA U c1 ty) (h2 : va_RA U c2 ty) : c1 = c2 := by
  cases ty with
  | object C =>
    obtain ⟨k1, q1, a1, a2, a3, a4⟩ := h1
    obtain ⟨k2, q2, b1, b2, b3, b4⟩ := h2
    exact Option.some.inj (a4.symm.trans b4)
  | _ => exact Option.some.inj ((show U.vm.findClass _ = some c1 from h1).symm.trans (show U.vm.findClass _ = some c2 from h2))
section HGROW
variable {p : Program} {l : Launch} {e : Env} {R : Room} {s : State} {m : MethodId} {args : Array Value} {below : List Frame} {meth : Method} {c : Code} {H : Heap} {locs : List Loc} {cells slots : Nat} {Q : State → Prop}
variable {cc : ByteArray} {pc : Nat} {ls : Array Slot} {rest st0 st1 : List Value} {g : hG} {A : Nat → Prop} {ws : va_W} {H0 : Heap} {a : Nat} {D : va_G} {cl : List vw_C} {tys : List (ClassId × FieldType)}
theorem h_cls {cA c0 : ClassId} {ty : FieldType} (t0 : Nat) (hK : va_K D cl tys s) (ht : tys[t0]? = some (c0, ty)) (hK1 : va_K D cl (tys ++ [(cA, ty)]) s) : cA = c0 :=
  va_RA.eq (hK1.2 tys.length (cA, ty) (by rw [List.getElem?_append_right (Nat.le_refl _), Nat.sub_self]; rfl)).2 (hK.2 t0 _ ht).2
theorem h_newa (hx : p.tables.exec = Jvm.exec) (hb : c.code = cc) {atype : ArrayType} (harr : (Cond.arrayClass (newarray.typeOf atype)).before args s = true) {ty : FieldType} (hty : newarray.typeOf atype = ty) (hK : va_K D cl tys s) (hP : va_P D cl ws H) (hD : va_D A ws) (hS : va_S A H0 H locs) (hA : ∀ q, H0.size ≤ q → A q) (t0 : Nat) {c0 : ClassId} (ht : tys[t0]? = some (c0, ty))
    {n : Int32} {N' : Nat} {a0 : vp_A} (ha : ∀ cA : ClassId, vp_cell cA a0 = arrV cA N' (fun _ => defaultValue ty)) (hn : n = nI N') (hN : N' < 2 ^ 20) (hbytes : N' * componentBytes ty ≤ 536870912) (hcells : cells + 1 ≤ R.cells) (hslots : slots + N' ≤ R.slots) (hdg : decode cc pc = .ok (.newarray atype, 2))
    (kk : ∀ (q : Nat) (H1 : Heap), va_P D cl (ws ++ [(q, .inl (c0, a0))]) H1 → va_D A (ws ++ [(q, .inl (c0, a0))]) → va_S A H0 H1 locs →
      W p l e R s m args below meth c H1 locs (cells + 1) (slots + N') Q (F0 m (pc + 2) ls (.ref q :: rest))) : W p l e R s m args below meth c H locs cells slots Q (F0 m pc ls (.int n :: rest)) := by
  subst hn
  refine va_newa hx hb harr hty hK hP hD hS hA ha (nI_pos (by omega)) (nI_clamp (by omega)) hbytes hcells hslots hdg fun q cA H1 hK1 hP1 hD1 hS1 => ?_
  have e := h_cls t0 hK ht hK1
  subst e
  exact kk q H1 hP1 hD1 hS1
theorem h_newq (hx : p.tables.exec = Jvm.exec) (hb : c.code = cc) {own C : String} {index : Nat} (hown : s.vm.findClass own = some m.cls) (hclink : (Cond.classLink own index C).before args s = true) (hover : va_AO C s) (hK : va_K D cl tys s) (hP : va_P D cl ws H) (hD : va_D A ws) (hS : va_S A H0 H locs) (hA : ∀ q, H0.size ≤ q → A q) (t0 : Nat) {c0 : ClassId} (ht : tys[t0]? = some (c0, .object C))
    {n : Int32} {N' : Nat} (hn : n = nI N') (hN : N' < 2 ^ 20) (hcells : cells + 1 ≤ R.cells) (hslots : slots + N' ≤ R.slots) (hdg : decode cc pc = .ok (.anewarray index, 3))
    (kk : ∀ (q : Nat) (H1 : Heap), va_P D cl (ws ++ [(q, .inl (c0, N', .inr (.inr (.inr (.inr (fun _ => none))))))]) H1 → va_D A (ws ++ [(q, .inl (c0, N', .inr (.inr (.inr (.inr (fun _ => none))))))]) → va_S A H0 H1 locs →
      W p l e R s m args below meth c H1 locs (cells + 1) (slots + N') Q (F0 m (pc + 3) ls (.ref q :: rest))) : W p l e R s m args below meth c H locs cells slots Q (F0 m pc ls (.int n :: rest)) := by
  subst hn
  refine va_newq hx hb hown hclink hover hK hP hD hS hA (nI_pos (by omega)) (nI_clamp (by omega)) (by omega) hcells hslots hdg fun q cA H1 hK1 hP1 hD1 hS1 => ?_
  have e := h_cls t0 hK ht hK1
  subst e
  exact kk q H1 hP1 hD1 hS1
/-- an object of the array's own class, out of any world, is stored -/
theorem h_astc (hx : p.tables.exec = Jvm.exec) (hb : c.code = cc) (hK : va_K D cl tys s) (hP : va_P D cl ws H) (hD : va_D A ws) (hS : va_S A H0 H locs) (q0 t0 : Nat) {cA : ClassId} {n v : Nat} {f : Nat → Option Nat} (ha : ws[q0]? = some (a, .inl (cA, n, .inr (.inr (.inr (.inr f)))))) (ci : Nat) {r : vw_C} (ht : tys[t0]? = some (cA, .object r.1)) (hc : cl[ci]? = some r) {w2 : va_W} (hP2 : va_P D cl w2 H) (qk : Nat) {vs : List Value} (hv : w2[qk]? = some (v, .inr (ci, vs))) {i : Int32} {k : Nat} (hi : i = nI k) (hk : k < n) (hn : n < 2 ^ 31) (hdg : decode cc pc = .ok (.aastore, 1))
    (kk : ∀ (H1 : Heap) (locs1 : List Loc), va_P D cl (ws.set q0 (a, .inl (cA, n, .inr (.inr (.inr (.inr (va_up f k (some v)))))))) H1 → va_D A (ws.set q0 (a, .inl (cA, n, .inr (.inr (.inr (.inr (va_up f k (some v)))))))) → va_S A H0 H1 locs1 → W p l e R s m args below meth c H1 locs1 cells slots Q (F0 m (pc + 1) ls rest)) : W p l e R s m args below meth c H locs cells slots Q (F0 m pc ls (.ref v :: .int i :: .ref a :: rest)) := by
  have hcls := (hK.1 ci r hc).2
  refine vb_astq hx hb hK hP hD hS q0 t0 ha ht (va_recv hK hP2 hc hv) (fun comp c0 h1 h2 => ?_) (pk_in k n hk hi hn) hdg (fun H1 locs1 z1 z2 z3 => ?_)
  · rw [Option.some.inj (h1.symm.trans hcls.1), Option.some.inj (h2.symm.trans hcls.1)]
    exact va_assign hcls
  · rw [pk_cl k hi (Nat.lt_trans hk hn)] at z1 z2
    exact kk H1 locs1 z1 z2 z3
end HGROW
