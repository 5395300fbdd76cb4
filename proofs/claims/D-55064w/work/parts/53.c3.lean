/-! LISTS: adding -/
set_option maxRecDepth 100000
section JAST
variable {p : Program} {l : Launch} {e : Env} {R : Room} {s : State} {m : MethodId} {args : Array Value} {below : List Frame} {meth : Method} {c : Code} {H : Heap} {locs : List Loc} {cells slots : Nat} {Q : State → Prop}
variable {cc : ByteArray} {pc : Nat} {ls : Array Slot} {rest st0 st1 : List Value} {ws : va_W} {a : Nat} {D : va_G} {cl : List vw_C} {tys : List (ClassId × FieldType)} {A : Nat → Prop} {H0 : Heap}
/-- an object of any class that can be cast is stored -/
theorem h_asto (hx : p.tables.exec = Jvm.exec) (hb : c.code = cc) (hK : va_K D cl tys s) (hP : va_P D cl ws H) (hD : va_D A ws) (hS : va_S A H0 H locs) (q0 t0 qk ci : Nat) {E : String} {cA : ClassId} {r : vw_C} {n v : Nat} {vs : List Value} {f : Nat → Option Nat} (ha : ws[q0]? = some (a, .inl (cA, n, .inr (.inr (.inr (.inr f)))))) (ht : tys[t0]? = some (cA, .object E)) (hca : va_Nw (.castable r.1 E) s) (hv : ws[qk]? = some (v, .inr (ci, vs))) (hc : cl[ci]? = some r) {i : Int32} {k : Nat} (hi : i = nI k) (hk : k < n) (hn : n < 2 ^ 31) (hdg : decode cc pc = .ok (.aastore, 1))
    (kk : ∀ (H1 : Heap) (locs1 : List Loc), va_P D cl (ws.set q0 (a, .inl (cA, n, .inr (.inr (.inr (.inr (va_up f k (some v)))))))) H1 → va_D A (ws.set q0 (a, .inl (cA, n, .inr (.inr (.inr (.inr (va_up f k (some v)))))))) → va_S A H0 H1 locs1 → W p l e R s m args below meth c H1 locs1 cells slots Q (F0 m (pc + 1) ls rest)) : W p l e R s m args below meth c H locs cells slots Q (F0 m pc ls (.ref v :: .int i :: .ref a :: rest)) := by
  refine va_astqO hx hb hK hP hD hS q0 t0 qk ci ha ht hca hv hc (pk_in k n hk hi hn) hdg (fun H1 locs1 z1 z2 z3 => ?_)
  rw [pk_cl k hi (Nat.lt_trans hk hn)] at z1 z2
  exact kk H1 locs1 z1 z2 z3
end JAST

theorem kJ2_add_2 : hkV RJ2 yJ2_add_2 cJ2_add_2 4 none 3 := ⟨q935, qs2, q72, q936, rfl, by decide +kernel⟩
set_option maxHeartbeats 4000000 in
theorem jJ2_add_2 (l : Launch) (g : hG) (E : hEnv) (ho : jOk g E) (L : Nat) (ea : Nat) (mo : Int32) (sz : Nat) (cp : Nat) (f : Nat → Option Nat) (v : Nat) (ci : Nat) (vs : List Value) (r : vw_C) (hsz : sz < cp) (hcp : cp < 2 ^ 31) (hci : Cl[ci]? = some r) (hca : Cond.castable r.1 "java/lang/Object" ∈ lw_tbl) : MM l yJ2_add_2 cJ2_add_2 4 none 0 0 0 0 [.ref L, .ref v, .ref ea, .int (nI sz)] g E [(L, .inr (13, [.int mo, .ref ea, .int (nI sz)])), (ea, .inl (g.2.2.1 4, cp, .inr (.inr (.inr (.inr f))))), (v, .inr (ci, vs))] (S := Unit) (fun _ => none) (fun _ => True) (fun _ => [(L, .inr (13, [.int mo, .ref ea, .int (nI (sz + 1))])), (ea, .inl (g.2.2.1 4, cp, .inr (.inr (.inr (.inr (va_up f sz (some v))))))), (v, .inr (ci, vs))]) := by
  refine MM.mk (by decide) (Nat.le_of_ble_eq_true rfl) ?_
  intro p e R s m args below meth c Q A H locs ls hX hRc hRs hP hD hE hS hA hnm hl hQ
  obtain ⟨hx, hb, hr, hlk, hml, hown, hts, hRf, hRl⟩ := hX
  have hown : s.vm.findClass RJ2 = some m.cls := hown
  have hj := ho.2 _ _ _ hE
  have hK := hj.kn
  have hl : lv_has ls 4 [(0, .ref L), (1, .ref v), (2, .ref ea), (3, .int (nI sz))] := hl
  refine lv_iload_n hx hb dJ2_add_2_0 rfl (lv_at hl 3 rfl) ?_
  refine lv_aload_n hx hb dJ2_add_2_1 rfl (lv_at hl 2 rfl) ?_
  refine va_alen (v := nI cp) hx hb hK hP 1 4 rfl rfl rfl dJ2_add_2_2 ?_
  refine lv_icmp_ne (tgt := 11) hx hb dJ2_add_2_3 (by decide) (fun c_1 => ?_) (fun c_1 => ?_)
  · refine lv_aload_n hx hb dJ2_add_2_11 rfl (lv_at hl 2 rfl) ?_
    refine lv_iload_n hx hb dJ2_add_2_12 rfl (lv_at hl 3 rfl) ?_
    refine lv_aload_n hx hb dJ2_add_2_13 rfl (lv_at hl 1 rfl) ?_
    refine h_asto (f := f) hx hb hK hP hD hS 1 4 2 ci rfl rfl (hj.tw hca rfl) rfl hci (k := sz) rfl (by omega) (by omega) dJ2_add_2_14 (fun H locs hP hD hS => ?_)
    have hP : va_P (gD g) Cl [(L, .inr (13, [.int mo, .ref ea, .int (nI sz)])), (ea, .inl (g.2.2.1 4, cp, .inr (.inr (.inr (.inr (va_up f sz (some v))))))), (v, .inr (ci, vs))] H := hP
    have hD : va_D A [(L, .inr (13, [.int mo, .ref ea, .int (nI sz)])), (ea, .inl (g.2.2.1 4, cp, .inr (.inr (.inr (.inr (va_up f sz (some v))))))), (v, .inr (ci, vs))] := hD
    refine lv_aload_n hx hb dJ2_add_2_15 rfl (lv_at hl 0 rfl) ?_
    refine lv_iload_n hx hb dJ2_add_2_16 rfl (lv_at hl 3 rfl) ?_
    refine lv_iconst (v := 1) hx hb dJ2_add_2_17 (by decide) ?_
    refine lv_iadd hx hb dJ2_add_2_18 ?_
    refine h_topi (v := nI (sz + 1)) (h_nadd (a := sz) (b := 1) (rfl) (rfl)) ?_
    refine va_put (D := gD g) (ci := 13) (v := .int (nI (sz + 1))) (ty := .int) (C := RJ2) (T := TJ2) (N := 3) hx hb hts in_J2 tyJ2 tyJ2_ok nmJ2 hown hK hP hD hS 0 rfl rfl 2 (by decide) (hts _ q152) (fun _ h9 => h9) rfl (by decide +kernel) rfl rfl (Nat.le_of_ble_eq_true rfl) dJ2_add_2_19 (fun H locs hP hD hS => ?_)
    have hP : va_P (gD g) Cl [(L, .inr (13, [.int mo, .ref ea, .int (nI (sz + 1))])), (ea, .inl (g.2.2.1 4, cp, .inr (.inr (.inr (.inr (va_up f sz (some v))))))), (v, .inr (ci, vs))] H := hP
    have hD : va_D A [(L, .inr (13, [.int mo, .ref ea, .int (nI (sz + 1))])), (ea, .inl (g.2.2.1 4, cp, .inr (.inr (.inr (.inr (va_up f sz (some v))))))), (v, .inr (ci, vs))] := hD
    exact hm_v hQ hx hb hr hlk () rfl trivial hP hD hS (by decide) (by decide) dJ2_add_2_22
  exact (show False by have z := (nI_eq (a := sz) (b := cp) (by omega) (by omega)).mp c_1; omega).elim
-- J2_add: by interface alone
set_option maxHeartbeats 4000000 in
theorem jJ2_add (l : Launch) (g : hG) (E : hEnv) (ho : jOk g E) (L : Nat) (ea : Nat) (mo : Int32) (sz : Nat) (cp : Nat) (f : Nat → Option Nat) (v : Nat) (ci : Nat) (vs : List Value) (r : vw_C) (hsz : sz < cp) (hcp : cp < 2 ^ 31) (hci : Cl[ci]? = some r) (hca : Cond.castable r.1 "java/lang/Object" ∈ lw_tbl) : MM l yJ2_add cJ2_add 2 (some .boolean) 1 23 0 0 [.ref L, .ref v] g E [(L, .inr (13, [.int mo, .ref ea, .int (nI sz)])), (ea, .inl (g.2.2.1 4, cp, .inr (.inr (.inr (.inr f))))), (v, .inr (ci, vs))] (S := Unit) (fun _ => (some (.int 1))) (fun _ => True) (fun _ => [(L, .inr (13, [.int (mo + 1), .ref ea, .int (nI (sz + 1))])), (ea, .inl (g.2.2.1 4, cp, .inr (.inr (.inr (.inr (va_up f sz (some v))))))), (v, .inr (ci, vs))]) := by
  refine MM.mk (by decide) (Nat.le_of_ble_eq_true rfl) ?_
  intro p e R s m args below meth c Q A H locs ls hX hRc hRs hP hD hE hS hA hnm hl hQ
  obtain ⟨hx, hb, hr, hlk, hml, hown, hts, hRf, hRl⟩ := hX
  have hown : s.vm.findClass RJ2 = some m.cls := hown
  have hj := ho.2 _ _ _ hE
  have hK := hj.kn
  have hl : lv_has ls 2 [(0, .ref L), (1, .ref v)] := hl
  refine lv_aload_n hx hb dJ2_add_0 rfl (lv_at hl 0 rfl) ?_
  refine lv_dup hx hb dJ2_add_1 rfl ?_
  refine va_get (D := gD g) (ci := 13) (v := .int mo) (C := RJ2) (T := TJ2) (N := 3) hx hb hts in_J2 hown hK hP 0 rfl rfl 0 (by decide) (hts _ q156) (fun x9 h9 => u_same (hts _ q155) x9 h9) rfl dJ2_add_2 ?_
  refine lv_iconst (v := 1) hx hb dJ2_add_5 (by decide) ?_
  refine lv_iadd hx hb dJ2_add_6 ?_
  refine va_put (D := gD g) (ci := 13) (v := .int (mo + 1)) (ty := .int) (C := RJ2) (T := TJ2) (N := 3) hx hb hts in_J2 tyJ2 tyJ2_ok nmJ2 hown hK hP hD hS 0 rfl rfl 0 (by decide) (hts _ q156) (fun x9 h9 => u_same (hts _ q155) x9 h9) rfl (by decide +kernel) rfl rfl (Nat.le_of_ble_eq_true rfl) dJ2_add_7 (fun H locs hP hD hS => ?_)
  have hP : va_P (gD g) Cl [(L, .inr (13, [.int (mo + 1), .ref ea, .int (nI sz)])), (ea, .inl (g.2.2.1 4, cp, .inr (.inr (.inr (.inr f))))), (v, .inr (ci, vs))] H := hP
  have hD : va_D A [(L, .inr (13, [.int (mo + 1), .ref ea, .int (nI sz)])), (ea, .inl (g.2.2.1 4, cp, .inr (.inr (.inr (.inr f))))), (v, .inr (ci, vs))] := hD
  refine lv_aload_n hx hb dJ2_add_10 rfl (lv_at hl 0 rfl) ?_
  refine lv_aload_n hx hb dJ2_add_11 rfl (lv_at hl 1 rfl) ?_
  refine lv_aload_n hx hb dJ2_add_12 rfl (lv_at hl 0 rfl) ?_
  refine va_get (D := gD g) (ci := 13) (v := .ref ea) (C := RJ2) (T := TJ2) (N := 3) hx hb hts in_J2 hown hK hP 0 rfl rfl 1 (by decide) (hts _ q149) (fun _ h9 => h9) rfl dJ2_add_13 ?_
  refine lv_aload_n hx hb dJ2_add_16 rfl (lv_at hl 0 rfl) ?_
  refine va_get (D := gD g) (ci := 13) (v := .int (nI sz)) (C := RJ2) (T := TJ2) (N := 3) hx hb hts in_J2 hown hK hP 0 rfl rfl 2 (by decide) (hts _ q152) (fun _ h9 => h9) rfl dJ2_add_17 ?_
  refine mcV (As := [.ref v, .ref ea, .int (nI sz)]) (rest := []) (wr := []) (jJ2_add_2 l g E ho L ea (mo + 1) sz cp f v ci vs r hsz hcp hci hca) kJ2_add_2 q933 hx hb hml hown hts hRf hRl ho.1.1 hE hS hP hD hA [0, 1, 2] [] rfl (by decide) rfl (by decide) (by decide) ⟨Nat.le_trans (by decide) hRc, Nat.le_trans (by decide) hRs⟩ (va_recv hK hP (ci := 13) (q0 := 0) rfl rfl) hl ⟨rfl, rfl⟩ rfl rfl (Nat.le_of_ble_eq_true rfl) dJ2_add_20 (fun _ H locs _ hP hD hS _ _ => ?_)
  have hP : va_P (gD g) Cl [(L, .inr (13, [.int (mo + 1), .ref ea, .int (nI (sz + 1))])), (ea, .inl (g.2.2.1 4, cp, .inr (.inr (.inr (.inr (va_up f sz (some v))))))), (v, .inr (ci, vs))] H := hP
  have hD : va_D A [(L, .inr (13, [.int (mo + 1), .ref ea, .int (nI (sz + 1))])), (ea, .inl (g.2.2.1 4, cp, .inr (.inr (.inr (.inr (va_up f sz (some v))))))), (v, .inr (ci, vs))] := hD
  refine lv_iconst (v := 1) hx hb dJ2_add_23 (by decide) ?_
  exact hm_i hQ hx hb hr hlk rfl () (rfl) trivial hP hD hS (by decide) (by decide) dJ2_add_24
