/-! ARRAYS OF REFERENCES, copied -/
set_option maxRecDepth 100000
theorem elF_some {n : Nat} {el : Nat → Nat} {i y : Nat} (h : elF n el i = some y) : i < n ∧ y = el i := by
  unfold elF at h
  by_cases hi : i < n
  · rw [if_pos hi] at h
    exact ⟨hi, (Option.some.inj h).symm⟩
  · rw [if_neg hi] at h
    cases h
section HCOPY
variable {p : Program} {l : Launch} {e : Env} {R : Room} {s : State} {m : MethodId} {args : Array Value} {below : List Frame} {meth : Method} {c : Code} {H : Heap} {locs : List Loc} {cells slots : Nat} {Q : State → Prop}
variable {cc : ByteArray} {pc nL : Nat} {ls : Array Slot} {rest st0 st1 : List Value} {A : Nat → Prop} {ws : va_W} {H0 : Heap} {a : Nat} {D : va_G} {cl : List vw_C} {tys : List (ClassId × FieldType)} {lv : List (Nat × Value)}
theorem h_copyi (hx : p.tables.exec = Jvm.exec) (hb : c.code = cc) (hml : c.maxLocals = nL) (hls : lv_has ls nL lv) {own : String} {index : Nat} (hown : s.vm.findClass own = some m.cls) (hlink : (Cond.methodLink own index arraycopyName).before args s = true) (hnat : (Cond.native arraycopyName).before args s = true) (hstat : (Cond.static arraycopyName).before args s = true) (hini : (Cond.initialized "java/lang/System").before args s = true)
    (hK : va_K D cl tys s) (hP : va_P D cl ws H) (hD : va_D A ws) (hS : va_S A H0 H locs) (q0 q1 t0 : Nat) {a0 : Nat} {c0 : ClassId} {n0 n1 : Nat} {f g : Nat → Int32} {ty : FieldType} (ha0 : ws[q0]? = some (a0, .inl (c0, n0, .inl f))) (ha1 : ws[q1]? = some (a, .inl (c0, n1, .inl g))) (ht : tys[t0]? = some (c0, ty)) (hprim : refKind ty = false)
    {sp dp n : Int32} (spn dpn nn : Nat) (e1 : sp = nI spn) (e2 : dp = nI dpn) (e3 : n = nI nn) (h4 : spn + nn ≤ n0) (h5 : dpn + nn ≤ n1) (h6 : n0 < 2 ^ 31) (h7 : n1 < 2 ^ 31) (hfit : ∀ i, i < nn → fits ty (.int (f (spn + i))) = true)
    (hframes : 1 ≤ R.frames) (hlocals : (rest.map fun v => v.category).sum + (nativeFrameWords "java/lang/System" "arraycopy" 5 + 11) ≤ R.locals) (hdg : decode cc pc = .ok (.invokestatic index, 3))
    (kk : ∀ (H1 : Heap) (locs1 : List Loc), va_P D cl (ws.set q1 (a, .inl (c0, n1, .inl (va_cpy f g spn dpn nn)))) H1 → va_D A (ws.set q1 (a, .inl (c0, n1, .inl (va_cpy f g spn dpn nn)))) → va_S A H0 H1 locs1 → W p l e R s m args below meth c H1 locs1 cells slots Q (F0 m (pc + 3) ls rest)) : W p l e R s m args below meth c H locs cells slots Q (F0 m pc ls (.int n :: .int dp :: .ref a :: .int sp :: .ref a0 :: rest)) := by
  subst e1; subst e2; subst e3
  have c1 : (nI spn).toNatClampNeg = spn := nI_clamp (by omega)
  have c2 : (nI dpn).toNatClampNeg = dpn := nI_clamp (by omega)
  have c3 : (nI nn).toNatClampNeg = nn := nI_clamp (by omega)
  refine va_copyi hx hb (hml.trans hls.1.symm) hown hlink hnat hstat hini hK hP hD hS q0 q1 t0 t0 ha0 ha1 ht ht hprim (nI_pos (by omega)) (nI_pos (by omega)) (nI_pos (by omega)) (by rw [c1, c3]; exact h4) (by rw [c2, c3]; exact h5) (fun i hi => by rw [c1]; exact hfit i (by rw [c3] at hi; exact hi)) hframes hlocals hdg (fun H1 locs1 z1 z2 z3 => ?_)
  rw [c1, c2, c3] at z1 z2
  exact kk H1 locs1 z1 z2 z3
theorem h_copyq (hx : p.tables.exec = Jvm.exec) (hb : c.code = cc) (hml : c.maxLocals = nL) (hls : lv_has ls nL lv) {own : String} {index : Nat} (hown : s.vm.findClass own = some m.cls) (hlink : (Cond.methodLink own index arraycopyName).before args s = true) (hnat : (Cond.native arraycopyName).before args s = true) (hstat : (Cond.static arraycopyName).before args s = true) (hini : (Cond.initialized "java/lang/System").before args s = true)
    (hK : va_K D cl tys s) (hP : va_P D cl ws H) (hD : va_D A ws) (hS : va_S A H0 H locs) (q0 q1 t0 : Nat) {a0 : Nat} {c0 : ClassId} {n0 n1 : Nat} {f g : Nat → Option Nat} {E1 : String} (ha0 : ws[q0]? = some (a0, .inl (c0, n0, .inr (.inr (.inr (.inr f)))))) (ha1 : ws[q1]? = some (a, .inl (c0, n1, .inr (.inr (.inr (.inr g)))))) (ht : tys[t0]? = some (c0, .object E1))
    {sp dp n : Int32} (spn dpn nn : Nat) (e1 : sp = nI spn) (e2 : dp = nI dpn) (e3 : n = nI nn) (h4 : spn + nn ≤ n0) (h5 : dpn + nn ≤ n1) (h6 : n0 < 2 ^ 31) (h7 : n1 < 2 ^ 31) {r : vw_C} {ci : Nat} (hci : cl[ci]? = some r) (hca : va_Nw (.castable r.1 E1) s) (vs : Nat → List Value) (hsee : ∀ i y : Nat, f i = some y → va_P D cl [(y, .inr (ci, vs i))] H)
    (hframes : 1 ≤ R.frames) (hlocals : (rest.map fun v => v.category).sum + (nativeFrameWords "java/lang/System" "arraycopy" 5 + 11) ≤ R.locals) (hdg : decode cc pc = .ok (.invokestatic index, 3))
    (kk : ∀ (H1 : Heap) (locs1 : List Loc), va_P D cl (ws.set q1 (a, .inl (c0, n1, .inr (.inr (.inr (.inr (va_cpy f g spn dpn nn))))))) H1 → va_D A (ws.set q1 (a, .inl (c0, n1, .inr (.inr (.inr (.inr (va_cpy f g spn dpn nn))))))) → va_S A H0 H1 locs1 → W p l e R s m args below meth c H1 locs1 cells slots Q (F0 m (pc + 3) ls rest)) : W p l e R s m args below meth c H locs cells slots Q (F0 m pc ls (.int n :: .int dp :: .ref a :: .int sp :: .ref a0 :: rest)) := by
  subst e1; subst e2; subst e3
  have c1 : (nI spn).toNatClampNeg = spn := nI_clamp (by omega)
  have c2 : (nI dpn).toNatClampNeg = dpn := nI_clamp (by omega)
  have c3 : (nI nn).toNatClampNeg = nn := nI_clamp (by omega)
  refine va_copyq (C := r.1) hx hb (hml.trans hls.1.symm) hown hlink hnat hstat hini hK hP hD hS q0 q1 t0 t0 ha0 ha1 ht ht (nI_pos (by omega)) (nI_pos (by omega)) (nI_pos (by omega)) (by rw [c1, c3]; exact h4) (by rw [c2, c3]; exact h5) (fun i hi y hy => by rw [c1] at hy; exact va_recv hK (hsee _ y hy) hci (q0 := 0) rfl) (fun comp c9 z1 z2 => ?_) hframes hlocals hdg (fun H1 locs1 z1 z2 z3 => ?_)
  · obtain ⟨x3, x4, hx3, hx4, hasg⟩ := Cond.castable_spec (va_Nw.use (A := args) rfl hca)
    cases Option.some.inj (hx3.symm.trans z2)
    cases Option.some.inj (hx4.symm.trans z1)
    exact hasg
  · rw [c1, c2, c3] at z1 z2
    exact kk H1 locs1 z1 z2 z3
theorem h_astn (hx : p.tables.exec = Jvm.exec) (hb : c.code = cc) (hK : va_K D cl tys s) (hP : va_P D cl ws H) (hD : va_D A ws) (hS : va_S A H0 H locs) (q0 t0 : Nat) {cA : ClassId} {C : String} {n : Nat} {f : Nat → Option Nat} (ha : ws[q0]? = some (a, .inl (cA, n, .inr (.inr (.inr (.inr f)))))) (ht : tys[t0]? = some (cA, .object C)) {i : Int32} {k : Nat} (hi : i = nI k) (hk : k < n) (hn : n < 2 ^ 31) (hdg : decode cc pc = .ok (.aastore, 1))
    (kk : ∀ (H1 : Heap) (locs1 : List Loc), va_P D cl (ws.set q0 (a, .inl (cA, n, .inr (.inr (.inr (.inr (va_up f k none))))))) H1 → va_D A (ws.set q0 (a, .inl (cA, n, .inr (.inr (.inr (.inr (va_up f k none))))))) → va_S A H0 H1 locs1 → W p l e R s m args below meth c H1 locs1 cells slots Q (F0 m (pc + 1) ls rest)) : W p l e R s m args below meth c H locs cells slots Q (F0 m pc ls (.null :: .int i :: .ref a :: rest)) := by
  refine va_astqN hx hb hK hP hD hS q0 t0 ha ht (pk_in k n hk hi hn) hdg (fun H1 locs1 z1 z2 z3 => ?_)
  rw [pk_cl k hi (Nat.lt_trans hk hn)] at z1 z2
  exact kk H1 locs1 z1 z2 z3
end HCOPY

/-- an array of a known class, as a receiver -/
theorem h_arr {s : State} {H : Heap} {D : va_G} {cl : List vw_C} {tys : List (ClassId × FieldType)} {ws : va_W} {a : Nat} (hK : va_K D cl tys s) (hP : va_P D cl ws H) (q0 t0 : Nat) {cA : ClassId} {n : Nat} {f : Nat → Option Nat} {C nm : String} (ha : ws[q0]? = some (a, .inl (cA, n, .inr (.inr (.inr (.inr f)))))) (ht : tys[t0]? = some (cA, .object C)) (e : "[" ++ (FieldType.object C).toString = nm) : ∃ cell : Cell, H[a]? = some cell ∧ cell.vm.isStatics = false ∧ s.vm.findClass nm = some cell.cls :=
  ⟨_, hP q0 _ ha, rfl, va_nmO (hK.2 t0 _ ht).2 e⟩

theorem kJ10_newLength : hkS yJ10_newLength cJ10_newLength 4 (some .int) 3 := ⟨q360, q86, q361, by decide +kernel⟩
set_option maxHeartbeats 4000000 in
theorem jJ10_newLength (l : Launch) (g : hG) (E : hEnv) (ho : jOk g E) (n0 : Nat) (n1 : Nat) (n2 : Nat) (hab : n0 + max n1 n2 < 2 ^ 30) (h0 : 0 < n0) : RM l yJ10_newLength cJ10_newLength 4 (some .int) 1 30 [.int (nI n0), .int (nI n1), .int (nI n2)] g E [] (some (.int (nI (n0 + max n1 n2)))) := by
  refine RM.mk (by decide) (Nat.le_of_ble_eq_true rfl) ?_
  intro p e R s m args below meth c Q ls hX hP hE hS hl hQ
  obtain ⟨hx, hb, hr, hlk, hml, hown, hts, hRf, hRl⟩ := hX
  have hown : s.vm.findClass RJ10 = some m.cls := hown
  have hj := ho.2 _ _ _ hE
  have hK := hj.kn
  have hl : lv_has ls 4 [(0, .int (nI n0)), (1, .int (nI n1)), (2, .int (nI n2))] := hl
  refine lv_iload_n hx hb dJ10_newLength_0 rfl (lv_at hl 0 rfl) ?_
  refine lv_iload_n hx hb dJ10_newLength_1 rfl (lv_at hl 1 rfl) ?_
  refine lv_iload_n hx hb dJ10_newLength_2 rfl (lv_at hl 2 rfl) ?_
  refine va_mmax (x := nI n1) (y := nI n2) hx hb (by rw [hml]; exact hl.1.symm) hown (hts _ q362) (hts _ q363) (hts _ q87) (hts _ q364) (Nat.le_trans (Nat.le_of_ble_eq_true rfl) hRf) (Nat.le_trans (Nat.le_of_ble_eq_true rfl) hRl) (Nat.zero_le _) (Nat.zero_le _) dJ10_newLength_3 ?_
  refine h_topi (v := maxI (nI n1) (nI n2)) (h_max _ _) ?_
  refine h_topi (v := nI (max n1 n2)) (maxI_n (by omega) (by omega)) ?_
  refine lv_iadd hx hb dJ10_newLength_6 ?_
  refine h_topi (v := nI (n0 + (max n1 n2))) (h_nadd (a := n0) (b := (max n1 n2)) (rfl) (rfl)) ?_
  refine lv_istore_n (lv' := [(3, .int (nI (n0 + (max n1 n2)))), (0, .int (nI n0)), (1, .int (nI n1)), (2, .int (nI n2))]) hx hb dJ10_newLength_7 rfl hl (by decide) rfl (fun ls hl => ?_)
  refine lv_iconst (v := 0) hx hb dJ10_newLength_8 (by decide) ?_
  refine lv_iload_n hx hb dJ10_newLength_9 rfl (lv_at hl 0 rfl) ?_
  refine lv_icmp_ge (tgt := 21) hx hb dJ10_newLength_10 (by decide) (fun c_1 => ?_) (fun c_1 => ?_)
  · exact (show False by have z := Int32.le_iff_toInt_le.mp c_1; rw [nI_toInt (by omega)] at z; exact absurd z (by show ¬ ((n0 + max n1 n2 : Nat) : Int) ≤ 0; omega)).elim
  refine lv_iload_n hx hb dJ10_newLength_13 rfl (lv_at hl 0 rfl) ?_
  refine lv_ldc (own := RJ10) (v := 2147483639) hx hb hown (hts _ q365) dJ10_newLength_14 ?_
  refine lv_icmp_gt (tgt := 21) hx hb dJ10_newLength_16 (by decide) (fun c_2 => ?_) (fun c_2 => ?_)
  · exact (show False by have z := Int32.lt_iff_toInt_lt.mp c_2; rw [nI_toInt (by omega)] at z; exact absurd z (by show ¬ (2147483639 : Int) < ((n0 + max n1 n2 : Nat) : Int); omega)).elim
  refine lv_iload_n hx hb dJ10_newLength_19 rfl (lv_at hl 0 rfl) ?_
  exact hr_i hQ hx hb hr hlk rfl (by simp [*]) dJ10_newLength_20
theorem kJ12_copyOf_3 : hkS yJ12_copyOf_3 cJ12_copyOf_3 4 (some (.array (.object "java/lang/Object"))) 3 := ⟨q984, q88, q985, by decide +kernel⟩
set_option maxHeartbeats 4000000 in
theorem jJ12_copyOf_3 (l : Launch) (g : hG) (E : hEnv) (ho : jOk g E) (ea : Nat) (cp : Nat) (n : Nat) (ci : Nat) (el : Nat → Nat) (vs : Nat → List Value) (r : vw_C) (cq : Nat) (hn : n ≤ cp) (hcq : cp ≤ cq) (hc22 : cq ≤ 33) (hci : Cl[ci]? = some r) (hca : Cond.castable r.1 "java/lang/Object" ∈ lw_tbl) : MM l yJ12_copyOf_3 cJ12_copyOf_3 4 (some (.array (.object "java/lang/Object"))) 1 30 1 33 [.ref ea, .int (nI cq), .ref (gA g 216)] g E ((ea, .inl (g.2.2.1 4, cp, .inr (.inr (.inr (.inr (elF n el)))))) :: (elW ci n el vs ++ [])) (S := Nat) (fun u => (some (.ref u))) (fun u => True) (fun u => ((ea, .inl (g.2.2.1 4, cp, .inr (.inr (.inr (.inr (elF n el)))))) :: ((u, .inl (g.2.2.1 4, cq, .inr (.inr (.inr (.inr (elF n el)))))) :: (elW ci n el vs ++ [])))) := by
  refine MM.mk (by decide) (Nat.le_of_ble_eq_true rfl) ?_
  intro p e R s m args below meth c Q A H locs ls hX hRc hRs hP hD hE hS hA hnm hl hQ
  obtain ⟨hx, hb, hr, hlk, hml, hown, hts, hRf, hRl⟩ := hX
  have hown : s.vm.findClass RJ12 = some m.cls := hown
  have hj := ho.2 _ _ _ hE
  have hK := hj.kn
  have hl : lv_has ls 4 [(0, .ref ea), (1, .int (nI cq)), (2, .ref (gA g 216))] := hl
  refine lv_aload_n hx hb dJ12_copyOf_3_0 rfl (lv_at hl 2 rfl) ?_
  refine va_ldcM (C := "[Ljava/lang/Object;") hx hb hown (hts _ q986) hj.xx.mi dJ12_copyOf_3_1 ?_
  refine lv_acmp_ne (rx := some (gA g 216)) (ry := some (gA g 216)) (tgt := 13) hx hb dJ12_copyOf_3_3 (by decide) (fun c => absurd rfl c) (fun _ => ?_)
  refine lv_iload_n hx hb dJ12_copyOf_3_6 rfl (lv_at hl 1 rfl) ?_
  refine h_newq hx hb hown (hts _ q987) hj.ao.1 hK hP hD hS hA 4 rfl (N' := cq) rfl (by omega) (Nat.le_trans (by decide) hRc) (Nat.le_trans (by omega) hRs) dJ12_copyOf_3_7 (fun q_1 H hP hD hS => ?_)
  refine W.widen (Nat.le_refl _) (show 0 + cq ≤ 0 + 33 by omega) ?_
  have hP : va_P (gD g) Cl ((q_1, .inl (g.2.2.1 4, cq, .inr (.inr (.inr (.inr (fun _ => none)))))) :: ((ea, .inl (g.2.2.1 4, cp, .inr (.inr (.inr (.inr (elF n el)))))) :: (elW ci n el vs ++ []))) H := pm_P List.perm_append_comm hP
  have hD : va_D A ((q_1, .inl (g.2.2.1 4, cq, .inr (.inr (.inr (.inr (fun _ => none)))))) :: ((ea, .inl (g.2.2.1 4, cp, .inr (.inr (.inr (.inr (elF n el)))))) :: (elW ci n el vs ++ []))) := pm_D List.perm_append_comm hD
  refine lv_goto (tgt := 24) hx hb dJ12_copyOf_3_10 (by decide) ?_
  refine lv_astore_n (lv' := [(3, .ref q_1), (0, .ref ea), (1, .int (nI cq)), (2, .ref (gA g 216))]) hx hb dJ12_copyOf_3_24 rfl hl (by decide) rfl (fun ls hl => ?_)
  refine lv_aload_n hx hb dJ12_copyOf_3_25 rfl (lv_at hl 1 rfl) ?_
  refine lv_iconst (v := 0) hx hb dJ12_copyOf_3_26 (by decide) ?_
  refine lv_aload_n hx hb dJ12_copyOf_3_27 rfl (lv_at hl 0 rfl) ?_
  refine lv_iconst (v := 0) hx hb dJ12_copyOf_3_28 (by decide) ?_
  refine lv_aload_n hx hb dJ12_copyOf_3_29 rfl (lv_at hl 1 rfl) ?_
  refine va_alen (v := nI cp) hx hb hK hP 1 4 rfl rfl rfl dJ12_copyOf_3_30 ?_
  refine lv_iload_n hx hb dJ12_copyOf_3_31 rfl (lv_at hl 2 rfl) ?_
  refine va_mmin (x := nI cp) (y := nI cq) hx hb (by rw [hml]; exact hl.1.symm) hown (hts _ q380) (hts _ q381) (hts _ q87) (hts _ q382) (Nat.le_trans (Nat.le_of_ble_eq_true rfl) hRf) (Nat.le_trans (Nat.le_of_ble_eq_true rfl) hRl) (Nat.le_trans (by decide) hRc) (Nat.le_trans (by decide) hRs) dJ12_copyOf_3_32 ?_
  refine h_topi (v := minI (nI cp) (nI cq)) (h_min _ _) ?_
  refine h_topi (v := nI cp) (by rw [minI_n (by omega) (by omega), Nat.min_eq_left hcq]) ?_
  refine h_copyq (f := (elF n el)) (g := (fun _ => none)) hx hb hml hl hown (hts _ q383) (hts _ q385) (hts _ q384) (hts _ q89) hK hP hD hS 1 0 4 rfl rfl rfl 0 0 cp rfl rfl rfl (by omega) (by omega) (by omega) (by omega) hci (hj.tw hca rfl) vs (fun i y hy => by obtain ⟨h1, rfl⟩ := elF_some hy; exact el_see (R := []) i h1 (sg_P [[(q_1, .inl (g.2.2.1 4, cq, .inr (.inr (.inr (.inr (fun _ => none))))))], [(ea, .inl (g.2.2.1 4, cp, .inr (.inr (.inr (.inr (elF n el))))))], elW ci n el vs] [elW ci n el vs] [2] rfl hP)) (Nat.le_trans (Nat.le_of_ble_eq_true rfl) hRf) (Nat.le_trans (Nat.le_of_ble_eq_true rfl) hRl) dJ12_copyOf_3_35 (fun H locs hP hD hS => ?_)
  have hP : va_P (gD g) Cl ((q_1, .inl (g.2.2.1 4, cq, .inr (.inr (.inr (.inr (va_cpy (elF n el) (fun _ => none) 0 0 cp)))))) :: ((ea, .inl (g.2.2.1 4, cp, .inr (.inr (.inr (.inr (elF n el)))))) :: (elW ci n el vs ++ []))) H := hP
  have hD : va_D A ((q_1, .inl (g.2.2.1 4, cq, .inr (.inr (.inr (.inr (va_cpy (elF n el) (fun _ => none) 0 0 cp)))))) :: ((ea, .inl (g.2.2.1 4, cp, .inr (.inr (.inr (.inr (elF n el)))))) :: (elW ci n el vs ++ []))) := hD
  rw [elF_cpy el hn] at hP hD
  have hP : va_P (gD g) Cl ((q_1, .inl (g.2.2.1 4, cq, .inr (.inr (.inr (.inr (elF n el)))))) :: ((ea, .inl (g.2.2.1 4, cp, .inr (.inr (.inr (.inr (elF n el)))))) :: (elW ci n el vs ++ []))) H := hP
  have hD : va_D A ((q_1, .inl (g.2.2.1 4, cq, .inr (.inr (.inr (.inr (elF n el)))))) :: ((ea, .inl (g.2.2.1 4, cp, .inr (.inr (.inr (.inr (elF n el)))))) :: (elW ci n el vs ++ []))) := hD
  refine lv_aload_n hx hb dJ12_copyOf_3_38 rfl (lv_at hl 0 rfl) ?_
  have hP : va_P (gD g) Cl ((ea, .inl (g.2.2.1 4, cp, .inr (.inr (.inr (.inr (elF n el)))))) :: ((q_1, .inl (g.2.2.1 4, cq, .inr (.inr (.inr (.inr (elF n el)))))) :: (elW ci n el vs ++ []))) H := sg_P [[(q_1, .inl (g.2.2.1 4, cq, .inr (.inr (.inr (.inr (elF n el))))))], [(ea, .inl (g.2.2.1 4, cp, .inr (.inr (.inr (.inr (elF n el))))))], elW ci n el vs] [[(ea, .inl (g.2.2.1 4, cp, .inr (.inr (.inr (.inr (elF n el))))))], [(q_1, .inl (g.2.2.1 4, cq, .inr (.inr (.inr (.inr (elF n el))))))], elW ci n el vs] [1, 0, 2] rfl hP
  have hD : va_D A ((ea, .inl (g.2.2.1 4, cp, .inr (.inr (.inr (.inr (elF n el)))))) :: ((q_1, .inl (g.2.2.1 4, cq, .inr (.inr (.inr (.inr (elF n el)))))) :: (elW ci n el vs ++ []))) := sg_D [[(q_1, .inl (g.2.2.1 4, cq, .inr (.inr (.inr (.inr (elF n el))))))], [(ea, .inl (g.2.2.1 4, cp, .inr (.inr (.inr (.inr (elF n el))))))], elW ci n el vs] [[(ea, .inl (g.2.2.1 4, cp, .inr (.inr (.inr (.inr (elF n el))))))], [(q_1, .inl (g.2.2.1 4, cq, .inr (.inr (.inr (.inr (elF n el))))))], elW ci n el vs] [1, 0, 2] rfl (by decide) hD
  exact hm_a hQ hx hb hr hlk (Or.inr ⟨_, rfl⟩) (Or.inr ⟨_, rfl⟩) q_1 rfl (trivial) hP hD hS (by decide) (by decide) dJ12_copyOf_3_39
theorem kJ12_copyOf_2 : hkS yJ12_copyOf_2 cJ12_copyOf_2 2 (some (.array (.object "java/lang/Object"))) 2 := ⟨q947, q88, q948, by decide +kernel⟩
set_option maxHeartbeats 4000000 in
theorem jJ12_copyOf_2 (l : Launch) (g : hG) (E : hEnv) (ho : jOk g E) (ea : Nat) (cp : Nat) (n : Nat) (ci : Nat) (el : Nat → Nat) (vs : Nat → List Value) (r : vw_C) (cq : Nat) (hn : n ≤ cp) (hcq : cp ≤ cq) (hc22 : cq ≤ 33) (hci : Cl[ci]? = some r) (hca : Cond.castable r.1 "java/lang/Object" ∈ lw_tbl) : MM l yJ12_copyOf_2 cJ12_copyOf_2 2 (some (.array (.object "java/lang/Object"))) 2 53 1 33 [.ref ea, .int (nI cq)] g E ((ea, .inl (g.2.2.1 4, cp, .inr (.inr (.inr (.inr (elF n el)))))) :: (elW ci n el vs ++ [])) (S := Nat) (fun u => (some (.ref u))) (fun u => True) (fun u => ((ea, .inl (g.2.2.1 4, cp, .inr (.inr (.inr (.inr (elF n el)))))) :: ((u, .inl (g.2.2.1 4, cq, .inr (.inr (.inr (.inr (elF n el)))))) :: (elW ci n el vs ++ [])))) := by
  refine MM.mk (by decide) (Nat.le_of_ble_eq_true rfl) ?_
  intro p e R s m args below meth c Q A H locs ls hX hRc hRs hP hD hE hS hA hnm hl hQ
  obtain ⟨hx, hb, hr, hlk, hml, hown, hts, hRf, hRl⟩ := hX
  have hown : s.vm.findClass RJ12 = some m.cls := hown
  have hj := ho.2 _ _ _ hE
  have hK := hj.kn
  have hl : lv_has ls 2 [(0, .ref ea), (1, .int (nI cq))] := hl
  refine lv_aload_n hx hb dJ12_copyOf_2_0 rfl (lv_at hl 0 rfl) ?_
  refine lv_iload_n hx hb dJ12_copyOf_2_1 rfl (lv_at hl 1 rfl) ?_
  refine lv_aload_n hx hb dJ12_copyOf_2_2 rfl (lv_at hl 0 rfl) ?_
  refine va_getC (C := "[Ljava/lang/Object;") hx hb (hml.trans hl.1.symm) hown (hts _ q949) ((hj.tw q2799 rfl).use rfl) (hts _ q2798) (hts _ q950) (hts _ q982) hj.xx.mi (h_arr hK hP 0 4 rfl rfl rfl) (Nat.le_trans (Nat.le_of_ble_eq_true rfl) hRf) (Nat.le_trans (Nat.le_of_ble_eq_true rfl) hRl) dJ12_copyOf_2_3 ?_
  have hP := sg_P2e [[(ea, .inl (g.2.2.1 4, cp, .inr (.inr (.inr (.inr (elF n el))))))], elW ci n el vs] [[(ea, .inl (g.2.2.1 4, cp, .inr (.inr (.inr (.inr (elF n el))))))], elW ci n el vs] [] ((ea, .inl (g.2.2.1 4, cp, .inr (.inr (.inr (.inr (elF n el)))))) :: (elW ci n el vs ++ [])) [] rfl rfl [0, 1] rfl hP
  have hD := sg_D2e [[(ea, .inl (g.2.2.1 4, cp, .inr (.inr (.inr (.inr (elF n el))))))], elW ci n el vs] [[(ea, .inl (g.2.2.1 4, cp, .inr (.inr (.inr (.inr (elF n el))))))], elW ci n el vs] [] ((ea, .inl (g.2.2.1 4, cp, .inr (.inr (.inr (.inr (elF n el)))))) :: (elW ci n el vs ++ [])) [] rfl rfl [0, 1] rfl (by decide) hD
  refine mcSA (As := [.ref ea, .int (nI cq), .ref (gA g 216)]) (rest := []) (wr := []) (jJ12_copyOf_3 l g E ho ea cp n ci el vs r cq hn hcq hc22 hci hca) kJ12_copyOf_3 q983 hx hb hml hown hts hRf hRl ho.1.1 hE hS hP hD hA ⟨Nat.le_trans (by decide) hRc, Nat.le_trans (by decide) hRs⟩ hl ⟨rfl, rfl⟩ rfl rfl (Nat.le_of_ble_eq_true rfl) dJ12_copyOf_2_6 (fun u_1 H locs _ hP hD hS _ _ => ?_)
  have hP : va_P (gD g) Cl ((ea, .inl (g.2.2.1 4, cp, .inr (.inr (.inr (.inr (elF n el)))))) :: ((u_1, .inl (g.2.2.1 4, cq, .inr (.inr (.inr (.inr (elF n el)))))) :: (elW ci n el vs ++ []))) H := sg_P3e [] [[(ea, .inl (g.2.2.1 4, cp, .inr (.inr (.inr (.inr (elF n el))))))], [(u_1, .inl (g.2.2.1 4, cq, .inr (.inr (.inr (.inr (elF n el))))))], elW ci n el vs] [[(ea, .inl (g.2.2.1 4, cp, .inr (.inr (.inr (.inr (elF n el))))))], [(u_1, .inl (g.2.2.1 4, cq, .inr (.inr (.inr (.inr (elF n el))))))], elW ci n el vs] rfl rfl [0, 1, 2] rfl hP
  have hD : va_D A ((ea, .inl (g.2.2.1 4, cp, .inr (.inr (.inr (.inr (elF n el)))))) :: ((u_1, .inl (g.2.2.1 4, cq, .inr (.inr (.inr (.inr (elF n el)))))) :: (elW ci n el vs ++ []))) := sg_D3e [] [[(ea, .inl (g.2.2.1 4, cp, .inr (.inr (.inr (.inr (elF n el))))))], [(u_1, .inl (g.2.2.1 4, cq, .inr (.inr (.inr (.inr (elF n el))))))], elW ci n el vs] [[(ea, .inl (g.2.2.1 4, cp, .inr (.inr (.inr (.inr (elF n el))))))], [(u_1, .inl (g.2.2.1 4, cq, .inr (.inr (.inr (.inr (elF n el))))))], elW ci n el vs] rfl rfl [0, 1, 2] rfl (by decide) hD
  exact hm_a hQ hx hb hr hlk (Or.inr ⟨_, rfl⟩) (Or.inr ⟨_, rfl⟩) u_1 rfl (trivial) hP hD hS (by decide) (by decide) dJ12_copyOf_2_9
