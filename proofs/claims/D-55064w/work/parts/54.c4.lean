/-! LISTS: the first array -/
set_option maxRecDepth 100000
theorem kJ2_grow_2 : hkV RJ2 yJ2_grow_2 cJ2_grow_2 4 (some (.array (.object "java/lang/Object"))) 1 := ⟨q943, qs4, q72, q944, rfl, by decide +kernel⟩
set_option maxHeartbeats 4000000 in
theorem jJ2_grow_2E (l : Launch) (g : hG) (E : hEnv) (ho : jOk g E) (L : Nat) (mo : Int32) : MM l yJ2_grow_2 cJ2_grow_2 4 (some (.array (.object "java/lang/Object"))) 1 30 1 10 [.ref L, .int 1] g E [(L, .inr (13, [.int mo, .ref (gA g 200), .int 0]))] (S := Nat) (fun u => (some (.ref u))) (fun u => True) (fun u => [(L, .inr (13, [.int mo, .ref u, .int 0])), (u, .inl (g.2.2.1 4, 10, .inr (.inr (.inr (.inr (fun _ => none))))))]) := by
  refine MM.mk (by decide) (Nat.le_of_ble_eq_true rfl) ?_
  intro p e R s m args below meth c Q A H locs ls hX hRc hRs hP hD hE hS hA hnm hl hQ
  obtain ⟨hx, hb, hr, hlk, hml, hown, hts, hRf, hRl⟩ := hX
  have hown : s.vm.findClass RJ2 = some m.cls := hown
  have hj := ho.2 _ _ _ hE
  have hK := hj.kn
  have hl : lv_has ls 4 [(0, .ref L), (1, .int 1)] := hl
  refine lv_aload_n hx hb dJ2_grow_2_0 rfl (lv_at hl 0 rfl) ?_
  refine va_get (D := gD g) (ci := 13) (v := .ref (gA g 200)) (C := RJ2) (T := TJ2) (N := 3) hx hb hts in_J2 hown hK hP 0 rfl rfl 1 (by decide) (hts _ q149) (fun _ h9 => h9) rfl dJ2_grow_2_1 ?_
  refine va_alen (v := 0) hx hb hK (hj.em.2.at hS) 0 4 rfl rfl rfl dJ2_grow_2_4 ?_
  refine lv_istore_n (lv' := [(2, .int 0), (0, .ref L), (1, .int 1)]) hx hb dJ2_grow_2_5 rfl hl (by decide) rfl (fun ls hl => ?_)
  refine lv_iload_n hx hb dJ2_grow_2_6 rfl (lv_at hl 0 rfl) ?_
  refine lv_if_gt (tgt := 20) hx hb dJ2_grow_2_7 (by decide) (fun c => absurd c (by decide)) (fun _ => ?_)
  refine lv_aload_n hx hb dJ2_grow_2_10 rfl (lv_at hl 1 rfl) ?_
  refine va_get (D := gD g) (ci := 13) (v := .ref (gA g 200)) (C := RJ2) (T := TJ2) (N := 3) hx hb hts in_J2 hown hK hP 0 rfl rfl 1 (by decide) (hts _ q149) (fun _ h9 => h9) rfl dJ2_grow_2_11 ?_
  refine va_gets hx hb hj.em.1 hS hown (hts _ q147) (fun _ h9 => h9) dJ2_grow_2_14 ?_
  refine lv_acmp_eq (rx := some (gA g 200)) (ry := some (gA g 200)) (tgt := 45) hx hb dJ2_grow_2_17 (by decide) (fun _ => ?_) (fun c => absurd rfl c)
  refine lv_aload_n hx hb dJ2_grow_2_45 rfl (lv_at hl 1 rfl) ?_
  refine lv_bipush (v := 10) hx hb dJ2_grow_2_46 (by decide) ?_
  refine lv_iload_n hx hb dJ2_grow_2_48 rfl (lv_at hl 2 rfl) ?_
  refine va_mmax (x := 10) (y := 1) hx hb (by rw [hml]; exact hl.1.symm) hown (hts _ q988) (hts _ q363) (hts _ q87) (hts _ q364) (Nat.le_trans (Nat.le_of_ble_eq_true rfl) hRf) (Nat.le_trans (Nat.le_of_ble_eq_true rfl) hRl) (Nat.le_trans (by decide) hRc) (Nat.le_trans (by decide) hRs) dJ2_grow_2_49 ?_
  refine h_topi (v := maxI 10 1) (h_max _ _) ?_
  refine h_topi (v := nI 10) (by decide) ?_
  refine h_newq hx hb hown (hts _ q989) hj.ao.1 hK hP hD hS hA 4 rfl (N' := 10) rfl (by decide) (Nat.le_trans (by decide) hRc) (Nat.le_trans (by decide) hRs) dJ2_grow_2_52 (fun q_1 H hP hD hS => ?_)
  have hP : va_P (gD g) Cl [(L, .inr (13, [.int mo, .ref (gA g 200), .int 0])), (q_1, .inl (g.2.2.1 4, 10, .inr (.inr (.inr (.inr (fun _ => none))))))] H := hP
  have hD : va_D A [(L, .inr (13, [.int mo, .ref (gA g 200), .int 0])), (q_1, .inl (g.2.2.1 4, 10, .inr (.inr (.inr (.inr (fun _ => none))))))] := hD
  refine lv_dup_x1 hx hb dJ2_grow_2_55 rfl rfl ?_
  refine va_put (D := gD g) (ci := 13) (v := .ref q_1) (ty := (.array (.object "java/lang/Object"))) (C := RJ2) (T := TJ2) (N := 3) hx hb hts in_J2 tyJ2 tyJ2_ok nmJ2 hown hK hP hD hS 0 rfl rfl 1 (by decide) (hts _ q149) (fun _ h9 => h9) rfl (by decide +kernel) rfl rfl (Nat.le_of_ble_eq_true rfl) dJ2_grow_2_56 (fun H locs hP hD hS => ?_)
  have hP : va_P (gD g) Cl [(L, .inr (13, [.int mo, .ref q_1, .int 0])), (q_1, .inl (g.2.2.1 4, 10, .inr (.inr (.inr (.inr (fun _ => none))))))] H := hP
  have hD : va_D A [(L, .inr (13, [.int mo, .ref q_1, .int 0])), (q_1, .inl (g.2.2.1 4, 10, .inr (.inr (.inr (.inr (fun _ => none))))))] := hD
  exact hm_a hQ hx hb hr hlk (Or.inr ⟨_, rfl⟩) (Or.inr ⟨_, rfl⟩) q_1 rfl trivial hP hD hS (by decide) (by decide) dJ2_grow_2_59
theorem kJ2_grow : hkV RJ2 yJ2_grow cJ2_grow 1 (some (.array (.object "java/lang/Object"))) 0 := ⟨q939, qs3, q72, q940, rfl, by decide +kernel⟩
set_option maxHeartbeats 4000000 in
theorem jJ2_growE (l : Launch) (g : hG) (E : hEnv) (ho : jOk g E) (L : Nat) (mo : Int32) : MM l yJ2_grow cJ2_grow 1 (some (.array (.object "java/lang/Object"))) 2 53 1 10 [.ref L] g E [(L, .inr (13, [.int mo, .ref (gA g 200), .int 0]))] (S := Nat) (fun u => (some (.ref u))) (fun u => True) (fun u => [(L, .inr (13, [.int mo, .ref u, .int 0])), (u, .inl (g.2.2.1 4, 10, .inr (.inr (.inr (.inr (fun _ => none))))))]) := by
  refine MM.mk (by decide) (Nat.le_of_ble_eq_true rfl) ?_
  intro p e R s m args below meth c Q A H locs ls hX hRc hRs hP hD hE hS hA hnm hl hQ
  obtain ⟨hx, hb, hr, hlk, hml, hown, hts, hRf, hRl⟩ := hX
  have hown : s.vm.findClass RJ2 = some m.cls := hown
  have hj := ho.2 _ _ _ hE
  have hK := hj.kn
  have hl : lv_has ls 1 [(0, .ref L)] := hl
  refine lv_aload_n hx hb dJ2_grow_0 rfl (lv_at hl 0 rfl) ?_
  refine lv_aload_n hx hb dJ2_grow_1 rfl (lv_at hl 0 rfl) ?_
  refine va_get (D := gD g) (ci := 13) (v := .int 0) (C := RJ2) (T := TJ2) (N := 3) hx hb hts in_J2 hown hK hP 0 rfl rfl 2 (by decide) (hts _ q152) (fun _ h9 => h9) rfl dJ2_grow_2 ?_
  refine lv_iconst (v := 1) hx hb dJ2_grow_5 (by decide) ?_
  refine lv_iadd hx hb dJ2_grow_6 ?_
  refine h_topi (v := nI 1) (h_nadd (a := 0) (b := 1) (rfl) (rfl)) ?_
  refine mcV (As := [.int (nI 1)]) (rest := []) (wr := []) (jJ2_grow_2E l g E ho L mo) kJ2_grow_2 q941 hx hb hml hown hts hRf hRl ho.1.1 hE hS hP hD hA [0] [] rfl (by decide) rfl (by decide) (by decide) ⟨Nat.le_trans (by decide) hRc, Nat.le_trans (by decide) hRs⟩ (va_recv hK hP (ci := 13) (q0 := 0) rfl rfl) hl ⟨rfl, rfl⟩ rfl rfl (Nat.le_of_ble_eq_true rfl) dJ2_grow_7 (fun u_1 H locs _ hP hD hS _ _ => ?_)
  have hP : va_P (gD g) Cl [(L, .inr (13, [.int mo, .ref u_1, .int 0])), (u_1, .inl (g.2.2.1 4, 10, .inr (.inr (.inr (.inr (fun _ => none))))))] H := hP
  have hD : va_D A [(L, .inr (13, [.int mo, .ref u_1, .int 0])), (u_1, .inl (g.2.2.1 4, 10, .inr (.inr (.inr (.inr (fun _ => none))))))] := hD
  exact hm_a hQ hx hb hr hlk (Or.inr ⟨_, rfl⟩) (Or.inr ⟨_, rfl⟩) u_1 rfl trivial hP hD hS (by decide) (by decide) dJ2_grow_10
set_option maxHeartbeats 4000000 in
theorem jJ2_add_2E (l : Launch) (g : hG) (E : hEnv) (ho : jOk g E) (L : Nat) (mo : Int32) (v : Nat) (ci : Nat) (vs : List Value) (r : vw_C) (hci : Cl[ci]? = some r) (hca : Cond.castable r.1 "java/lang/Object" ∈ lw_tbl) : MM l yJ2_add_2 cJ2_add_2 4 none 3 73 1 10 [.ref L, .ref v, .ref (gA g 200), .int 0] g E [(L, .inr (13, [.int mo, .ref (gA g 200), .int 0])), (v, .inr (ci, vs))] (S := Nat) (fun u => none) (fun u => True) (fun u => [(v, .inr (ci, vs)), (L, .inr (13, [.int mo, .ref u, .int (nI 1)])), (u, .inl (g.2.2.1 4, 10, .inr (.inr (.inr (.inr (va_up (fun _ => none) 0 (some v)))))))]) := by
  refine MM.mk (by decide) (Nat.le_of_ble_eq_true rfl) ?_
  intro p e R s m args below meth c Q A H locs ls hX hRc hRs hP hD hE hS hA hnm hl hQ
  obtain ⟨hx, hb, hr, hlk, hml, hown, hts, hRf, hRl⟩ := hX
  have hown : s.vm.findClass RJ2 = some m.cls := hown
  have hj := ho.2 _ _ _ hE
  have hK := hj.kn
  have hl : lv_has ls 4 [(0, .ref L), (1, .ref v), (2, .ref (gA g 200)), (3, .int 0)] := hl
  refine lv_iload_n hx hb dJ2_add_2_0 rfl (lv_at hl 3 rfl) ?_
  refine lv_aload_n hx hb dJ2_add_2_1 rfl (lv_at hl 2 rfl) ?_
  refine va_alen (v := 0) hx hb hK (hj.em.2.at hS) 0 4 rfl rfl rfl dJ2_add_2_2 ?_
  refine lv_icmp_ne (tgt := 11) hx hb dJ2_add_2_3 (by decide) (fun c => absurd c (by decide)) (fun _ => ?_)
  refine lv_aload_n hx hb dJ2_add_2_6 rfl (lv_at hl 0 rfl) ?_
  refine mcV (As := []) (rest := []) (wr := [(v, .inr (ci, vs))]) (jJ2_growE l g E ho L mo) kJ2_grow q937 hx hb hml hown hts hRf hRl ho.1.1 hE hS hP hD hA [0] [1] rfl (by decide) rfl (by decide) (by decide) ⟨Nat.le_trans (by decide) hRc, Nat.le_trans (by decide) hRs⟩ (va_recv hK hP (ci := 13) (q0 := 0) rfl rfl) hl ⟨rfl, rfl⟩ rfl rfl (Nat.le_of_ble_eq_true rfl) dJ2_add_2_7 (fun u_2 H locs _ hP hD hS _ _ => ?_)
  have hP : va_P (gD g) Cl [(v, .inr (ci, vs)), (L, .inr (13, [.int mo, .ref u_2, .int 0])), (u_2, .inl (g.2.2.1 4, 10, .inr (.inr (.inr (.inr (fun _ => none))))))] H := hP
  have hD : va_D A [(v, .inr (ci, vs)), (L, .inr (13, [.int mo, .ref u_2, .int 0])), (u_2, .inl (g.2.2.1 4, 10, .inr (.inr (.inr (.inr (fun _ => none))))))] := hD
  refine lv_astore_n (lv' := [(2, .ref u_2), (0, .ref L), (1, .ref v), (3, .int 0)]) hx hb dJ2_add_2_10 rfl hl (by decide) rfl (fun ls hl => ?_)
  refine lv_aload_n hx hb dJ2_add_2_11 rfl (lv_at hl 0 rfl) ?_
  refine lv_iload_n hx hb dJ2_add_2_12 rfl (lv_at hl 3 rfl) ?_
  refine lv_aload_n hx hb dJ2_add_2_13 rfl (lv_at hl 2 rfl) ?_
  refine h_asto (f := (fun _ => none)) hx hb hK hP hD hS 2 4 0 ci rfl rfl (hj.tw hca rfl) rfl hci (k := 0) rfl (by omega) (by omega) dJ2_add_2_14 (fun H locs hP hD hS => ?_)
  have hP : va_P (gD g) Cl [(v, .inr (ci, vs)), (L, .inr (13, [.int mo, .ref u_2, .int 0])), (u_2, .inl (g.2.2.1 4, 10, .inr (.inr (.inr (.inr (va_up (fun _ => none) 0 (some v)))))))] H := hP
  have hD : va_D A [(v, .inr (ci, vs)), (L, .inr (13, [.int mo, .ref u_2, .int 0])), (u_2, .inl (g.2.2.1 4, 10, .inr (.inr (.inr (.inr (va_up (fun _ => none) 0 (some v)))))))] := hD
  refine lv_aload_n hx hb dJ2_add_2_15 rfl (lv_at hl 1 rfl) ?_
  refine lv_iload_n hx hb dJ2_add_2_16 rfl (lv_at hl 3 rfl) ?_
  refine lv_iconst (v := 1) hx hb dJ2_add_2_17 (by decide) ?_
  refine lv_iadd hx hb dJ2_add_2_18 ?_
  refine h_topi (v := nI 1) (h_nadd (a := 0) (b := 1) (rfl) (rfl)) ?_
  refine va_put (D := gD g) (ci := 13) (v := .int (nI 1)) (ty := .int) (C := RJ2) (T := TJ2) (N := 3) hx hb hts in_J2 tyJ2 tyJ2_ok nmJ2 hown hK hP hD hS 1 rfl rfl 2 (by decide) (hts _ q152) (fun _ h9 => h9) rfl (by decide +kernel) rfl rfl (Nat.le_of_ble_eq_true rfl) dJ2_add_2_19 (fun H locs hP hD hS => ?_)
  have hP : va_P (gD g) Cl [(v, .inr (ci, vs)), (L, .inr (13, [.int mo, .ref u_2, .int (nI 1)])), (u_2, .inl (g.2.2.1 4, 10, .inr (.inr (.inr (.inr (va_up (fun _ => none) 0 (some v)))))))] H := hP
  have hD : va_D A [(v, .inr (ci, vs)), (L, .inr (13, [.int mo, .ref u_2, .int (nI 1)])), (u_2, .inl (g.2.2.1 4, 10, .inr (.inr (.inr (.inr (va_up (fun _ => none) 0 (some v)))))))] := hD
  exact hm_v hQ hx hb hr hlk u_2 rfl trivial hP hD hS (by decide) (by decide) dJ2_add_2_22
set_option maxHeartbeats 4000000 in
theorem jJ2_addE (l : Launch) (g : hG) (E : hEnv) (ho : jOk g E) (L : Nat) (mo : Int32) (v : Nat) (ci : Nat) (vs : List Value) (r : vw_C) (hci : Cl[ci]? = some r) (hca : Cond.castable r.1 "java/lang/Object" ∈ lw_tbl) : MM l yJ2_add cJ2_add 2 (some .boolean) 4 96 1 10 [.ref L, .ref v] g E [(L, .inr (13, [.int mo, .ref (gA g 200), .int 0])), (v, .inr (ci, vs))] (S := Nat) (fun u => (some (.int 1))) (fun u => True) (fun u => [(v, .inr (ci, vs)), (L, .inr (13, [.int (mo + 1), .ref u, .int (nI 1)])), (u, .inl (g.2.2.1 4, 10, .inr (.inr (.inr (.inr (va_up (fun _ => none) 0 (some v)))))))]) := by
  refine MM.mk (by decide) (Nat.le_of_ble_eq_true rfl) ?_
  intro p e R s m args below meth c Q A H locs ls hX hRc hRs hP hD hE hS hA hnm hl hQ
  obtain ⟨hx, hb, hr, hlk, hml, hown, hts, hRf, hRl⟩ := hX
  have hown : s.vm.findClass RJ2 = some m.cls := hown
  have hj := ho.2 _ _ _ hE
  have hK := hj.kn
  have hl : lv_has ls 2 [(0, .ref L), (1, .ref v)] := hl
  refine lv_aload_n hx hb dJ2_add_0 rfl (lv_at hl 0 rfl) ?_
  refine lv_dup hx hb dJ2_add_1 rfl ?_
  refine va_get (D := gD g) (ci := 13) (v := .int mo) (C := RJ2) (T := TJ2) (N := 3) hx hb hts in_J2 hown hK hP 0 rfl rfl 0 (by decide) (hts _ q156) (fun x9 h9 => u_same (hts _ q155) x9 h9) rfl dJ2_add_2 ?_
  refine lv_iconst (v := 1) hx hb dJ2_add_5 (by decide) ?_
  refine lv_iadd hx hb dJ2_add_6 ?_
  refine va_put (D := gD g) (ci := 13) (v := .int (mo + 1)) (ty := .int) (C := RJ2) (T := TJ2) (N := 3) hx hb hts in_J2 tyJ2 tyJ2_ok nmJ2 hown hK hP hD hS 0 rfl rfl 0 (by decide) (hts _ q156) (fun x9 h9 => u_same (hts _ q155) x9 h9) rfl (by decide +kernel) rfl rfl (Nat.le_of_ble_eq_true rfl) dJ2_add_7 (fun H locs hP hD hS => ?_)
  have hP : va_P (gD g) Cl [(L, .inr (13, [.int (mo + 1), .ref (gA g 200), .int 0])), (v, .inr (ci, vs))] H := hP
  have hD : va_D A [(L, .inr (13, [.int (mo + 1), .ref (gA g 200), .int 0])), (v, .inr (ci, vs))] := hD
  refine lv_aload_n hx hb dJ2_add_10 rfl (lv_at hl 0 rfl) ?_
  refine lv_aload_n hx hb dJ2_add_11 rfl (lv_at hl 1 rfl) ?_
  refine lv_aload_n hx hb dJ2_add_12 rfl (lv_at hl 0 rfl) ?_
  refine va_get (D := gD g) (ci := 13) (v := .ref (gA g 200)) (C := RJ2) (T := TJ2) (N := 3) hx hb hts in_J2 hown hK hP 0 rfl rfl 1 (by decide) (hts _ q149) (fun _ h9 => h9) rfl dJ2_add_13 ?_
  refine lv_aload_n hx hb dJ2_add_16 rfl (lv_at hl 0 rfl) ?_
  refine va_get (D := gD g) (ci := 13) (v := .int 0) (C := RJ2) (T := TJ2) (N := 3) hx hb hts in_J2 hown hK hP 0 rfl rfl 2 (by decide) (hts _ q152) (fun _ h9 => h9) rfl dJ2_add_17 ?_
  refine mcV (As := [.ref v, .ref (gA g 200), .int 0]) (rest := []) (wr := []) (jJ2_add_2E l g E ho L (mo + 1) v ci vs r hci hca) kJ2_add_2 q933 hx hb hml hown hts hRf hRl ho.1.1 hE hS hP hD hA [0, 1] [] rfl (by decide) rfl (by decide) (by decide) ⟨Nat.le_trans (by decide) hRc, Nat.le_trans (by decide) hRs⟩ (va_recv hK hP (ci := 13) (q0 := 0) rfl rfl) hl ⟨rfl, rfl⟩ rfl rfl (Nat.le_of_ble_eq_true rfl) dJ2_add_20 (fun u_1 H locs _ hP hD hS _ _ => ?_)
  have hP : va_P (gD g) Cl [(v, .inr (ci, vs)), (L, .inr (13, [.int (mo + 1), .ref u_1, .int (nI 1)])), (u_1, .inl (g.2.2.1 4, 10, .inr (.inr (.inr (.inr (va_up (fun _ => none) 0 (some v)))))))] H := hP
  have hD : va_D A [(v, .inr (ci, vs)), (L, .inr (13, [.int (mo + 1), .ref u_1, .int (nI 1)])), (u_1, .inl (g.2.2.1 4, 10, .inr (.inr (.inr (.inr (va_up (fun _ => none) 0 (some v)))))))] := hD
  refine lv_iconst (v := 1) hx hb dJ2_add_23 (by decide) ?_
  exact hm_i hQ hx hb hr hlk rfl u_1 (rfl) trivial hP hD hS (by decide) (by decide) dJ2_add_24
