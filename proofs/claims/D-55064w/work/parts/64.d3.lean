/-! LISTS: growth, removal -/
set_option maxRecDepth 100000
set_option maxHeartbeats 4000000 in
theorem jJ2_grow_2G (l : Launch) (g : hG) (E : hEnv) (ho : jOk g E) (L : Nat) (mo : Int32) (ea : Nat) (cp : Nat) (n : Nat) (ci : Nat) (el : Nat → Nat) (vs : Nat → List Value) (r : vw_C) (mn : Nat) (hcp : cp = 10 ∨ cp = 15 ∨ cp = 22) (hnc : n = cp) (hci : Cl[ci]? = some r) (hca : Cond.castable r.1 "java/lang/Object" ∈ lw_tbl) (hmn : mn = cp + 1) : MM l yJ2_grow_2 cJ2_grow_2 4 (some (.array (.object "java/lang/Object"))) 3 74 1 33 [.ref L, .int (nI mn)] g E ((L, .inr (13, [.int mo, .ref ea, .int (nI n)])) :: ((ea, .inl (g.2.2.1 4, cp, .inr (.inr (.inr (.inr (elF n el)))))) :: (elW ci n el vs ++ []))) (S := Nat) (fun u => (some (.ref u))) (fun u => True) (fun u => ((L, .inr (13, [.int mo, .ref u, .int (nI n)])) :: ((u, .inl (g.2.2.1 4, (cp + cp / 2), .inr (.inr (.inr (.inr (elF n el)))))) :: (elW ci n el vs ++ [])))) := by
  refine MM.mk (by decide) (Nat.le_of_ble_eq_true rfl) ?_
  intro p e R s m args below meth c Q A H locs ls hX hRc hRs hP hD hE hS hA hnm hl hQ
  obtain ⟨hx, hb, hr, hlk, hml, hown, hts, hRf, hRl⟩ := hX
  have hown : s.vm.findClass RJ2 = some m.cls := hown
  have hj := ho.2 _ _ _ hE
  have hK := hj.kn
  have hl : lv_has ls 4 [(0, .ref L), (1, .int (nI mn))] := hl
  refine lv_aload_n hx hb dJ2_grow_2_0 rfl (lv_at hl 0 rfl) ?_
  refine va_get (D := gD g) (ci := 13) (v := .ref ea) (C := RJ2) (T := TJ2) (N := 3) hx hb hts in_J2 hown hK hP 0 rfl rfl 1 (by decide) (hts _ q149) (fun _ h9 => h9) rfl dJ2_grow_2_1 ?_
  refine va_alen (v := nI cp) hx hb hK hP 1 4 rfl rfl rfl dJ2_grow_2_4 ?_
  refine lv_istore_n (lv' := [(2, .int (nI cp)), (0, .ref L), (1, .int (nI mn))]) hx hb dJ2_grow_2_5 rfl hl (by decide) rfl (fun ls hl => ?_)
  refine lv_iload_n hx hb dJ2_grow_2_6 rfl (lv_at hl 0 rfl) ?_
  refine lv_if_gt (tgt := 20) hx hb dJ2_grow_2_7 (by decide) (fun c_1 => ?_) (fun c_1 => ?_)
  · refine lv_iload_n hx hb dJ2_grow_2_20 rfl (lv_at hl 0 rfl) ?_
    refine lv_iload_n hx hb dJ2_grow_2_21 rfl (lv_at hl 2 rfl) ?_
    refine lv_iload_n hx hb dJ2_grow_2_22 rfl (lv_at hl 0 rfl) ?_
    refine lv_isub hx hb dJ2_grow_2_23 ?_
    refine h_topi (v := nI (mn - cp)) (h_nsub (a := mn) (b := cp) (rfl) (rfl) (by omega)) ?_
    refine lv_iload_n hx hb dJ2_grow_2_24 rfl (lv_at hl 0 rfl) ?_
    refine lv_iconst (v := 1) hx hb dJ2_grow_2_25 (by decide) ?_
    refine lv_ishr hx hb dJ2_grow_2_26 ?_
    refine h_topi (v := nI (cp / 2)) (by rcases hcp with h | h | h <;> subst h <;> decide) ?_
    refine rcS (As := [.int (nI cp), .int (nI (mn - cp)), .int (nI (cp / 2))]) (rest := []) (st1 := [.int (nI (cp + max (mn - cp) (cp / 2)))]) (jJ10_newLength l g E ho cp (mn - cp) (cp / 2) (by omega) (by omega)) kJ10_newLength q945 hx hb hml hown hts hRf hRl ho.1.1 hE hS (hP.sub [] rfl) ⟨Nat.le_trans (by decide) hRc, Nat.le_trans (by decide) hRs⟩ hl ⟨rfl, rfl⟩ rfl rfl (Nat.le_of_ble_eq_true rfl) rfl dJ2_grow_2_27 ?_
    refine h_topi (v := nI (cp + cp / 2)) (congrArg nI (by omega)) ?_
    refine lv_istore_n (lv' := [(3, .int (nI (cp + cp / 2))), (2, .int (nI cp)), (0, .ref L), (1, .int (nI mn))]) hx hb dJ2_grow_2_30 rfl hl (by decide) rfl (fun ls hl => ?_)
    refine lv_aload_n hx hb dJ2_grow_2_31 rfl (lv_at hl 2 rfl) ?_
    refine lv_aload_n hx hb dJ2_grow_2_32 rfl (lv_at hl 2 rfl) ?_
    refine va_get (D := gD g) (ci := 13) (v := .ref ea) (C := RJ2) (T := TJ2) (N := 3) hx hb hts in_J2 hown hK hP 0 rfl rfl 1 (by decide) (hts _ q149) (fun _ h9 => h9) rfl dJ2_grow_2_33 ?_
    refine lv_iload_n hx hb dJ2_grow_2_36 rfl (lv_at hl 0 rfl) ?_
    have hP := sg_P2e [[(L, .inr (13, [.int mo, .ref ea, .int (nI n)]))], [(ea, .inl (g.2.2.1 4, cp, .inr (.inr (.inr (.inr (elF n el))))))], elW ci n el vs] [[(ea, .inl (g.2.2.1 4, cp, .inr (.inr (.inr (.inr (elF n el))))))], elW ci n el vs] [[(L, .inr (13, [.int mo, .ref ea, .int (nI n)]))]] ((ea, .inl (g.2.2.1 4, cp, .inr (.inr (.inr (.inr (elF n el)))))) :: (elW ci n el vs ++ [])) ((L, .inr (13, [.int mo, .ref ea, .int (nI n)])) :: []) rfl rfl [1, 2, 0] rfl hP
    have hD := sg_D2e [[(L, .inr (13, [.int mo, .ref ea, .int (nI n)]))], [(ea, .inl (g.2.2.1 4, cp, .inr (.inr (.inr (.inr (elF n el))))))], elW ci n el vs] [[(ea, .inl (g.2.2.1 4, cp, .inr (.inr (.inr (.inr (elF n el))))))], elW ci n el vs] [[(L, .inr (13, [.int mo, .ref ea, .int (nI n)]))]] ((ea, .inl (g.2.2.1 4, cp, .inr (.inr (.inr (.inr (elF n el)))))) :: (elW ci n el vs ++ [])) ((L, .inr (13, [.int mo, .ref ea, .int (nI n)])) :: []) rfl rfl [1, 2, 0] rfl (by decide) hD
    refine mcSA (As := [.ref ea, .int (nI (cp + cp / 2))]) (rest := [.ref L]) (wr := ((L, .inr (13, [.int mo, .ref ea, .int (nI n)])) :: [])) (jJ12_copyOf_2 l g E ho ea cp n ci el vs r (cp + cp / 2) (by omega) (by omega) (by omega) hci hca) kJ12_copyOf_2 q946 hx hb hml hown hts hRf hRl ho.1.1 hE hS hP hD hA ⟨Nat.le_trans (by decide) hRc, Nat.le_trans (by decide) hRs⟩ hl ⟨rfl, rfl⟩ rfl rfl (Nat.le_of_ble_eq_true rfl) dJ2_grow_2_37 (fun u_2 H locs _ hP hD hS _ _ => ?_)
    have hP : va_P (gD g) Cl ((ea, .inl (g.2.2.1 4, cp, .inr (.inr (.inr (.inr (elF n el)))))) :: ((u_2, .inl (g.2.2.1 4, (cp + cp / 2), .inr (.inr (.inr (.inr (elF n el)))))) :: ((L, .inr (13, [.int mo, .ref ea, .int (nI n)])) :: (elW ci n el vs ++ [])))) H := sg_P3e [[(L, .inr (13, [.int mo, .ref ea, .int (nI n)]))]] [[(ea, .inl (g.2.2.1 4, cp, .inr (.inr (.inr (.inr (elF n el))))))], [(u_2, .inl (g.2.2.1 4, (cp + cp / 2), .inr (.inr (.inr (.inr (elF n el))))))], elW ci n el vs] [[(ea, .inl (g.2.2.1 4, cp, .inr (.inr (.inr (.inr (elF n el))))))], [(u_2, .inl (g.2.2.1 4, (cp + cp / 2), .inr (.inr (.inr (.inr (elF n el))))))], [(L, .inr (13, [.int mo, .ref ea, .int (nI n)]))], elW ci n el vs] rfl rfl [1, 2, 0, 3] rfl hP
    have hD : va_D A ((ea, .inl (g.2.2.1 4, cp, .inr (.inr (.inr (.inr (elF n el)))))) :: ((u_2, .inl (g.2.2.1 4, (cp + cp / 2), .inr (.inr (.inr (.inr (elF n el)))))) :: ((L, .inr (13, [.int mo, .ref ea, .int (nI n)])) :: (elW ci n el vs ++ [])))) := sg_D3e [[(L, .inr (13, [.int mo, .ref ea, .int (nI n)]))]] [[(ea, .inl (g.2.2.1 4, cp, .inr (.inr (.inr (.inr (elF n el))))))], [(u_2, .inl (g.2.2.1 4, (cp + cp / 2), .inr (.inr (.inr (.inr (elF n el))))))], elW ci n el vs] [[(ea, .inl (g.2.2.1 4, cp, .inr (.inr (.inr (.inr (elF n el))))))], [(u_2, .inl (g.2.2.1 4, (cp + cp / 2), .inr (.inr (.inr (.inr (elF n el))))))], [(L, .inr (13, [.int mo, .ref ea, .int (nI n)]))], elW ci n el vs] rfl rfl [1, 2, 0, 3] rfl (by decide) hD
    refine lv_dup_x1 hx hb dJ2_grow_2_40 rfl rfl ?_
    refine va_put (D := gD g) (ci := 13) (v := .ref u_2) (ty := (.array (.object "java/lang/Object"))) (C := RJ2) (T := TJ2) (N := 3) hx hb hts in_J2 tyJ2 tyJ2_ok nmJ2 hown hK hP hD hS 2 rfl rfl 1 (by decide) (hts _ q149) (fun _ h9 => h9) rfl (by decide +kernel) rfl rfl (Nat.le_of_ble_eq_true rfl) dJ2_grow_2_41 (fun H locs hP hD hS => ?_)
    have hP : va_P (gD g) Cl ((ea, .inl (g.2.2.1 4, cp, .inr (.inr (.inr (.inr (elF n el)))))) :: ((u_2, .inl (g.2.2.1 4, (cp + cp / 2), .inr (.inr (.inr (.inr (elF n el)))))) :: ((L, .inr (13, [.int mo, .ref u_2, .int (nI n)])) :: (elW ci n el vs ++ [])))) H := hP
    have hD : va_D A ((ea, .inl (g.2.2.1 4, cp, .inr (.inr (.inr (.inr (elF n el)))))) :: ((u_2, .inl (g.2.2.1 4, (cp + cp / 2), .inr (.inr (.inr (.inr (elF n el)))))) :: ((L, .inr (13, [.int mo, .ref u_2, .int (nI n)])) :: (elW ci n el vs ++ [])))) := hD
    have hP : va_P (gD g) Cl ((L, .inr (13, [.int mo, .ref u_2, .int (nI n)])) :: ((u_2, .inl (g.2.2.1 4, (cp + cp / 2), .inr (.inr (.inr (.inr (elF n el)))))) :: (elW ci n el vs ++ []))) H := sg_P [[(ea, .inl (g.2.2.1 4, cp, .inr (.inr (.inr (.inr (elF n el))))))], [(u_2, .inl (g.2.2.1 4, (cp + cp / 2), .inr (.inr (.inr (.inr (elF n el))))))], [(L, .inr (13, [.int mo, .ref u_2, .int (nI n)]))], elW ci n el vs] [[(L, .inr (13, [.int mo, .ref u_2, .int (nI n)]))], [(u_2, .inl (g.2.2.1 4, (cp + cp / 2), .inr (.inr (.inr (.inr (elF n el))))))], elW ci n el vs] [2, 1, 3] rfl hP
    have hD : va_D A ((L, .inr (13, [.int mo, .ref u_2, .int (nI n)])) :: ((u_2, .inl (g.2.2.1 4, (cp + cp / 2), .inr (.inr (.inr (.inr (elF n el)))))) :: (elW ci n el vs ++ []))) := sg_D [[(ea, .inl (g.2.2.1 4, cp, .inr (.inr (.inr (.inr (elF n el))))))], [(u_2, .inl (g.2.2.1 4, (cp + cp / 2), .inr (.inr (.inr (.inr (elF n el))))))], [(L, .inr (13, [.int mo, .ref u_2, .int (nI n)]))], elW ci n el vs] [[(L, .inr (13, [.int mo, .ref u_2, .int (nI n)]))], [(u_2, .inl (g.2.2.1 4, (cp + cp / 2), .inr (.inr (.inr (.inr (elF n el))))))], elW ci n el vs] [2, 1, 3] rfl (by decide) hD
    exact hm_a hQ hx hb hr hlk (Or.inr ⟨_, rfl⟩) (Or.inr ⟨_, rfl⟩) u_2 rfl (trivial) hP hD hS (by decide) (by decide) dJ2_grow_2_44
  exact (show False by rcases hcp with h | h | h <;> subst h <;> exact absurd (by decide) c_1).elim
set_option maxHeartbeats 4000000 in
theorem jJ2_growG (l : Launch) (g : hG) (E : hEnv) (ho : jOk g E) (L : Nat) (mo : Int32) (ea : Nat) (cp : Nat) (n : Nat) (ci : Nat) (el : Nat → Nat) (vs : Nat → List Value) (r : vw_C) (hcp : cp = 10 ∨ cp = 15 ∨ cp = 22) (hnc : n = cp) (hci : Cl[ci]? = some r) (hca : Cond.castable r.1 "java/lang/Object" ∈ lw_tbl) : MM l yJ2_grow cJ2_grow 1 (some (.array (.object "java/lang/Object"))) 4 97 1 33 [.ref L] g E ((L, .inr (13, [.int mo, .ref ea, .int (nI n)])) :: ((ea, .inl (g.2.2.1 4, cp, .inr (.inr (.inr (.inr (elF n el)))))) :: (elW ci n el vs ++ []))) (S := Nat) (fun u => (some (.ref u))) (fun u => True) (fun u => ((L, .inr (13, [.int mo, .ref u, .int (nI n)])) :: ((u, .inl (g.2.2.1 4, (cp + cp / 2), .inr (.inr (.inr (.inr (elF n el)))))) :: (elW ci n el vs ++ [])))) := by
  refine MM.mk (by decide) (Nat.le_of_ble_eq_true rfl) ?_
  intro p e R s m args below meth c Q A H locs ls hX hRc hRs hP hD hE hS hA hnm hl hQ
  obtain ⟨hx, hb, hr, hlk, hml, hown, hts, hRf, hRl⟩ := hX
  have hown : s.vm.findClass RJ2 = some m.cls := hown
  have hj := ho.2 _ _ _ hE
  have hK := hj.kn
  have hl : lv_has ls 1 [(0, .ref L)] := hl
  refine lv_aload_n hx hb dJ2_grow_0 rfl (lv_at hl 0 rfl) ?_
  refine lv_aload_n hx hb dJ2_grow_1 rfl (lv_at hl 0 rfl) ?_
  refine va_get (D := gD g) (ci := 13) (v := .int (nI n)) (C := RJ2) (T := TJ2) (N := 3) hx hb hts in_J2 hown hK hP 0 rfl rfl 2 (by decide) (hts _ q152) (fun _ h9 => h9) rfl dJ2_grow_2 ?_
  refine lv_iconst (v := 1) hx hb dJ2_grow_5 (by decide) ?_
  refine lv_iadd hx hb dJ2_grow_6 ?_
  refine h_topi (v := nI (n + 1)) (h_nadd (a := n) (b := 1) (rfl) (rfl)) ?_
  have hrv9 := (va_recv hK hP (ci := 13) (q0 := 0) rfl rfl)
  have hP := sg_P2e [[(L, .inr (13, [.int mo, .ref ea, .int (nI n)]))], [(ea, .inl (g.2.2.1 4, cp, .inr (.inr (.inr (.inr (elF n el))))))], elW ci n el vs] [[(L, .inr (13, [.int mo, .ref ea, .int (nI n)]))], [(ea, .inl (g.2.2.1 4, cp, .inr (.inr (.inr (.inr (elF n el))))))], elW ci n el vs] [] ((L, .inr (13, [.int mo, .ref ea, .int (nI n)])) :: ((ea, .inl (g.2.2.1 4, cp, .inr (.inr (.inr (.inr (elF n el)))))) :: (elW ci n el vs ++ []))) [] rfl rfl [0, 1, 2] rfl hP
  have hD := sg_D2e [[(L, .inr (13, [.int mo, .ref ea, .int (nI n)]))], [(ea, .inl (g.2.2.1 4, cp, .inr (.inr (.inr (.inr (elF n el))))))], elW ci n el vs] [[(L, .inr (13, [.int mo, .ref ea, .int (nI n)]))], [(ea, .inl (g.2.2.1 4, cp, .inr (.inr (.inr (.inr (elF n el))))))], elW ci n el vs] [] ((L, .inr (13, [.int mo, .ref ea, .int (nI n)])) :: ((ea, .inl (g.2.2.1 4, cp, .inr (.inr (.inr (.inr (elF n el)))))) :: (elW ci n el vs ++ []))) [] rfl rfl [0, 1, 2] rfl (by decide) hD
  refine mcVA (As := [.int (nI (n + 1))]) (rest := []) (wr := []) (jJ2_grow_2G l g E ho L mo ea cp n ci el vs r (n + 1) hcp hnc hci hca (by omega)) kJ2_grow_2 q941 hx hb hml hown hts hRf hRl ho.1.1 hE hS hP hD hA ⟨Nat.le_trans (by decide) hRc, Nat.le_trans (by decide) hRs⟩ hrv9 hl ⟨rfl, rfl⟩ rfl rfl (Nat.le_of_ble_eq_true rfl) dJ2_grow_7 (fun u_1 H locs _ hP hD hS _ _ => ?_)
  have hP : va_P (gD g) Cl ((L, .inr (13, [.int mo, .ref u_1, .int (nI n)])) :: ((u_1, .inl (g.2.2.1 4, (cp + cp / 2), .inr (.inr (.inr (.inr (elF n el)))))) :: (elW ci n el vs ++ []))) H := sg_P3e [] [[(L, .inr (13, [.int mo, .ref u_1, .int (nI n)]))], [(u_1, .inl (g.2.2.1 4, (cp + cp / 2), .inr (.inr (.inr (.inr (elF n el))))))], elW ci n el vs] [[(L, .inr (13, [.int mo, .ref u_1, .int (nI n)]))], [(u_1, .inl (g.2.2.1 4, (cp + cp / 2), .inr (.inr (.inr (.inr (elF n el))))))], elW ci n el vs] rfl rfl [0, 1, 2] rfl hP
  have hD : va_D A ((L, .inr (13, [.int mo, .ref u_1, .int (nI n)])) :: ((u_1, .inl (g.2.2.1 4, (cp + cp / 2), .inr (.inr (.inr (.inr (elF n el)))))) :: (elW ci n el vs ++ []))) := sg_D3e [] [[(L, .inr (13, [.int mo, .ref u_1, .int (nI n)]))], [(u_1, .inl (g.2.2.1 4, (cp + cp / 2), .inr (.inr (.inr (.inr (elF n el))))))], elW ci n el vs] [[(L, .inr (13, [.int mo, .ref u_1, .int (nI n)]))], [(u_1, .inl (g.2.2.1 4, (cp + cp / 2), .inr (.inr (.inr (.inr (elF n el))))))], elW ci n el vs] rfl rfl [0, 1, 2] rfl (by decide) hD
  exact hm_a hQ hx hb hr hlk (Or.inr ⟨_, rfl⟩) (Or.inr ⟨_, rfl⟩) u_1 rfl (trivial) hP hD hS (by decide) (by decide) dJ2_grow_10
set_option maxHeartbeats 4000000 in
theorem jJ2_add_2G (l : Launch) (g : hG) (E : hEnv) (ho : jOk g E) (L : Nat) (mo : Int32) (ea : Nat) (cp : Nat) (n : Nat) (ci : Nat) (el : Nat → Nat) (vs : Nat → List Value) (r : vw_C) (v : Nat) (vv : List Value) (hcp : cp = 10 ∨ cp = 15 ∨ cp = 22) (hnc : n = cp) (hci : Cl[ci]? = some r) (hca : Cond.castable r.1 "java/lang/Object" ∈ lw_tbl) : MM l yJ2_add_2 cJ2_add_2 4 none 5 117 1 33 [.ref L, .ref v, .ref ea, .int (nI n)] g E ((L, .inr (13, [.int mo, .ref ea, .int (nI n)])) :: ((ea, .inl (g.2.2.1 4, cp, .inr (.inr (.inr (.inr (elF n el)))))) :: ((v, .inr (ci, vv)) :: (elW ci n el vs ++ [])))) (S := Nat) (fun u => none) (fun u => True) (fun u => ((L, .inr (13, [.int mo, .ref u, .int (nI (n + 1))])) :: ((u, .inl (g.2.2.1 4, (cp + cp / 2), .inr (.inr (.inr (.inr (va_up (elF n el) n (some v))))))) :: ((v, .inr (ci, vv)) :: (elW ci n el vs ++ []))))) := by
  refine MM.mk (by decide) (Nat.le_of_ble_eq_true rfl) ?_
  intro p e R s m args below meth c Q A H locs ls hX hRc hRs hP hD hE hS hA hnm hl hQ
  obtain ⟨hx, hb, hr, hlk, hml, hown, hts, hRf, hRl⟩ := hX
  have hown : s.vm.findClass RJ2 = some m.cls := hown
  have hj := ho.2 _ _ _ hE
  have hK := hj.kn
  have hl : lv_has ls 4 [(0, .ref L), (1, .ref v), (2, .ref ea), (3, .int (nI n))] := hl
  refine lv_iload_n hx hb dJ2_add_2_0 rfl (lv_at hl 3 rfl) ?_
  refine lv_aload_n hx hb dJ2_add_2_1 rfl (lv_at hl 2 rfl) ?_
  refine va_alen (v := nI cp) hx hb hK hP 1 4 rfl rfl rfl dJ2_add_2_2 ?_
  refine lv_icmp_ne (tgt := 11) hx hb dJ2_add_2_3 (by decide) (fun c_1 => ?_) (fun c_1 => ?_)
  · exact (show False by rw [hnc] at c_1; exact c_1 rfl).elim
  refine lv_aload_n hx hb dJ2_add_2_6 rfl (lv_at hl 0 rfl) ?_
  have hrv9 := (va_recv hK hP (ci := 13) (q0 := 0) rfl rfl)
  have hP := sg_P2e [[(L, .inr (13, [.int mo, .ref ea, .int (nI n)]))], [(ea, .inl (g.2.2.1 4, cp, .inr (.inr (.inr (.inr (elF n el))))))], [(v, .inr (ci, vv))], elW ci n el vs] [[(L, .inr (13, [.int mo, .ref ea, .int (nI n)]))], [(ea, .inl (g.2.2.1 4, cp, .inr (.inr (.inr (.inr (elF n el))))))], elW ci n el vs] [[(v, .inr (ci, vv))]] ((L, .inr (13, [.int mo, .ref ea, .int (nI n)])) :: ((ea, .inl (g.2.2.1 4, cp, .inr (.inr (.inr (.inr (elF n el)))))) :: (elW ci n el vs ++ []))) ((v, .inr (ci, vv)) :: []) rfl rfl [0, 1, 3, 2] rfl hP
  have hD := sg_D2e [[(L, .inr (13, [.int mo, .ref ea, .int (nI n)]))], [(ea, .inl (g.2.2.1 4, cp, .inr (.inr (.inr (.inr (elF n el))))))], [(v, .inr (ci, vv))], elW ci n el vs] [[(L, .inr (13, [.int mo, .ref ea, .int (nI n)]))], [(ea, .inl (g.2.2.1 4, cp, .inr (.inr (.inr (.inr (elF n el))))))], elW ci n el vs] [[(v, .inr (ci, vv))]] ((L, .inr (13, [.int mo, .ref ea, .int (nI n)])) :: ((ea, .inl (g.2.2.1 4, cp, .inr (.inr (.inr (.inr (elF n el)))))) :: (elW ci n el vs ++ []))) ((v, .inr (ci, vv)) :: []) rfl rfl [0, 1, 3, 2] rfl (by decide) hD
  refine mcVA (As := []) (rest := []) (wr := ((v, .inr (ci, vv)) :: [])) (jJ2_growG l g E ho L mo ea cp n ci el vs r hcp hnc hci hca) kJ2_grow q937 hx hb hml hown hts hRf hRl ho.1.1 hE hS hP hD hA ⟨Nat.le_trans (by decide) hRc, Nat.le_trans (by decide) hRs⟩ hrv9 hl ⟨rfl, rfl⟩ rfl rfl (Nat.le_of_ble_eq_true rfl) dJ2_add_2_7 (fun u_2 H locs _ hP hD hS _ _ => ?_)
  have hP : va_P (gD g) Cl ((L, .inr (13, [.int mo, .ref u_2, .int (nI n)])) :: ((u_2, .inl (g.2.2.1 4, (cp + cp / 2), .inr (.inr (.inr (.inr (elF n el)))))) :: ((v, .inr (ci, vv)) :: (elW ci n el vs ++ [])))) H := sg_P3e [[(v, .inr (ci, vv))]] [[(L, .inr (13, [.int mo, .ref u_2, .int (nI n)]))], [(u_2, .inl (g.2.2.1 4, (cp + cp / 2), .inr (.inr (.inr (.inr (elF n el))))))], elW ci n el vs] [[(L, .inr (13, [.int mo, .ref u_2, .int (nI n)]))], [(u_2, .inl (g.2.2.1 4, (cp + cp / 2), .inr (.inr (.inr (.inr (elF n el))))))], [(v, .inr (ci, vv))], elW ci n el vs] rfl rfl [1, 2, 0, 3] rfl hP
  have hD : va_D A ((L, .inr (13, [.int mo, .ref u_2, .int (nI n)])) :: ((u_2, .inl (g.2.2.1 4, (cp + cp / 2), .inr (.inr (.inr (.inr (elF n el)))))) :: ((v, .inr (ci, vv)) :: (elW ci n el vs ++ [])))) := sg_D3e [[(v, .inr (ci, vv))]] [[(L, .inr (13, [.int mo, .ref u_2, .int (nI n)]))], [(u_2, .inl (g.2.2.1 4, (cp + cp / 2), .inr (.inr (.inr (.inr (elF n el))))))], elW ci n el vs] [[(L, .inr (13, [.int mo, .ref u_2, .int (nI n)]))], [(u_2, .inl (g.2.2.1 4, (cp + cp / 2), .inr (.inr (.inr (.inr (elF n el))))))], [(v, .inr (ci, vv))], elW ci n el vs] rfl rfl [1, 2, 0, 3] rfl (by decide) hD
  refine lv_astore_n (lv' := [(2, .ref u_2), (0, .ref L), (1, .ref v), (3, .int (nI n))]) hx hb dJ2_add_2_10 rfl hl (by decide) rfl (fun ls hl => ?_)
  refine lv_aload_n hx hb dJ2_add_2_11 rfl (lv_at hl 0 rfl) ?_
  refine lv_iload_n hx hb dJ2_add_2_12 rfl (lv_at hl 3 rfl) ?_
  refine lv_aload_n hx hb dJ2_add_2_13 rfl (lv_at hl 2 rfl) ?_
  refine h_asto (f := (elF n el)) hx hb hK hP hD hS 1 4 2 ci rfl rfl (hj.tw hca rfl) rfl hci (k := n) rfl (by omega) (by omega) dJ2_add_2_14 (fun H locs hP hD hS => ?_)
  have hP : va_P (gD g) Cl ((L, .inr (13, [.int mo, .ref u_2, .int (nI n)])) :: ((u_2, .inl (g.2.2.1 4, (cp + cp / 2), .inr (.inr (.inr (.inr (va_up (elF n el) n (some v))))))) :: ((v, .inr (ci, vv)) :: (elW ci n el vs ++ [])))) H := hP
  have hD : va_D A ((L, .inr (13, [.int mo, .ref u_2, .int (nI n)])) :: ((u_2, .inl (g.2.2.1 4, (cp + cp / 2), .inr (.inr (.inr (.inr (va_up (elF n el) n (some v))))))) :: ((v, .inr (ci, vv)) :: (elW ci n el vs ++ [])))) := hD
  refine lv_aload_n hx hb dJ2_add_2_15 rfl (lv_at hl 1 rfl) ?_
  refine lv_iload_n hx hb dJ2_add_2_16 rfl (lv_at hl 3 rfl) ?_
  refine lv_iconst (v := 1) hx hb dJ2_add_2_17 (by decide) ?_
  refine lv_iadd hx hb dJ2_add_2_18 ?_
  refine h_topi (v := nI (n + 1)) (h_nadd (a := n) (b := 1) (rfl) (rfl)) ?_
  refine va_put (D := gD g) (ci := 13) (v := .int (nI (n + 1))) (ty := .int) (C := RJ2) (T := TJ2) (N := 3) hx hb hts in_J2 tyJ2 tyJ2_ok nmJ2 hown hK hP hD hS 0 rfl rfl 2 (by decide) (hts _ q152) (fun _ h9 => h9) rfl (by decide +kernel) rfl rfl (Nat.le_of_ble_eq_true rfl) dJ2_add_2_19 (fun H locs hP hD hS => ?_)
  have hP : va_P (gD g) Cl ((L, .inr (13, [.int mo, .ref u_2, .int (nI (n + 1))])) :: ((u_2, .inl (g.2.2.1 4, (cp + cp / 2), .inr (.inr (.inr (.inr (va_up (elF n el) n (some v))))))) :: ((v, .inr (ci, vv)) :: (elW ci n el vs ++ [])))) H := hP
  have hD : va_D A ((L, .inr (13, [.int mo, .ref u_2, .int (nI (n + 1))])) :: ((u_2, .inl (g.2.2.1 4, (cp + cp / 2), .inr (.inr (.inr (.inr (va_up (elF n el) n (some v))))))) :: ((v, .inr (ci, vv)) :: (elW ci n el vs ++ [])))) := hD
  exact hm_v hQ hx hb hr hlk u_2 rfl (trivial) hP hD hS (by decide) (by decide) dJ2_add_2_22
set_option maxHeartbeats 4000000 in
theorem jJ2_addG (l : Launch) (g : hG) (E : hEnv) (ho : jOk g E) (L : Nat) (mo : Int32) (ea : Nat) (cp : Nat) (n : Nat) (ci : Nat) (el : Nat → Nat) (vs : Nat → List Value) (r : vw_C) (v : Nat) (vv : List Value) (hcp : cp = 10 ∨ cp = 15 ∨ cp = 22) (hnc : n = cp) (hci : Cl[ci]? = some r) (hca : Cond.castable r.1 "java/lang/Object" ∈ lw_tbl) : MM l yJ2_add cJ2_add 2 (some .boolean) 6 140 1 33 [.ref L, .ref v] g E ((L, .inr (13, [.int mo, .ref ea, .int (nI n)])) :: ((ea, .inl (g.2.2.1 4, cp, .inr (.inr (.inr (.inr (elF n el)))))) :: ((v, .inr (ci, vv)) :: (elW ci n el vs ++ [])))) (S := Nat) (fun u => (some (.int 1))) (fun u => True) (fun u => ((L, .inr (13, [.int (mo + 1), .ref u, .int (nI (n + 1))])) :: ((u, .inl (g.2.2.1 4, (cp + cp / 2), .inr (.inr (.inr (.inr (va_up (elF n el) n (some v))))))) :: ((v, .inr (ci, vv)) :: (elW ci n el vs ++ []))))) := by
  refine MM.mk (by decide) (Nat.le_of_ble_eq_true rfl) ?_
  intro p e R s m args below meth c Q A H locs ls hX hRc hRs hP hD hE hS hA hnm hl hQ
  obtain ⟨hx, hb, hr, hlk, hml, hown, hts, hRf, hRl⟩ := hX
  have hown : s.vm.findClass RJ2 = some m.cls := hown
  have hj := ho.2 _ _ _ hE
  have hK := hj.kn
  have hl : lv_has ls 2 [(0, .ref L), (1, .ref v)] := hl
  refine lv_aload_n hx hb dJ2_add_0 rfl (lv_at hl 0 rfl) ?_
  refine lv_dup hx hb dJ2_add_1 rfl ?_
  refine va_get (D := gD g) (ci := 13) (v := .int mo) (C := RJ2) (T := TJ2) (N := 3) hx hb hts in_J2 hown hK hP 0 rfl rfl 0 (by decide) (hts _ q156) (fun x9 h9 => u_same (hts _ q155) x9 h9) rfl dJ2_add_2 ?_
  refine lv_iconst (v := 1) hx hb dJ2_add_5 (by decide) ?_
  refine lv_iadd hx hb dJ2_add_6 ?_
  refine va_put (D := gD g) (ci := 13) (v := .int (mo + 1)) (ty := .int) (C := RJ2) (T := TJ2) (N := 3) hx hb hts in_J2 tyJ2 tyJ2_ok nmJ2 hown hK hP hD hS 0 rfl rfl 0 (by decide) (hts _ q156) (fun x9 h9 => u_same (hts _ q155) x9 h9) rfl (by decide +kernel) rfl rfl (Nat.le_of_ble_eq_true rfl) dJ2_add_7 (fun H locs hP hD hS => ?_)
  have hP : va_P (gD g) Cl ((L, .inr (13, [.int (mo + 1), .ref ea, .int (nI n)])) :: ((ea, .inl (g.2.2.1 4, cp, .inr (.inr (.inr (.inr (elF n el)))))) :: ((v, .inr (ci, vv)) :: (elW ci n el vs ++ [])))) H := hP
  have hD : va_D A ((L, .inr (13, [.int (mo + 1), .ref ea, .int (nI n)])) :: ((ea, .inl (g.2.2.1 4, cp, .inr (.inr (.inr (.inr (elF n el)))))) :: ((v, .inr (ci, vv)) :: (elW ci n el vs ++ [])))) := hD
  refine lv_aload_n hx hb dJ2_add_10 rfl (lv_at hl 0 rfl) ?_
  refine lv_aload_n hx hb dJ2_add_11 rfl (lv_at hl 1 rfl) ?_
  refine lv_aload_n hx hb dJ2_add_12 rfl (lv_at hl 0 rfl) ?_
  refine va_get (D := gD g) (ci := 13) (v := .ref ea) (C := RJ2) (T := TJ2) (N := 3) hx hb hts in_J2 hown hK hP 0 rfl rfl 1 (by decide) (hts _ q149) (fun _ h9 => h9) rfl dJ2_add_13 ?_
  refine lv_aload_n hx hb dJ2_add_16 rfl (lv_at hl 0 rfl) ?_
  refine va_get (D := gD g) (ci := 13) (v := .int (nI n)) (C := RJ2) (T := TJ2) (N := 3) hx hb hts in_J2 hown hK hP 0 rfl rfl 2 (by decide) (hts _ q152) (fun _ h9 => h9) rfl dJ2_add_17 ?_
  have hrv9 := (va_recv hK hP (ci := 13) (q0 := 0) rfl rfl)
  have hP := sg_P2e [[(L, .inr (13, [.int (mo + 1), .ref ea, .int (nI n)]))], [(ea, .inl (g.2.2.1 4, cp, .inr (.inr (.inr (.inr (elF n el))))))], [(v, .inr (ci, vv))], elW ci n el vs] [[(L, .inr (13, [.int (mo + 1), .ref ea, .int (nI n)]))], [(ea, .inl (g.2.2.1 4, cp, .inr (.inr (.inr (.inr (elF n el))))))], [(v, .inr (ci, vv))], elW ci n el vs] [] ((L, .inr (13, [.int (mo + 1), .ref ea, .int (nI n)])) :: ((ea, .inl (g.2.2.1 4, cp, .inr (.inr (.inr (.inr (elF n el)))))) :: ((v, .inr (ci, vv)) :: (elW ci n el vs ++ [])))) [] rfl rfl [0, 1, 2, 3] rfl hP
  have hD := sg_D2e [[(L, .inr (13, [.int (mo + 1), .ref ea, .int (nI n)]))], [(ea, .inl (g.2.2.1 4, cp, .inr (.inr (.inr (.inr (elF n el))))))], [(v, .inr (ci, vv))], elW ci n el vs] [[(L, .inr (13, [.int (mo + 1), .ref ea, .int (nI n)]))], [(ea, .inl (g.2.2.1 4, cp, .inr (.inr (.inr (.inr (elF n el))))))], [(v, .inr (ci, vv))], elW ci n el vs] [] ((L, .inr (13, [.int (mo + 1), .ref ea, .int (nI n)])) :: ((ea, .inl (g.2.2.1 4, cp, .inr (.inr (.inr (.inr (elF n el)))))) :: ((v, .inr (ci, vv)) :: (elW ci n el vs ++ [])))) [] rfl rfl [0, 1, 2, 3] rfl (by decide) hD
  refine mcVA (As := [.ref v, .ref ea, .int (nI n)]) (rest := []) (wr := []) (jJ2_add_2G l g E ho L (mo + 1) ea cp n ci el vs r v vv hcp hnc hci hca) kJ2_add_2 q933 hx hb hml hown hts hRf hRl ho.1.1 hE hS hP hD hA ⟨Nat.le_trans (by decide) hRc, Nat.le_trans (by decide) hRs⟩ hrv9 hl ⟨rfl, rfl⟩ rfl rfl (Nat.le_of_ble_eq_true rfl) dJ2_add_20 (fun u_1 H locs _ hP hD hS _ _ => ?_)
  have hP : va_P (gD g) Cl ((L, .inr (13, [.int (mo + 1), .ref u_1, .int (nI (n + 1))])) :: ((u_1, .inl (g.2.2.1 4, (cp + cp / 2), .inr (.inr (.inr (.inr (va_up (elF n el) n (some v))))))) :: ((v, .inr (ci, vv)) :: (elW ci n el vs ++ [])))) H := sg_P3e [] [[(L, .inr (13, [.int (mo + 1), .ref u_1, .int (nI (n + 1))]))], [(u_1, .inl (g.2.2.1 4, (cp + cp / 2), .inr (.inr (.inr (.inr (va_up (elF n el) n (some v)))))))], [(v, .inr (ci, vv))], elW ci n el vs] [[(L, .inr (13, [.int (mo + 1), .ref u_1, .int (nI (n + 1))]))], [(u_1, .inl (g.2.2.1 4, (cp + cp / 2), .inr (.inr (.inr (.inr (va_up (elF n el) n (some v)))))))], [(v, .inr (ci, vv))], elW ci n el vs] rfl rfl [0, 1, 2, 3] rfl hP
  have hD : va_D A ((L, .inr (13, [.int (mo + 1), .ref u_1, .int (nI (n + 1))])) :: ((u_1, .inl (g.2.2.1 4, (cp + cp / 2), .inr (.inr (.inr (.inr (va_up (elF n el) n (some v))))))) :: ((v, .inr (ci, vv)) :: (elW ci n el vs ++ [])))) := sg_D3e [] [[(L, .inr (13, [.int (mo + 1), .ref u_1, .int (nI (n + 1))]))], [(u_1, .inl (g.2.2.1 4, (cp + cp / 2), .inr (.inr (.inr (.inr (va_up (elF n el) n (some v)))))))], [(v, .inr (ci, vv))], elW ci n el vs] [[(L, .inr (13, [.int (mo + 1), .ref u_1, .int (nI (n + 1))]))], [(u_1, .inl (g.2.2.1 4, (cp + cp / 2), .inr (.inr (.inr (.inr (va_up (elF n el) n (some v)))))))], [(v, .inr (ci, vv))], elW ci n el vs] rfl rfl [0, 1, 2, 3] rfl (by decide) hD
  refine lv_iconst (v := 1) hx hb dJ2_add_23 (by decide) ?_
  exact hm_i hQ hx hb hr hlk rfl u_1 (rfl) (trivial) hP hD hS (by decide) (by decide) dJ2_add_24
theorem kJ2_fastRemove : hkV RJ2 yJ2_fastRemove cJ2_fastRemove 4 none 2 := ⟨q1184, qs6, q72, q1185, rfl, by decide +kernel⟩
set_option maxHeartbeats 4000000 in
theorem jJ2_fastRemove (l : Launch) (g : hG) (E : hEnv) (ho : jOk g E) (L : Nat) (mo : Int32) (ea : Nat) (cp : Nat) (n : Nat) (ci : Nat) (el : Nat → Nat) (vs : Nat → List Value) (r : vw_C) (k : Nat) (hk : k < n) (hn : n ≤ cp) (hc : cp < 34) (hci : Cl[ci]? = some r) (hca : Cond.castable r.1 "java/lang/Object" ∈ lw_tbl) : MM l yJ2_fastRemove cJ2_fastRemove 4 none 1 30 0 0 [.ref L, .ref ea, .int (nI k)] g E ((L, .inr (13, [.int mo, .ref ea, .int (nI n)])) :: ((ea, .inl (g.2.2.1 4, cp, .inr (.inr (.inr (.inr (elF n el)))))) :: (elW ci n el vs ++ []))) (S := Unit) (fun _ => none) (fun _ => True) (fun _ => ((L, .inr (13, [.int (mo + 1), .ref ea, .int (nI (n - 1))])) :: ((ea, .inl (g.2.2.1 4, cp, .inr (.inr (.inr (.inr (elF (n - 1) (rmF el k))))))) :: (elW ci n el vs ++ [])))) := by
  refine MM.mk (by decide) (Nat.le_of_ble_eq_true rfl) ?_
  intro p e R s m args below meth c Q A H locs ls hX hRc hRs hP hD hE hS hA hnm hl hQ
  obtain ⟨hx, hb, hr, hlk, hml, hown, hts, hRf, hRl⟩ := hX
  have hown : s.vm.findClass RJ2 = some m.cls := hown
  have hj := ho.2 _ _ _ hE
  have hK := hj.kn
  have hl : lv_has ls 4 [(0, .ref L), (1, .ref ea), (2, .int (nI k))] := hl
  refine lv_aload_n hx hb dJ2_fastRemove_0 rfl (lv_at hl 0 rfl) ?_
  refine lv_dup hx hb dJ2_fastRemove_1 rfl ?_
  refine va_get (D := gD g) (ci := 13) (v := .int mo) (C := RJ2) (T := TJ2) (N := 3) hx hb hts in_J2 hown hK hP 0 rfl rfl 0 (by decide) (hts _ q156) (fun x9 h9 => u_same (hts _ q155) x9 h9) rfl dJ2_fastRemove_2 ?_
  refine lv_iconst (v := 1) hx hb dJ2_fastRemove_5 (by decide) ?_
  refine lv_iadd hx hb dJ2_fastRemove_6 ?_
  refine va_put (D := gD g) (ci := 13) (v := .int (mo + 1)) (ty := .int) (C := RJ2) (T := TJ2) (N := 3) hx hb hts in_J2 tyJ2 tyJ2_ok nmJ2 hown hK hP hD hS 0 rfl rfl 0 (by decide) (hts _ q156) (fun x9 h9 => u_same (hts _ q155) x9 h9) rfl (by decide +kernel) rfl rfl (Nat.le_of_ble_eq_true rfl) dJ2_fastRemove_7 (fun H locs hP hD hS => ?_)
  have hP : va_P (gD g) Cl ((L, .inr (13, [.int (mo + 1), .ref ea, .int (nI n)])) :: ((ea, .inl (g.2.2.1 4, cp, .inr (.inr (.inr (.inr (elF n el)))))) :: (elW ci n el vs ++ []))) H := hP
  have hD : va_D A ((L, .inr (13, [.int (mo + 1), .ref ea, .int (nI n)])) :: ((ea, .inl (g.2.2.1 4, cp, .inr (.inr (.inr (.inr (elF n el)))))) :: (elW ci n el vs ++ []))) := hD
  refine lv_aload_n hx hb dJ2_fastRemove_10 rfl (lv_at hl 0 rfl) ?_
  refine va_get (D := gD g) (ci := 13) (v := .int (nI n)) (C := RJ2) (T := TJ2) (N := 3) hx hb hts in_J2 hown hK hP 0 rfl rfl 2 (by decide) (hts _ q152) (fun _ h9 => h9) rfl dJ2_fastRemove_11 ?_
  refine lv_iconst (v := 1) hx hb dJ2_fastRemove_14 (by decide) ?_
  refine lv_isub hx hb dJ2_fastRemove_15 ?_
  refine h_topi (v := nI (n - 1)) (h_nsub (a := n) (b := 1) (rfl) (rfl) (by omega)) ?_
  refine lv_dup hx hb dJ2_fastRemove_16 rfl ?_
  refine lv_istore_n (lv' := [(3, .int (nI (n - 1))), (0, .ref L), (1, .ref ea), (2, .int (nI k))]) hx hb dJ2_fastRemove_17 rfl hl (by decide) rfl (fun ls hl => ?_)
  refine lv_iload_n hx hb dJ2_fastRemove_18 rfl (lv_at hl 3 rfl) ?_
  refine lv_icmp_le (tgt := 34) hx hb dJ2_fastRemove_19 (by decide) (fun c_1 => ?_) (fun c_1 => ?_)
  · have hkk : ¬ k < n - 1 := fun z => absurd ((nI_leI (by omega) (by omega)).mp c_1) (by omega)
    refine lv_aload_n hx hb dJ2_fastRemove_34 rfl (lv_at hl 2 rfl) ?_
    refine lv_aload_n hx hb dJ2_fastRemove_35 rfl (lv_at hl 1 rfl) ?_
    refine lv_iload_n hx hb dJ2_fastRemove_36 rfl (lv_at hl 0 rfl) ?_
    refine lv_dup_x1 hx hb dJ2_fastRemove_37 rfl rfl ?_
    refine va_put (D := gD g) (ci := 13) (v := .int (nI (n - 1))) (ty := .int) (C := RJ2) (T := TJ2) (N := 3) hx hb hts in_J2 tyJ2 tyJ2_ok nmJ2 hown hK hP hD hS 0 rfl rfl 2 (by decide) (hts _ q152) (fun _ h9 => h9) rfl (by decide +kernel) rfl rfl (Nat.le_of_ble_eq_true rfl) dJ2_fastRemove_38 (fun H locs hP hD hS => ?_)
    have hP : va_P (gD g) Cl ((L, .inr (13, [.int (mo + 1), .ref ea, .int (nI (n - 1))])) :: ((ea, .inl (g.2.2.1 4, cp, .inr (.inr (.inr (.inr (elF n el)))))) :: (elW ci n el vs ++ []))) H := hP
    have hD : va_D A ((L, .inr (13, [.int (mo + 1), .ref ea, .int (nI (n - 1))])) :: ((ea, .inl (g.2.2.1 4, cp, .inr (.inr (.inr (.inr (elF n el)))))) :: (elW ci n el vs ++ []))) := hD
    refine lv_null hx hb dJ2_fastRemove_41 ?_
    refine h_astn (f := (elF n el)) hx hb hK hP hD hS 1 4 rfl rfl (k := n - 1) rfl (by omega) (by omega) dJ2_fastRemove_42 (fun H locs hP hD hS => ?_)
    have hP : va_P (gD g) Cl ((L, .inr (13, [.int (mo + 1), .ref ea, .int (nI (n - 1))])) :: ((ea, .inl (g.2.2.1 4, cp, .inr (.inr (.inr (.inr (va_up (elF n el) (n - 1) none)))))) :: (elW ci n el vs ++ []))) H := hP
    have hD : va_D A ((L, .inr (13, [.int (mo + 1), .ref ea, .int (nI (n - 1))])) :: ((ea, .inl (g.2.2.1 4, cp, .inr (.inr (.inr (.inr (va_up (elF n el) (n - 1) none)))))) :: (elW ci n el vs ++ []))) := hD
    rw [elF_rmL el k (by omega)] at hP hD
    have hP : va_P (gD g) Cl ((L, .inr (13, [.int (mo + 1), .ref ea, .int (nI (n - 1))])) :: ((ea, .inl (g.2.2.1 4, cp, .inr (.inr (.inr (.inr (elF (n - 1) (rmF el k))))))) :: (elW ci n el vs ++ []))) H := hP
    have hD : va_D A ((L, .inr (13, [.int (mo + 1), .ref ea, .int (nI (n - 1))])) :: ((ea, .inl (g.2.2.1 4, cp, .inr (.inr (.inr (.inr (elF (n - 1) (rmF el k))))))) :: (elW ci n el vs ++ []))) := hD
    exact hm_v hQ hx hb hr hlk () rfl (trivial) hP hD hS (by decide) (by decide) dJ2_fastRemove_43
  have hkk : k < n - 1 := Nat.not_le.mp (fun q => c_1 ((nI_leI (a := n - 1) (b := k) (by omega) (by omega)).mpr q))
  refine lv_aload_n hx hb dJ2_fastRemove_22 rfl (lv_at hl 2 rfl) ?_
  refine lv_iload_n hx hb dJ2_fastRemove_23 rfl (lv_at hl 3 rfl) ?_
  refine lv_iconst (v := 1) hx hb dJ2_fastRemove_24 (by decide) ?_
  refine lv_iadd hx hb dJ2_fastRemove_25 ?_
  refine h_topi (v := nI (k + 1)) (h_nadd (a := k) (b := 1) (rfl) (rfl)) ?_
  refine lv_aload_n hx hb dJ2_fastRemove_26 rfl (lv_at hl 2 rfl) ?_
  refine lv_iload_n hx hb dJ2_fastRemove_27 rfl (lv_at hl 3 rfl) ?_
  refine lv_iload_n hx hb dJ2_fastRemove_28 rfl (lv_at hl 0 rfl) ?_
  refine lv_iload_n hx hb dJ2_fastRemove_29 rfl (lv_at hl 3 rfl) ?_
  refine lv_isub hx hb dJ2_fastRemove_30 ?_
  refine h_topi (v := nI ((n - 1) - k)) (h_nsub (a := n - 1) (b := k) (rfl) (rfl) (by omega)) ?_
  refine h_copyq (f := (elF n el)) (g := (elF n el)) hx hb hml hl hown (hts _ q1186) (hts _ q385) (hts _ q384) (hts _ q89) hK hP hD hS 1 1 4 rfl rfl rfl (k + 1) k ((n - 1) - k) rfl rfl rfl (by omega) (by omega) (by omega) (by omega) hci (hj.tw hca rfl) vs (fun i y hy => by obtain ⟨h1, rfl⟩ := elF_some hy; exact el_see (R := []) i h1 (sg_P [[(L, .inr (13, [.int (mo + 1), .ref ea, .int (nI n)]))], [(ea, .inl (g.2.2.1 4, cp, .inr (.inr (.inr (.inr (elF n el))))))], elW ci n el vs] [elW ci n el vs] [2] rfl hP)) (Nat.le_trans (Nat.le_of_ble_eq_true rfl) hRf) (Nat.le_trans (Nat.le_of_ble_eq_true rfl) hRl) dJ2_fastRemove_31 (fun H locs hP hD hS => ?_)
  have hP : va_P (gD g) Cl ((L, .inr (13, [.int (mo + 1), .ref ea, .int (nI n)])) :: ((ea, .inl (g.2.2.1 4, cp, .inr (.inr (.inr (.inr (va_cpy (elF n el) (elF n el) (k + 1) k ((n - 1) - k))))))) :: (elW ci n el vs ++ []))) H := hP
  have hD : va_D A ((L, .inr (13, [.int (mo + 1), .ref ea, .int (nI n)])) :: ((ea, .inl (g.2.2.1 4, cp, .inr (.inr (.inr (.inr (va_cpy (elF n el) (elF n el) (k + 1) k ((n - 1) - k))))))) :: (elW ci n el vs ++ []))) := hD
  refine lv_aload_n hx hb dJ2_fastRemove_34 rfl (lv_at hl 2 rfl) ?_
  refine lv_aload_n hx hb dJ2_fastRemove_35 rfl (lv_at hl 1 rfl) ?_
  refine lv_iload_n hx hb dJ2_fastRemove_36 rfl (lv_at hl 0 rfl) ?_
  refine lv_dup_x1 hx hb dJ2_fastRemove_37 rfl rfl ?_
  refine va_put (D := gD g) (ci := 13) (v := .int (nI (n - 1))) (ty := .int) (C := RJ2) (T := TJ2) (N := 3) hx hb hts in_J2 tyJ2 tyJ2_ok nmJ2 hown hK hP hD hS 0 rfl rfl 2 (by decide) (hts _ q152) (fun _ h9 => h9) rfl (by decide +kernel) rfl rfl (Nat.le_of_ble_eq_true rfl) dJ2_fastRemove_38 (fun H locs hP hD hS => ?_)
  have hP : va_P (gD g) Cl ((L, .inr (13, [.int (mo + 1), .ref ea, .int (nI (n - 1))])) :: ((ea, .inl (g.2.2.1 4, cp, .inr (.inr (.inr (.inr (va_cpy (elF n el) (elF n el) (k + 1) k ((n - 1) - k))))))) :: (elW ci n el vs ++ []))) H := hP
  have hD : va_D A ((L, .inr (13, [.int (mo + 1), .ref ea, .int (nI (n - 1))])) :: ((ea, .inl (g.2.2.1 4, cp, .inr (.inr (.inr (.inr (va_cpy (elF n el) (elF n el) (k + 1) k ((n - 1) - k))))))) :: (elW ci n el vs ++ []))) := hD
  refine lv_null hx hb dJ2_fastRemove_41 ?_
  refine h_astn (f := (va_cpy (elF n el) (elF n el) (k + 1) k ((n - 1) - k))) hx hb hK hP hD hS 1 4 rfl rfl (k := n - 1) rfl (by omega) (by omega) dJ2_fastRemove_42 (fun H locs hP hD hS => ?_)
  have hP : va_P (gD g) Cl ((L, .inr (13, [.int (mo + 1), .ref ea, .int (nI (n - 1))])) :: ((ea, .inl (g.2.2.1 4, cp, .inr (.inr (.inr (.inr (va_up (va_cpy (elF n el) (elF n el) (k + 1) k ((n - 1) - k)) (n - 1) none)))))) :: (elW ci n el vs ++ []))) H := hP
  have hD : va_D A ((L, .inr (13, [.int (mo + 1), .ref ea, .int (nI (n - 1))])) :: ((ea, .inl (g.2.2.1 4, cp, .inr (.inr (.inr (.inr (va_up (va_cpy (elF n el) (elF n el) (k + 1) k ((n - 1) - k)) (n - 1) none)))))) :: (elW ci n el vs ++ []))) := hD
  rw [elF_rm el k hk] at hP hD
  have hP : va_P (gD g) Cl ((L, .inr (13, [.int (mo + 1), .ref ea, .int (nI (n - 1))])) :: ((ea, .inl (g.2.2.1 4, cp, .inr (.inr (.inr (.inr (elF (n - 1) (rmF el k))))))) :: (elW ci n el vs ++ []))) H := hP
  have hD : va_D A ((L, .inr (13, [.int (mo + 1), .ref ea, .int (nI (n - 1))])) :: ((ea, .inl (g.2.2.1 4, cp, .inr (.inr (.inr (.inr (elF (n - 1) (rmF el k))))))) :: (elW ci n el vs ++ []))) := hD
  exact hm_v hQ hx hb hr hlk () rfl (trivial) hP hD hS (by decide) (by decide) dJ2_fastRemove_43
-- J2_remove: by interface alone
set_option maxHeartbeats 4000000 in
theorem jJ2_remove (l : Launch) (g : hG) (E : hEnv) (ho : jOk g E) (L : Nat) (mo : Int32) (ea : Nat) (cp : Nat) (n : Nat) (ci : Nat) (el : Nat → Nat) (vs : Nat → List Value) (r : vw_C) (k : Nat) (hk : k < n) (hn : n ≤ cp) (hc : cp < 34) (hci : Cl[ci]? = some r) (hca : Cond.castable r.1 "java/lang/Object" ∈ lw_tbl) : MM l yJ2_remove cJ2_remove 4 (some (.object "java/lang/Object")) 2 53 0 0 [.ref L, .int (nI k)] g E ((L, .inr (13, [.int mo, .ref ea, .int (nI n)])) :: ((ea, .inl (g.2.2.1 4, cp, .inr (.inr (.inr (.inr (elF n el)))))) :: (elW ci n el vs ++ []))) (S := Unit) (fun _ => (some (.ref (el k)))) (fun _ => True) (fun _ => ((L, .inr (13, [.int (mo + 1), .ref ea, .int (nI (n - 1))])) :: ((ea, .inl (g.2.2.1 4, cp, .inr (.inr (.inr (.inr (elF (n - 1) (rmF el k))))))) :: (elW ci n el vs ++ [])))) := by
  refine MM.mk (by decide) (Nat.le_of_ble_eq_true rfl) ?_
  intro p e R s m args below meth c Q A H locs ls hX hRc hRs hP hD hE hS hA hnm hl hQ
  obtain ⟨hx, hb, hr, hlk, hml, hown, hts, hRf, hRl⟩ := hX
  have hown : s.vm.findClass RJ2 = some m.cls := hown
  have hj := ho.2 _ _ _ hE
  have hK := hj.kn
  have hl : lv_has ls 4 [(0, .ref L), (1, .int (nI k))] := hl
  refine lv_iload_n hx hb dJ2_remove_0 rfl (lv_at hl 1 rfl) ?_
  refine lv_aload_n hx hb dJ2_remove_1 rfl (lv_at hl 0 rfl) ?_
  refine va_get (D := gD g) (ci := 13) (v := .int (nI n)) (C := RJ2) (T := TJ2) (N := 3) hx hb hts in_J2 hown hK hP 0 rfl rfl 2 (by decide) (hts _ q152) (fun _ h9 => h9) rfl dJ2_remove_2 ?_
  refine rcS (As := [.int (nI k), .int (nI n)]) (rest := []) (st1 := [.int (nI k)]) (jJ8_checkIndex l g E ho k n hk (by omega)) kJ8_checkIndex q473 hx hb hml hown hts hRf hRl ho.1.1 hE hS (hP.sub [] rfl) ⟨Nat.le_trans (by decide) hRc, Nat.le_trans (by decide) hRs⟩ hl ⟨rfl, rfl⟩ rfl rfl (Nat.le_of_ble_eq_true rfl) rfl dJ2_remove_5 ?_
  refine lv_pop hx hb dJ2_remove_8 rfl ?_
  refine lv_aload_n hx hb dJ2_remove_9 rfl (lv_at hl 0 rfl) ?_
  refine va_get (D := gD g) (ci := 13) (v := .ref ea) (C := RJ2) (T := TJ2) (N := 3) hx hb hts in_J2 hown hK hP 0 rfl rfl 1 (by decide) (hts _ q149) (fun _ h9 => h9) rfl dJ2_remove_10 ?_
  refine lv_astore_n (lv' := [(2, .ref ea), (0, .ref L), (1, .int (nI k))]) hx hb dJ2_remove_13 rfl hl (by decide) rfl (fun ls hl => ?_)
  refine lv_aload_n hx hb dJ2_remove_14 rfl (lv_at hl 0 rfl) ?_
  refine lv_iload_n hx hb dJ2_remove_15 rfl (lv_at hl 2 rfl) ?_
  refine h_aldr (f := (elF n el)) hx hb hK hP 1 4 rfl rfl (k := k) rfl (by omega) (by omega) (v := (el k)) (elF_at hk) dJ2_remove_16 ?_
  refine lv_astore_n (lv' := [(3, .ref (el k)), (2, .ref ea), (0, .ref L), (1, .int (nI k))]) hx hb dJ2_remove_17 rfl hl (by decide) rfl (fun ls hl => ?_)
  refine lv_aload_n hx hb dJ2_remove_18 rfl (lv_at hl 2 rfl) ?_
  refine lv_aload_n hx hb dJ2_remove_19 rfl (lv_at hl 1 rfl) ?_
  refine lv_iload_n hx hb dJ2_remove_20 rfl (lv_at hl 3 rfl) ?_
  have hrv9 := (va_recv hK hP (ci := 13) (q0 := 0) rfl rfl)
  have hP := sg_P2e [[(L, .inr (13, [.int mo, .ref ea, .int (nI n)]))], [(ea, .inl (g.2.2.1 4, cp, .inr (.inr (.inr (.inr (elF n el))))))], elW ci n el vs] [[(L, .inr (13, [.int mo, .ref ea, .int (nI n)]))], [(ea, .inl (g.2.2.1 4, cp, .inr (.inr (.inr (.inr (elF n el))))))], elW ci n el vs] [] ((L, .inr (13, [.int mo, .ref ea, .int (nI n)])) :: ((ea, .inl (g.2.2.1 4, cp, .inr (.inr (.inr (.inr (elF n el)))))) :: (elW ci n el vs ++ []))) [] rfl rfl [0, 1, 2] rfl hP
  have hD := sg_D2e [[(L, .inr (13, [.int mo, .ref ea, .int (nI n)]))], [(ea, .inl (g.2.2.1 4, cp, .inr (.inr (.inr (.inr (elF n el))))))], elW ci n el vs] [[(L, .inr (13, [.int mo, .ref ea, .int (nI n)]))], [(ea, .inl (g.2.2.1 4, cp, .inr (.inr (.inr (.inr (elF n el))))))], elW ci n el vs] [] ((L, .inr (13, [.int mo, .ref ea, .int (nI n)])) :: ((ea, .inl (g.2.2.1 4, cp, .inr (.inr (.inr (.inr (elF n el)))))) :: (elW ci n el vs ++ []))) [] rfl rfl [0, 1, 2] rfl (by decide) hD
  refine mcVA (As := [.ref ea, .int (nI k)]) (rest := []) (wr := []) (jJ2_fastRemove l g E ho L mo ea cp n ci el vs r k hk hn hc hci hca) kJ2_fastRemove q1182 hx hb hml hown hts hRf hRl ho.1.1 hE hS hP hD hA ⟨Nat.le_trans (by decide) hRc, Nat.le_trans (by decide) hRs⟩ hrv9 hl ⟨rfl, rfl⟩ rfl rfl (Nat.le_of_ble_eq_true rfl) dJ2_remove_21 (fun _ H locs _ hP hD hS _ _ => ?_)
  have hP : va_P (gD g) Cl ((L, .inr (13, [.int (mo + 1), .ref ea, .int (nI (n - 1))])) :: ((ea, .inl (g.2.2.1 4, cp, .inr (.inr (.inr (.inr (elF (n - 1) (rmF el k))))))) :: (elW ci n el vs ++ []))) H := sg_P3e [] [[(L, .inr (13, [.int (mo + 1), .ref ea, .int (nI (n - 1))]))], [(ea, .inl (g.2.2.1 4, cp, .inr (.inr (.inr (.inr (elF (n - 1) (rmF el k)))))))], elW ci n el vs] [[(L, .inr (13, [.int (mo + 1), .ref ea, .int (nI (n - 1))]))], [(ea, .inl (g.2.2.1 4, cp, .inr (.inr (.inr (.inr (elF (n - 1) (rmF el k)))))))], elW ci n el vs] rfl rfl [0, 1, 2] rfl hP
  have hD : va_D A ((L, .inr (13, [.int (mo + 1), .ref ea, .int (nI (n - 1))])) :: ((ea, .inl (g.2.2.1 4, cp, .inr (.inr (.inr (.inr (elF (n - 1) (rmF el k))))))) :: (elW ci n el vs ++ []))) := sg_D3e [] [[(L, .inr (13, [.int (mo + 1), .ref ea, .int (nI (n - 1))]))], [(ea, .inl (g.2.2.1 4, cp, .inr (.inr (.inr (.inr (elF (n - 1) (rmF el k)))))))], elW ci n el vs] [[(L, .inr (13, [.int (mo + 1), .ref ea, .int (nI (n - 1))]))], [(ea, .inl (g.2.2.1 4, cp, .inr (.inr (.inr (.inr (elF (n - 1) (rmF el k)))))))], elW ci n el vs] rfl rfl [0, 1, 2] rfl (by decide) hD
  refine lv_aload_n hx hb dJ2_remove_24 rfl (lv_at hl 0 rfl) ?_
  exact hm_a hQ hx hb hr hlk (Or.inl ⟨_, rfl⟩) (Or.inr ⟨_, rfl⟩) () rfl (trivial) hP hD hS (by decide) (by decide) dJ2_remove_25
