/-! ROWS of things: reading -/
set_option maxRecDepth 100000
theorem kX3_size : hkV RX3 yX3_size cX3_size 1 (some .int) 0 := ⟨q326, q327, q69, q328, rfl, by decide +kernel⟩
theorem kFJ2_size_List : hkF RJ2 ({ cls := "java/util/List", name := "size", desc := "()I" } : MethodName) yJ2_size cJ2_size 1 (some .int) 0 := ⟨q334, q336, q72, q338, by decide +kernel⟩
set_option maxHeartbeats 4000000 in
theorem jX3_size (l : Launch) (g : hG) (E : hEnv) (ho : jOk g E) (q : Nat) (mst : Int32) (L : Nat) (ea : Nat) (mo : Int32) (sz : Nat) : RM l yX3_size cX3_size 1 (some .int) 1 20 [.ref q] g E [(q, .inr (3, [.ref L, .int mst])), (L, .inr (13, [.int mo, .ref ea, .int (nI sz)]))] (some (.int (nI sz))) := by
  refine RM.mk (by decide) (Nat.le_of_ble_eq_true rfl) ?_
  intro p e R s m args below meth c Q ls hX hP hE hS hl hQ
  obtain ⟨hx, hb, hr, hlk, hml, hown, hts, hRf, hRl⟩ := hX
  have hown : s.vm.findClass RX3 = some m.cls := hown
  have hj := ho.2 _ _ _ hE
  have hK := hj.kn
  have hl : lv_has ls 1 [(0, .ref q)] := hl
  refine lv_aload_n hx hb dX3_size_0 rfl (lv_at hl 0 rfl) ?_
  refine va_get (D := gD g) (ci := 3) (v := .ref L) (C := RX3) (T := TX3) (N := 2) hx hb hts in_X3 hown hK hP 0 rfl rfl 0 (by decide) (hts _ q165) (fun _ h9 => h9) rfl dX3_size_1 ?_
  refine rcF (hK.1 13 (RJ2, TJ2, 3) rfl).2 (As := []) (rest := []) (st1 := [.int (nI sz)]) (jJ2_size l g E ho L ea mo sz) kFJ2_size_List (hj.fw _ _ _ q332 q331 q337 q335 q333 (by decide)) q330 hx hb hml hown hts hRf hRl ho.1.1 hE hS (hP.sub [1] rfl) (va_recv hK hP (ci := 13) (q0 := 1) rfl rfl) ⟨Nat.zero_le _, Nat.zero_le _⟩ hl ⟨rfl, rfl⟩ rfl rfl (Nat.le_of_ble_eq_true rfl) rfl dX3_size_4 ?_
  exact hr_i hQ hx hb hr hlk rfl (rfl) dX3_size_9
theorem kX3_add : hkV RX3 yX3_add cX3_add 2 (some .int) 1 := ⟨q1134, q1135, q69, q1136, rfl, by decide +kernel⟩
theorem kFJ2_add_List : hkF RJ2 ({ cls := "java/util/List", name := "add", desc := "(Ljava/lang/Object;)Z" } : MethodName) yJ2_add cJ2_add 2 (some .boolean) 1 := ⟨q928, q930, q72, q932, by decide +kernel⟩
set_option maxHeartbeats 4000000 in
theorem jX3_add (l : Launch) (g : hG) (E : hEnv) (ho : jOk g E) (q : Nat) (mst : Int32) (L : Nat) (ea : Nat) (mo : Int32) (sz : Nat) (cp : Nat) (f : Nat → Option Nat) (v : Nat) (ci : Nat) (vs : List Value) (r : vw_C) (hsz : sz < cp) (hcp : cp < 2 ^ 31) (hci : Cl[ci]? = some r) (hca : Cond.castable r.1 "java/lang/Object" ∈ lw_tbl) : MM l yX3_add cX3_add 2 (some .int) 2 44 0 0 [.ref q, .ref v] g E [(q, .inr (3, [.ref L, .int mst])), (L, .inr (13, [.int mo, .ref ea, .int (nI sz)])), (ea, .inl (g.2.2.1 4, cp, .inr (.inr (.inr (.inr f))))), (v, .inr (ci, vs))] (S := Unit) (fun _ => (some (.int (nI sz)))) (fun _ => True) (fun _ => [(q, .inr (3, [.ref L, .int mst])), (L, .inr (13, [.int (mo + 1), .ref ea, .int (nI (sz + 1))])), (ea, .inl (g.2.2.1 4, cp, .inr (.inr (.inr (.inr (va_up f sz (some v))))))), (v, .inr (ci, vs))]) := by
  refine MM.mk (by decide) (Nat.le_of_ble_eq_true rfl) ?_
  intro p e R s m args below meth c Q A H locs ls hX hRc hRs hP hD hE hS hA hnm hl hQ
  obtain ⟨hx, hb, hr, hlk, hml, hown, hts, hRf, hRl⟩ := hX
  have hown : s.vm.findClass RX3 = some m.cls := hown
  have hj := ho.2 _ _ _ hE
  have hK := hj.kn
  have hl : lv_has ls 2 [(0, .ref q), (1, .ref v)] := hl
  refine lv_aload_n hx hb dX3_add_0 rfl (lv_at hl 0 rfl) ?_
  refine va_get (D := gD g) (ci := 3) (v := .ref L) (C := RX3) (T := TX3) (N := 2) hx hb hts in_X3 hown hK hP 0 rfl rfl 0 (by decide) (hts _ q165) (fun _ h9 => h9) rfl dX3_add_1 ?_
  refine lv_aload_n hx hb dX3_add_4 rfl (lv_at hl 1 rfl) ?_
  refine mcF (hK.1 13 (RJ2, TJ2, 3) rfl).2 (As := [.ref v]) (rest := []) (wr := [(q, .inr (3, [.ref L, .int mst]))]) (jJ2_add l g E ho L ea mo sz cp f v ci vs r hsz hcp hci hca) kFJ2_add_List (hj.fw _ _ _ q927 q926 q931 q929 q333 (by decide)) q925 hx hb hml hown hts hRf hRl ho.1.1 hE hS hP hD hA [1, 2, 3] [0] rfl (by decide) rfl (by decide) (by decide) ⟨Nat.le_trans (by decide) hRc, Nat.le_trans (by decide) hRs⟩ (va_recv hK hP (ci := 13) (q0 := 1) rfl rfl) hl ⟨rfl, rfl⟩ rfl rfl (Nat.le_of_ble_eq_true rfl) dX3_add_5 (fun _ H locs _ hP hD hS _ _ => ?_)
  have hP : va_P (gD g) Cl [(q, .inr (3, [.ref L, .int mst])), (L, .inr (13, [.int (mo + 1), .ref ea, .int (nI (sz + 1))])), (ea, .inl (g.2.2.1 4, cp, .inr (.inr (.inr (.inr (va_up f sz (some v))))))), (v, .inr (ci, vs))] H := hP
  have hD : va_D A [(q, .inr (3, [.ref L, .int mst])), (L, .inr (13, [.int (mo + 1), .ref ea, .int (nI (sz + 1))])), (ea, .inl (g.2.2.1 4, cp, .inr (.inr (.inr (.inr (va_up f sz (some v))))))), (v, .inr (ci, vs))] := hD
  refine lv_pop hx hb dX3_add_10 rfl ?_
  refine lv_aload_n hx hb dX3_add_11 rfl (lv_at hl 0 rfl) ?_
  refine va_get (D := gD g) (ci := 3) (v := .ref L) (C := RX3) (T := TX3) (N := 2) hx hb hts in_X3 hown hK hP 0 rfl rfl 0 (by decide) (hts _ q165) (fun _ h9 => h9) rfl dX3_add_12 ?_
  refine rcF (hK.1 13 (RJ2, TJ2, 3) rfl).2 (As := []) (rest := []) (st1 := [.int (nI (sz + 1))]) (jJ2_size l g E ho L ea (mo + 1) (sz + 1)) kFJ2_size_List (hj.fw _ _ _ q332 q331 q337 q335 q333 (by decide)) q330 hx hb hml hown hts hRf hRl ho.1.1 hE hS (hP.sub [1] rfl) (va_recv hK hP (ci := 13) (q0 := 1) rfl rfl) ⟨Nat.zero_le _, Nat.zero_le _⟩ hl ⟨rfl, rfl⟩ rfl rfl (Nat.le_of_ble_eq_true rfl) rfl dX3_add_15 ?_
  refine lv_iconst (v := 1) hx hb dX3_add_20 (by decide) ?_
  refine lv_isub hx hb dX3_add_21 ?_
  refine h_topi (v := nI ((sz + 1) - 1)) (h_nsub (a := (sz + 1)) (b := 1) (rfl) (rfl) (by omega)) ?_
  exact hm_i hQ hx hb hr hlk rfl () (congrArg (fun z => some (Value.int (nI z))) (by omega)) trivial hP hD hS (by decide) (by decide) dX3_add_22
theorem kX3_has : hkV RX3 yX3_has cX3_has 2 (some .boolean) 1 := ⟨q1146, q1147, q69, q1148, rfl, by decide +kernel⟩
set_option maxHeartbeats 4000000 in
theorem jX3_has (l : Launch) (g : hG) (E : hEnv) (ho : jOk g E) (q : Nat) (mst : Int32) (L : Nat) (ea : Nat) (mo : Int32) (sz : Nat) (x : Int32) : RM l yX3_has cX3_has 2 (some .boolean) 1 22 [.ref q, .int x] g E [(q, .inr (3, [.ref L, .int mst])), (L, .inr (13, [.int mo, .ref ea, .int (nI sz)]))] (some (.int (if inR x 0 (nI sz - 1) then 1 else 0))) := by
  refine RM.mk (by decide) (Nat.le_of_ble_eq_true rfl) ?_
  intro p e R s m args below meth c Q ls hX hP hE hS hl hQ
  obtain ⟨hx, hb, hr, hlk, hml, hown, hts, hRf, hRl⟩ := hX
  have hown : s.vm.findClass RX3 = some m.cls := hown
  have hj := ho.2 _ _ _ hE
  have hK := hj.kn
  have hl : lv_has ls 2 [(0, .ref q), (1, .int x)] := hl
  refine lv_iload_n hx hb dX3_has_0 rfl (lv_at hl 1 rfl) ?_
  refine lv_iconst (v := 0) hx hb dX3_has_1 (by decide) ?_
  refine lv_aload_n hx hb dX3_has_2 rfl (lv_at hl 0 rfl) ?_
  refine va_get (D := gD g) (ci := 3) (v := .ref L) (C := RX3) (T := TX3) (N := 2) hx hb hts in_X3 hown hK hP 0 rfl rfl 0 (by decide) (hts _ q165) (fun _ h9 => h9) rfl dX3_has_3 ?_
  refine rcF (hK.1 13 (RJ2, TJ2, 3) rfl).2 (As := []) (rest := [.int 0, .int x]) (st1 := [.int (nI sz), .int 0, .int x]) (jJ2_size l g E ho L ea mo sz) kFJ2_size_List (hj.fw _ _ _ q332 q331 q337 q335 q333 (by decide)) q330 hx hb hml hown hts hRf hRl ho.1.1 hE hS (hP.sub [1] rfl) (va_recv hK hP (ci := 13) (q0 := 1) rfl rfl) ⟨Nat.zero_le _, Nat.zero_le _⟩ hl ⟨rfl, rfl⟩ rfl rfl (Nat.le_of_ble_eq_true rfl) rfl dX3_has_6 ?_
  refine lv_iconst (v := 1) hx hb dX3_has_11 (by decide) ?_
  refine lv_isub hx hb dX3_has_12 ?_
  refine rcSN (As := [.int x, .int 0, .int ((nI sz) - 1)]) (rest := []) (st1 := [.int (if inR x 0 ((nI sz) - 1) then 1 else 0)]) (jX1_isBetween l g E ho x 0 ((nI sz) - 1)) kX1_isBetween (hj.tw q1149 rfl) hx hb hml hown hts hRf hRl ho.1.1 hE hS (hP.sub [] rfl) ⟨Nat.zero_le _, Nat.zero_le _⟩ hl ⟨rfl, rfl⟩ rfl rfl (Nat.le_of_ble_eq_true rfl) rfl dX3_has_13 ?_
  exact hr_i hQ hx hb hr hlk (by split <;> rfl) (by simp [*]) dX3_has_16
theorem kX3_get : hkV RX3 yX3_get cX3_get 2 (some (.object "HorsehairTrade$Copied")) 1 := ⟨q461, q462, q69, q463, rfl, by decide +kernel⟩
theorem kFJ2_get_List : hkF RJ2 ({ cls := "java/util/List", name := "get", desc := "(I)Ljava/lang/Object;" } : MethodName) yJ2_get cJ2_get 2 (some (.object "java/lang/Object")) 1 := ⟨q468, q470, q72, q472, by decide +kernel⟩
set_option maxHeartbeats 4000000 in
theorem jX3_get (l : Launch) (g : hG) (E : hEnv) (ho : jOk g E) (q : Nat) (mst : Int32) (L : Nat) (ea : Nat) (mo : Int32) (sz : Nat) (cp : Nat) (f : Nat → Option Nat) (k : Nat) (v : Nat) (ci : Nat) (vs : List Value) (r : vw_C) (hk : k < sz) (hsz : sz ≤ cp) (hcp : cp < 2 ^ 31) (hv : f k = some v) (hci : Cl[ci]? = some r) (hcc : Cond.castable r.1 "HorsehairTrade$Copied" ∈ lw_tbl) : RM l yX3_get cX3_get 2 (some (.object "HorsehairTrade$Copied")) 3 64 [.ref q, .int (nI k)] g E [(q, .inr (3, [.ref L, .int mst])), (L, .inr (13, [.int mo, .ref ea, .int (nI sz)])), (ea, .inl (g.2.2.1 4, cp, .inr (.inr (.inr (.inr f))))), (v, .inr (ci, vs))] (some (.ref v)) := by
  refine RM.mk (by decide) (Nat.le_of_ble_eq_true rfl) ?_
  intro p e R s m args below meth c Q ls hX hP hE hS hl hQ
  obtain ⟨hx, hb, hr, hlk, hml, hown, hts, hRf, hRl⟩ := hX
  have hown : s.vm.findClass RX3 = some m.cls := hown
  have hj := ho.2 _ _ _ hE
  have hK := hj.kn
  have hl : lv_has ls 2 [(0, .ref q), (1, .int (nI k))] := hl
  refine lv_aload_n hx hb dX3_get_0 rfl (lv_at hl 0 rfl) ?_
  refine va_get (D := gD g) (ci := 3) (v := .ref L) (C := RX3) (T := TX3) (N := 2) hx hb hts in_X3 hown hK hP 0 rfl rfl 0 (by decide) (hts _ q165) (fun _ h9 => h9) rfl dX3_get_1 ?_
  refine lv_iload_n hx hb dX3_get_4 rfl (lv_at hl 1 rfl) ?_
  refine rcF (hK.1 13 (RJ2, TJ2, 3) rfl).2 (As := [.int (nI k)]) (rest := []) (st1 := [.ref v]) (jJ2_get l g E ho L ea mo sz cp f k v hk hsz hcp hv) kFJ2_get_List (hj.fw _ _ _ q467 q466 q471 q469 q333 (by decide)) q465 hx hb hml hown hts hRf hRl ho.1.1 hE hS (hP.sub [1, 2] rfl) (va_recv hK hP (ci := 13) (q0 := 1) rfl rfl) ⟨Nat.zero_le _, Nat.zero_le _⟩ hl ⟨rfl, rfl⟩ rfl rfl (Nat.le_of_ble_eq_true rfl) rfl dX3_get_5 ?_
  refine va_castY (C := r.1) hx hb hown (hts _ q483) (hj.tw hcc rfl) (va_recv hK hP (q := r) (ci := ci) (q0 := 3) hci rfl) dX3_get_10 ?_
  exact hr_a hQ hx hb hr hlk (Or.inl ⟨_, rfl⟩) (Or.inr ⟨_, rfl⟩) rfl dX3_get_13
