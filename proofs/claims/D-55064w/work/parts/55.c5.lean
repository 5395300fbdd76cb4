/-! LISTS: new ones -/
set_option maxRecDepth 100000
theorem kJ0_init : hkI yJ0_init cJ0_init 1 0 := ⟨q144, q70, q145, rfl, by decide +kernel⟩
set_option maxHeartbeats 4000000 in
theorem jJ0_init (l : Launch) (g : hG) (E : hEnv) (ho : jOk g E) (L : Nat) : MM l yJ0_init cJ0_init 1 none 1 30 0 0 [.ref L] g E [] (S := Unit) (fun _ => none) (fun _ => True) (fun _ => []) := by
  refine MM.mk (by decide) (Nat.le_of_ble_eq_true rfl) ?_
  intro p e R s m args below meth c Q A H locs ls hX hRc hRs hP hD hE hS hA hnm hl hQ
  obtain ⟨hx, hb, hr, hlk, hml, hown, hts, hRf, hRl⟩ := hX
  have hown : s.vm.findClass RJ0 = some m.cls := hown
  have hj := ho.2 _ _ _ hE
  have hK := hj.kn
  have hl : lv_has ls 1 [(0, .ref L)] := hl
  refine lv_aload_n hx hb dJ0_init_0 rfl (lv_at hl 0 rfl) ?_
  refine W.objInit hx hb hown (hts _ q146) (hts _ q121) (hts _ q122) rfl (by rw [hml]; exact hl.1) rfl dJ0_init_1 (Nat.le_trans (Nat.le_of_ble_eq_true rfl) hRf) (Nat.le_trans (Nat.le_of_ble_eq_true rfl) hRl) ?_
  exact hm_v hQ hx hb hr hlk () rfl trivial hP hD hS (by decide) (by decide) dJ0_init_4
theorem kJ1_init : hkI yJ1_init cJ1_init 1 0 := ⟨q141, q71, q142, rfl, by decide +kernel⟩
set_option maxHeartbeats 4000000 in
theorem jJ1_init (l : Launch) (g : hG) (E : hEnv) (ho : jOk g E) (L : Nat) : MM l yJ1_init cJ1_init 1 none 2 50 0 0 [.ref L] g E [(L, .inr (13, [.int 0, .null, .int 0]))] (S := Unit) (fun _ => none) (fun _ => True) (fun _ => [(L, .inr (13, [.int 0, .null, .int 0]))]) := by
  refine MM.mk (by decide) (Nat.le_of_ble_eq_true rfl) ?_
  intro p e R s m args below meth c Q A H locs ls hX hRc hRs hP hD hE hS hA hnm hl hQ
  obtain ⟨hx, hb, hr, hlk, hml, hown, hts, hRf, hRl⟩ := hX
  have hown : s.vm.findClass RJ1 = some m.cls := hown
  have hj := ho.2 _ _ _ hE
  have hK := hj.kn
  have hl : lv_has ls 1 [(0, .ref L)] := hl
  refine lv_aload_n hx hb dJ1_init_0 rfl (lv_at hl 0 rfl) ?_
  refine mcI (As := []) (rest := []) (wr := [(L, .inr (13, [.int 0, .null, .int 0]))]) (jJ0_init l g E ho L) kJ0_init q143 hx hb hml hown hts hRf hRl ho.1.1 hE hS hP hD hA [] [0] rfl (by decide) rfl (by decide) (by decide) ⟨Nat.le_trans (by decide) hRc, Nat.le_trans (by decide) hRs⟩ hl ⟨rfl, rfl⟩ rfl rfl (Nat.le_of_ble_eq_true rfl) dJ1_init_1 (fun _ H locs _ hP hD hS _ _ => ?_)
  have hP : va_P (gD g) Cl [(L, .inr (13, [.int 0, .null, .int 0]))] H := hP
  have hD : va_D A [(L, .inr (13, [.int 0, .null, .int 0]))] := hD
  refine lv_aload_n hx hb dJ1_init_4 rfl (lv_at hl 0 rfl) ?_
  refine lv_iconst (v := 0) hx hb dJ1_init_5 (by decide) ?_
  refine va_put (D := gD g) (ci := 13) (v := .int 0) (ty := .int) (C := RJ2) (T := TJ2) (N := 3) hx hb hts in_J2 tyJ2 tyJ2_ok nmJ2 hown hK hP hD hS 0 rfl rfl 0 (by decide) (hts _ q153) (fun _ h9 => h9) rfl (by decide +kernel) rfl rfl (Nat.le_of_ble_eq_true rfl) dJ1_init_6 (fun H locs hP hD hS => ?_)
  have hP : va_P (gD g) Cl [(L, .inr (13, [.int 0, .null, .int 0]))] H := hP
  have hD : va_D A [(L, .inr (13, [.int 0, .null, .int 0]))] := hD
  exact hm_v hQ hx hb hr hlk () rfl trivial hP hD hS (by decide) (by decide) dJ1_init_9
theorem kJ2_init : hkI yJ2_init cJ2_init 1 0 := ⟨q138, q72, q139, rfl, by decide +kernel⟩
set_option maxHeartbeats 4000000 in
theorem jJ2_init (l : Launch) (g : hG) (E : hEnv) (ho : jOk g E) (L : Nat) : MM l yJ2_init cJ2_init 1 none 3 70 0 0 [.ref L] g E [(L, .inr (13, [.int 0, .null, .int 0]))] (S := Unit) (fun _ => none) (fun _ => True) (fun _ => [(L, .inr (13, [.int 0, .ref (gA g 200), .int 0]))]) := by
  refine MM.mk (by decide) (Nat.le_of_ble_eq_true rfl) ?_
  intro p e R s m args below meth c Q A H locs ls hX hRc hRs hP hD hE hS hA hnm hl hQ
  obtain ⟨hx, hb, hr, hlk, hml, hown, hts, hRf, hRl⟩ := hX
  have hown : s.vm.findClass RJ2 = some m.cls := hown
  have hj := ho.2 _ _ _ hE
  have hK := hj.kn
  have hl : lv_has ls 1 [(0, .ref L)] := hl
  refine lv_aload_n hx hb dJ2_init_0 rfl (lv_at hl 0 rfl) ?_
  refine mcI (As := []) (rest := []) (wr := []) (jJ1_init l g E ho L) kJ1_init q140 hx hb hml hown hts hRf hRl ho.1.1 hE hS hP hD hA [0] [] rfl (by decide) rfl (by decide) (by decide) ⟨Nat.le_trans (by decide) hRc, Nat.le_trans (by decide) hRs⟩ hl ⟨rfl, rfl⟩ rfl rfl (Nat.le_of_ble_eq_true rfl) dJ2_init_1 (fun _ H locs _ hP hD hS _ _ => ?_)
  have hP : va_P (gD g) Cl [(L, .inr (13, [.int 0, .null, .int 0]))] H := hP
  have hD : va_D A [(L, .inr (13, [.int 0, .null, .int 0]))] := hD
  refine lv_aload_n hx hb dJ2_init_4 rfl (lv_at hl 0 rfl) ?_
  refine va_gets hx hb hj.em.1 hS hown (hts _ q147) (fun _ h9 => h9) dJ2_init_5 ?_
  refine va_put (D := gD g) (ci := 13) (v := .ref (gA g 200)) (ty := (.array (.object "java/lang/Object"))) (C := RJ2) (T := TJ2) (N := 3) hx hb hts in_J2 tyJ2 tyJ2_ok nmJ2 hown hK hP hD hS 0 rfl rfl 1 (by decide) (hts _ q149) (fun _ h9 => h9) rfl (by decide +kernel) rfl rfl (Nat.le_of_ble_eq_true rfl) dJ2_init_8 (fun H locs hP hD hS => ?_)
  have hP : va_P (gD g) Cl [(L, .inr (13, [.int 0, .ref (gA g 200), .int 0]))] H := hP
  have hD : va_D A [(L, .inr (13, [.int 0, .ref (gA g 200), .int 0]))] := hD
  exact hm_v hQ hx hb hr hlk () rfl trivial hP hD hS (by decide) (by decide) dJ2_init_11
theorem kX3_init : hkI yX3_init cX3_init 2 1 := ⟨q132, q69, q133, rfl, by decide +kernel⟩
set_option maxHeartbeats 4000000 in
theorem jX3_init (l : Launch) (g : hG) (E : hEnv) (ho : jOk g E) (q : Nat) (mst : Int32) : MM l yX3_init cX3_init 2 none 4 90 1 3 [.ref q, .int mst] g E [(q, .inr (3, [.null, .int 0]))] (S := Nat) (fun u => none) (fun u => True) (fun u => [(q, .inr (3, [.ref u, .int mst])), (u, .inr (13, [.int 0, .ref (gA g 200), .int 0]))]) := by
  refine MM.mk (by decide) (Nat.le_of_ble_eq_true rfl) ?_
  intro p e R s m args below meth c Q A H locs ls hX hRc hRs hP hD hE hS hA hnm hl hQ
  obtain ⟨hx, hb, hr, hlk, hml, hown, hts, hRf, hRl⟩ := hX
  have hown : s.vm.findClass RX3 = some m.cls := hown
  have hj := ho.2 _ _ _ hE
  have hK := hj.kn
  have hl : lv_has ls 2 [(0, .ref q), (1, .int mst)] := hl
  refine lv_aload_n hx hb dX3_init_0 rfl (lv_at hl 0 rfl) ?_
  refine W.objInit hx hb hown (hts _ q134) (hts _ q121) (hts _ q122) rfl (by rw [hml]; exact hl.1) rfl dX3_init_1 (Nat.le_trans (Nat.le_of_ble_eq_true rfl) hRf) (Nat.le_trans (Nat.le_of_ble_eq_true rfl) hRl) ?_
  refine lv_aload_n hx hb dX3_init_4 rfl (lv_at hl 0 rfl) ?_
  refine va_new (ci := 13) (fs := [.int 0, .null, .int 0]) (C := RJ2) (T := TJ2) (N := 3) hx hb hts in_J2 tyJ2 tyJ2_ok hown (hts _ q135) (hts _ q136) (hts _ q72) hK hP hD hS hA rfl (fun j hj => by rcases (show j = 0 ∨ j = 1 ∨ j = 2 by omega) with rfl | rfl | rfl <;> rfl) (Nat.le_trans (by decide) hRc) (Nat.le_trans (by decide) hRs) dX3_init_5 (fun q_1 H hP hD hS => ?_)
  have hP : va_P (gD g) Cl [(q, .inr (3, [.null, .int 0])), (q_1, .inr (13, [.int 0, .null, .int 0]))] H := hP
  have hD : va_D A [(q, .inr (3, [.null, .int 0])), (q_1, .inr (13, [.int 0, .null, .int 0]))] := hD
  refine lv_dup hx hb dX3_init_8 rfl ?_
  refine mcI (As := []) (rest := [.ref q_1, .ref q]) (wr := [(q, .inr (3, [.null, .int 0]))]) (jJ2_init l g E ho q_1) kJ2_init q137 hx hb hml hown hts hRf hRl ho.1.1 hE hS hP hD hA [1] [0] rfl (by decide) rfl (by decide) (by decide) ⟨Nat.le_trans (by decide) hRc, Nat.le_trans (by decide) hRs⟩ hl ⟨rfl, rfl⟩ rfl rfl (Nat.le_of_ble_eq_true rfl) dX3_init_9 (fun _ H locs _ hP hD hS _ _ => ?_)
  have hP : va_P (gD g) Cl [(q, .inr (3, [.null, .int 0])), (q_1, .inr (13, [.int 0, .ref (gA g 200), .int 0]))] H := hP
  have hD : va_D A [(q, .inr (3, [.null, .int 0])), (q_1, .inr (13, [.int 0, .ref (gA g 200), .int 0]))] := hD
  refine va_putF (D := gD g) (ci := 3) (v := .ref q_1) (ty := (.object "java/util/List")) (C := RX3) (T := TX3) (N := 2) hx hb hts in_X3 tyX3 tyX3_ok nmX3 hown hK hP hD hS 0 rfl rfl 0 (by decide) (hts _ q165) (fun _ h9 => h9) rfl hnm rfl (by decide +kernel) rfl rfl (Nat.le_of_ble_eq_true rfl) dX3_init_12 (fun H locs hP hD hS => ?_)
  have hP : va_P (gD g) Cl [(q, .inr (3, [.ref q_1, .int 0])), (q_1, .inr (13, [.int 0, .ref (gA g 200), .int 0]))] H := hP
  have hD : va_D A [(q, .inr (3, [.ref q_1, .int 0])), (q_1, .inr (13, [.int 0, .ref (gA g 200), .int 0]))] := hD
  refine lv_aload_n hx hb dX3_init_15 rfl (lv_at hl 0 rfl) ?_
  refine lv_iload_n hx hb dX3_init_16 rfl (lv_at hl 1 rfl) ?_
  refine va_putF (D := gD g) (ci := 3) (v := .int mst) (ty := .int) (C := RX3) (T := TX3) (N := 2) hx hb hts in_X3 tyX3 tyX3_ok nmX3 hown hK hP hD hS 0 rfl rfl 1 (by decide) (hts _ q168) (fun _ h9 => h9) rfl hnm rfl (by decide +kernel) rfl rfl (Nat.le_of_ble_eq_true rfl) dX3_init_17 (fun H locs hP hD hS => ?_)
  have hP : va_P (gD g) Cl [(q, .inr (3, [.ref q_1, .int mst])), (q_1, .inr (13, [.int 0, .ref (gA g 200), .int 0]))] H := hP
  have hD : va_D A [(q, .inr (3, [.ref q_1, .int mst])), (q_1, .inr (13, [.int 0, .ref (gA g 200), .int 0]))] := hD
  exact hm_v hQ hx hb hr hlk q_1 rfl trivial hP hD hS (by decide) (by decide) dX3_init_20
