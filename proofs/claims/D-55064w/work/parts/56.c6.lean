/-! THE COMPONENT: copies of things -/
set_option maxRecDepth 100000
theorem kX9_copy_2 : hkV RX9 yX9_copy_2 cX9_copy_2 2 (some (.object "HorsehairTrade$Tail")) 0 := ⟨q895, q896, q85, q897, rfl, by decide +kernel⟩
set_option maxHeartbeats 4000000 in
theorem jX9_copy_2 (l : Launch) (g : hG) (E : hEnv) (ho : jOk g E) (q : Nat) (co : Int32) (ln : Int32) (hs : Int32) (hk : Int32) : MM l yX9_copy_2 cX9_copy_2 2 (some (.object "HorsehairTrade$Tail")) 2 53 1 4 [.ref q] g E [(q, .inr (8, [.int co, .int ln, .int hs, .int hk]))] (S := Nat) (fun u => (some (.ref u))) (fun u => True) (fun u => [(q, .inr (8, [.int co, .int ln, .int hs, .int hk])), (u, .inr (8, [.int co, .int ln, .int hs, .int hk]))]) := by
  refine MM.mk (by decide) (Nat.le_of_ble_eq_true rfl) ?_
  intro p e R s m args below meth c Q A H locs ls hX hRc hRs hP hD hE hS hA hnm hl hQ
  obtain ⟨hx, hb, hr, hlk, hml, hown, hts, hRf, hRl⟩ := hX
  have hown : s.vm.findClass RX9 = some m.cls := hown
  have hj := ho.2 _ _ _ hE
  have hK := hj.kn
  have hl : lv_has ls 2 [(0, .ref q)] := hl
  refine va_new (ci := 8) (fs := [.int 0, .int 0, .int 0, .int 0]) (C := RX9) (T := TX9) (N := 4) hx hb hts in_X9 tyX9 tyX9_ok hown (hts _ q898) (hts _ q899) (hts _ q85) hK hP hD hS hA rfl (fun j hj => by rcases (show j = 0 ∨ j = 1 ∨ j = 2 ∨ j = 3 by omega) with rfl | rfl | rfl | rfl <;> rfl) (Nat.le_trans (by decide) hRc) (Nat.le_trans (by decide) hRs) dX9_copy_2_0 (fun q_1 H hP hD hS => ?_)
  have hP : va_P (gD g) Cl [(q, .inr (8, [.int co, .int ln, .int hs, .int hk])), (q_1, .inr (8, [.int 0, .int 0, .int 0, .int 0]))] H := hP
  have hD : va_D A [(q, .inr (8, [.int co, .int ln, .int hs, .int hk])), (q_1, .inr (8, [.int 0, .int 0, .int 0, .int 0]))] := hD
  refine lv_dup hx hb dX9_copy_2_3 rfl ?_
  refine lv_aload_n hx hb dX9_copy_2_4 rfl (lv_at hl 0 rfl) ?_
  refine va_get (D := gD g) (ci := 8) (v := .int co) (C := RX9) (T := TX9) (N := 4) hx hb hts in_X9 hown hK hP 0 rfl rfl 0 (by decide) (hts _ q904) (fun _ h9 => h9) rfl dX9_copy_2_5 ?_
  refine lv_aload_n hx hb dX9_copy_2_8 rfl (lv_at hl 0 rfl) ?_
  refine va_get (D := gD g) (ci := 8) (v := .int ln) (C := RX9) (T := TX9) (N := 4) hx hb hts in_X9 hown hK hP 0 rfl rfl 1 (by decide) (hts _ q907) (fun _ h9 => h9) rfl dX9_copy_2_9 ?_
  refine lv_aload_n hx hb dX9_copy_2_12 rfl (lv_at hl 0 rfl) ?_
  refine va_get (D := gD g) (ci := 8) (v := .int hs) (C := RX9) (T := TX9) (N := 4) hx hb hts in_X9 hown hK hP 0 rfl rfl 2 (by decide) (hts _ q909) (fun _ h9 => h9) rfl dX9_copy_2_13 ?_
  refine mcI (As := [.int co, .int ln, .int hs]) (rest := [.ref q_1]) (wr := [(q, .inr (8, [.int co, .int ln, .int hs, .int hk]))]) (jX9_init l g E ho q_1 co ln hs) kX9_init q900 hx hb hml hown hts hRf hRl ho.1.1 hE hS hP hD hA [1] [0] rfl (by decide) rfl (by decide) (by decide) ⟨Nat.le_trans (by decide) hRc, Nat.le_trans (by decide) hRs⟩ hl ⟨rfl, rfl⟩ rfl rfl (Nat.le_of_ble_eq_true rfl) dX9_copy_2_16 (fun _ H locs _ hP hD hS _ _ => ?_)
  have hP : va_P (gD g) Cl [(q, .inr (8, [.int co, .int ln, .int hs, .int hk])), (q_1, .inr (8, [.int co, .int ln, .int hs, .int 0]))] H := hP
  have hD : va_D A [(q, .inr (8, [.int co, .int ln, .int hs, .int hk])), (q_1, .inr (8, [.int co, .int ln, .int hs, .int 0]))] := hD
  refine lv_astore_n (lv' := [(1, .ref q_1), (0, .ref q)]) hx hb dX9_copy_2_19 rfl hl (by decide) rfl (fun ls hl => ?_)
  refine lv_aload_n hx hb dX9_copy_2_20 rfl (lv_at hl 0 rfl) ?_
  refine lv_aload_n hx hb dX9_copy_2_21 rfl (lv_at hl 1 rfl) ?_
  refine va_get (D := gD g) (ci := 8) (v := .int hk) (C := RX9) (T := TX9) (N := 4) hx hb hts in_X9 hown hK hP 0 rfl rfl 3 (by decide) (hts _ q912) (fun _ h9 => h9) rfl dX9_copy_2_22 ?_
  refine va_put (D := gD g) (ci := 8) (v := .int hk) (ty := .int) (C := RX9) (T := TX9) (N := 4) hx hb hts in_X9 tyX9 tyX9_ok nmX9 hown hK hP hD hS 1 rfl rfl 3 (by decide) (hts _ q912) (fun _ h9 => h9) rfl (by decide +kernel) rfl rfl (Nat.le_of_ble_eq_true rfl) dX9_copy_2_25 (fun H locs hP hD hS => ?_)
  have hP : va_P (gD g) Cl [(q, .inr (8, [.int co, .int ln, .int hs, .int hk])), (q_1, .inr (8, [.int co, .int ln, .int hs, .int hk]))] H := hP
  have hD : va_D A [(q, .inr (8, [.int co, .int ln, .int hs, .int hk])), (q_1, .inr (8, [.int co, .int ln, .int hs, .int hk]))] := hD
  refine lv_aload_n hx hb dX9_copy_2_28 rfl (lv_at hl 0 rfl) ?_
  exact hm_a hQ hx hb hr hlk (Or.inl ⟨_, rfl⟩) (Or.inr ⟨_, rfl⟩) q_1 rfl trivial hP hD hS (by decide) (by decide) dX9_copy_2_29
-- X9_copy: by interface alone
set_option maxHeartbeats 4000000 in
theorem jX9_copy (l : Launch) (g : hG) (E : hEnv) (ho : jOk g E) (q : Nat) (co : Int32) (ln : Int32) (hs : Int32) (hk : Int32) : MM l yX9_copy cX9_copy 1 (some (.object "java/lang/Object")) 3 74 1 4 [.ref q] g E [(q, .inr (8, [.int co, .int ln, .int hs, .int hk]))] (S := Nat) (fun u => (some (.ref u))) (fun u => True) (fun u => [(q, .inr (8, [.int co, .int ln, .int hs, .int hk])), (u, .inr (8, [.int co, .int ln, .int hs, .int hk]))]) := by
  refine MM.mk (by decide) (Nat.le_of_ble_eq_true rfl) ?_
  intro p e R s m args below meth c Q A H locs ls hX hRc hRs hP hD hE hS hA hnm hl hQ
  obtain ⟨hx, hb, hr, hlk, hml, hown, hts, hRf, hRl⟩ := hX
  have hown : s.vm.findClass RX9 = some m.cls := hown
  have hj := ho.2 _ _ _ hE
  have hK := hj.kn
  have hl : lv_has ls 1 [(0, .ref q)] := hl
  refine lv_aload_n hx hb dX9_copy_0 rfl (lv_at hl 0 rfl) ?_
  refine mcV (As := []) (rest := []) (wr := []) (jX9_copy_2 l g E ho q co ln hs hk) kX9_copy_2 q894 hx hb hml hown hts hRf hRl ho.1.1 hE hS hP hD hA [0] [] rfl (by decide) rfl (by decide) (by decide) ⟨Nat.le_trans (by decide) hRc, Nat.le_trans (by decide) hRs⟩ (va_recv hK hP (ci := 8) (q0 := 0) rfl rfl) hl ⟨rfl, rfl⟩ rfl rfl (Nat.le_of_ble_eq_true rfl) dX9_copy_1 (fun u_1 H locs _ hP hD hS _ _ => ?_)
  have hP : va_P (gD g) Cl [(q, .inr (8, [.int co, .int ln, .int hs, .int hk])), (u_1, .inr (8, [.int co, .int ln, .int hs, .int hk]))] H := hP
  have hD : va_D A [(q, .inr (8, [.int co, .int ln, .int hs, .int hk])), (u_1, .inr (8, [.int co, .int ln, .int hs, .int hk]))] := hD
  exact hm_a hQ hx hb hr hlk (Or.inl ⟨_, rfl⟩) (Or.inr ⟨_, rfl⟩) u_1 rfl trivial hP hD hS (by decide) (by decide) dX9_copy_4
theorem kX8_copy_2 : hkV RX8 yX8_copy_2 cX8_copy_2 1 (some (.object "HorsehairTrade$Hank")) 0 := ⟨q859, q860, q84, q861, rfl, by decide +kernel⟩
set_option maxHeartbeats 4000000 in
theorem jX8_copy_2 (l : Launch) (g : hG) (E : hEnv) (ho : jOk g E) (q : Nat) (hs : Int32) (ln : Int32) (co : Int32) (tl : Int32) : MM l yX8_copy_2 cX8_copy_2 1 (some (.object "HorsehairTrade$Hank")) 2 54 1 4 [.ref q] g E [(q, .inr (7, [.int hs, .int ln, .int co, .int tl]))] (S := Nat) (fun u => (some (.ref u))) (fun u => True) (fun u => [(q, .inr (7, [.int hs, .int ln, .int co, .int tl])), (u, .inr (7, [.int hs, .int ln, .int co, .int tl]))]) := by
  refine MM.mk (by decide) (Nat.le_of_ble_eq_true rfl) ?_
  intro p e R s m args below meth c Q A H locs ls hX hRc hRs hP hD hE hS hA hnm hl hQ
  obtain ⟨hx, hb, hr, hlk, hml, hown, hts, hRf, hRl⟩ := hX
  have hown : s.vm.findClass RX8 = some m.cls := hown
  have hj := ho.2 _ _ _ hE
  have hK := hj.kn
  have hl : lv_has ls 1 [(0, .ref q)] := hl
  refine va_new (ci := 7) (fs := [.int 0, .int 0, .int 0, .int 0]) (C := RX8) (T := TX8) (N := 4) hx hb hts in_X8 tyX8 tyX8_ok hown (hts _ q862) (hts _ q863) (hts _ q84) hK hP hD hS hA rfl (fun j hj => by rcases (show j = 0 ∨ j = 1 ∨ j = 2 ∨ j = 3 by omega) with rfl | rfl | rfl | rfl <;> rfl) (Nat.le_trans (by decide) hRc) (Nat.le_trans (by decide) hRs) dX8_copy_2_0 (fun q_1 H hP hD hS => ?_)
  have hP : va_P (gD g) Cl [(q, .inr (7, [.int hs, .int ln, .int co, .int tl])), (q_1, .inr (7, [.int 0, .int 0, .int 0, .int 0]))] H := hP
  have hD : va_D A [(q, .inr (7, [.int hs, .int ln, .int co, .int tl])), (q_1, .inr (7, [.int 0, .int 0, .int 0, .int 0]))] := hD
  refine lv_dup hx hb dX8_copy_2_3 rfl ?_
  refine lv_aload_n hx hb dX8_copy_2_4 rfl (lv_at hl 0 rfl) ?_
  refine va_get (D := gD g) (ci := 7) (v := .int hs) (C := RX8) (T := TX8) (N := 4) hx hb hts in_X8 hown hK hP 0 rfl rfl 0 (by decide) (hts _ q868) (fun _ h9 => h9) rfl dX8_copy_2_5 ?_
  refine lv_aload_n hx hb dX8_copy_2_8 rfl (lv_at hl 0 rfl) ?_
  refine va_get (D := gD g) (ci := 7) (v := .int ln) (C := RX8) (T := TX8) (N := 4) hx hb hts in_X8 hown hK hP 0 rfl rfl 1 (by decide) (hts _ q871) (fun _ h9 => h9) rfl dX8_copy_2_9 ?_
  refine lv_aload_n hx hb dX8_copy_2_12 rfl (lv_at hl 0 rfl) ?_
  refine va_get (D := gD g) (ci := 7) (v := .int co) (C := RX8) (T := TX8) (N := 4) hx hb hts in_X8 hown hK hP 0 rfl rfl 2 (by decide) (hts _ q874) (fun _ h9 => h9) rfl dX8_copy_2_13 ?_
  refine lv_aload_n hx hb dX8_copy_2_16 rfl (lv_at hl 0 rfl) ?_
  refine va_get (D := gD g) (ci := 7) (v := .int tl) (C := RX8) (T := TX8) (N := 4) hx hb hts in_X8 hown hK hP 0 rfl rfl 3 (by decide) (hts _ q876) (fun _ h9 => h9) rfl dX8_copy_2_17 ?_
  refine mcI (As := [.int hs, .int ln, .int co, .int tl]) (rest := [.ref q_1]) (wr := [(q, .inr (7, [.int hs, .int ln, .int co, .int tl]))]) (jX8_init l g E ho q_1 hs ln co tl) kX8_init q864 hx hb hml hown hts hRf hRl ho.1.1 hE hS hP hD hA [1] [0] rfl (by decide) rfl (by decide) (by decide) ⟨Nat.le_trans (by decide) hRc, Nat.le_trans (by decide) hRs⟩ hl ⟨rfl, rfl⟩ rfl rfl (Nat.le_of_ble_eq_true rfl) dX8_copy_2_20 (fun _ H locs _ hP hD hS _ _ => ?_)
  have hP : va_P (gD g) Cl [(q, .inr (7, [.int hs, .int ln, .int co, .int tl])), (q_1, .inr (7, [.int hs, .int ln, .int co, .int tl]))] H := hP
  have hD : va_D A [(q, .inr (7, [.int hs, .int ln, .int co, .int tl])), (q_1, .inr (7, [.int hs, .int ln, .int co, .int tl]))] := hD
  exact hm_a hQ hx hb hr hlk (Or.inl ⟨_, rfl⟩) (Or.inr ⟨_, rfl⟩) q_1 rfl trivial hP hD hS (by decide) (by decide) dX8_copy_2_23
-- X8_copy: by interface alone
set_option maxHeartbeats 4000000 in
theorem jX8_copy (l : Launch) (g : hG) (E : hEnv) (ho : jOk g E) (q : Nat) (hs : Int32) (ln : Int32) (co : Int32) (tl : Int32) : MM l yX8_copy cX8_copy 1 (some (.object "java/lang/Object")) 3 74 1 4 [.ref q] g E [(q, .inr (7, [.int hs, .int ln, .int co, .int tl]))] (S := Nat) (fun u => (some (.ref u))) (fun u => True) (fun u => [(q, .inr (7, [.int hs, .int ln, .int co, .int tl])), (u, .inr (7, [.int hs, .int ln, .int co, .int tl]))]) := by
  refine MM.mk (by decide) (Nat.le_of_ble_eq_true rfl) ?_
  intro p e R s m args below meth c Q A H locs ls hX hRc hRs hP hD hE hS hA hnm hl hQ
  obtain ⟨hx, hb, hr, hlk, hml, hown, hts, hRf, hRl⟩ := hX
  have hown : s.vm.findClass RX8 = some m.cls := hown
  have hj := ho.2 _ _ _ hE
  have hK := hj.kn
  have hl : lv_has ls 1 [(0, .ref q)] := hl
  refine lv_aload_n hx hb dX8_copy_0 rfl (lv_at hl 0 rfl) ?_
  refine mcV (As := []) (rest := []) (wr := []) (jX8_copy_2 l g E ho q hs ln co tl) kX8_copy_2 q858 hx hb hml hown hts hRf hRl ho.1.1 hE hS hP hD hA [0] [] rfl (by decide) rfl (by decide) (by decide) ⟨Nat.le_trans (by decide) hRc, Nat.le_trans (by decide) hRs⟩ (va_recv hK hP (ci := 7) (q0 := 0) rfl rfl) hl ⟨rfl, rfl⟩ rfl rfl (Nat.le_of_ble_eq_true rfl) dX8_copy_1 (fun u_1 H locs _ hP hD hS _ _ => ?_)
  have hP : va_P (gD g) Cl [(q, .inr (7, [.int hs, .int ln, .int co, .int tl])), (u_1, .inr (7, [.int hs, .int ln, .int co, .int tl]))] H := hP
  have hD : va_D A [(q, .inr (7, [.int hs, .int ln, .int co, .int tl])), (u_1, .inr (7, [.int hs, .int ln, .int co, .int tl]))] := hD
  exact hm_a hQ hx hb hr hlk (Or.inl ⟨_, rfl⟩) (Or.inr ⟨_, rfl⟩) u_1 rfl trivial hP hD hS (by decide) (by decide) dX8_copy_4
theorem kX6_copy_2 : hkV RX6 yX6_copy_2 cX6_copy_2 2 (some (.object "HorsehairTrade$Bow")) 0 := ⟨q786, q787, q82, q788, rfl, by decide +kernel⟩
set_option maxHeartbeats 4000000 in
theorem jX6_copy_2 (l : Launch) (g : hG) (E : hEnv) (ho : jOk g E) (q : Nat) (kd : Int32) (hs : Int32) (ro : Int32) (qu : Int32) (tl : Int32) (hu : Int32) (pd : Int32) (hpd : narrow .boolean (.int pd) = .int pd ∧ fits .boolean (.int pd) = true) : MM l yX6_copy_2 cX6_copy_2 2 (some (.object "HorsehairTrade$Bow")) 2 51 1 7 [.ref q] g E [(q, .inr (5, [.int kd, .int hs, .int ro, .int qu, .int tl, .int hu, .int pd]))] (S := Nat) (fun u => (some (.ref u))) (fun u => True) (fun u => [(q, .inr (5, [.int kd, .int hs, .int ro, .int qu, .int tl, .int hu, .int pd])), (u, .inr (5, [.int kd, .int hs, .int ro, .int qu, .int tl, .int hu, .int pd]))]) := by
  refine MM.mk (by decide) (Nat.le_of_ble_eq_true rfl) ?_
  intro p e R s m args below meth c Q A H locs ls hX hRc hRs hP hD hE hS hA hnm hl hQ
  obtain ⟨hx, hb, hr, hlk, hml, hown, hts, hRf, hRl⟩ := hX
  have hown : s.vm.findClass RX6 = some m.cls := hown
  have hj := ho.2 _ _ _ hE
  have hK := hj.kn
  have hl : lv_has ls 2 [(0, .ref q)] := hl
  refine va_new (ci := 5) (fs := [.int 0, .int 0, .int 0, .int 0, .int 0, .int 0, .int 0]) (C := RX6) (T := TX6) (N := 7) hx hb hts in_X6 tyX6 tyX6_ok hown (hts _ q789) (hts _ q790) (hts _ q82) hK hP hD hS hA rfl (fun j hj => by rcases (show j = 0 ∨ j = 1 ∨ j = 2 ∨ j = 3 ∨ j = 4 ∨ j = 5 ∨ j = 6 by omega) with rfl | rfl | rfl | rfl | rfl | rfl | rfl <;> rfl) (Nat.le_trans (by decide) hRc) (Nat.le_trans (by decide) hRs) dX6_copy_2_0 (fun q_1 H hP hD hS => ?_)
  have hP : va_P (gD g) Cl [(q, .inr (5, [.int kd, .int hs, .int ro, .int qu, .int tl, .int hu, .int pd])), (q_1, .inr (5, [.int 0, .int 0, .int 0, .int 0, .int 0, .int 0, .int 0]))] H := hP
  have hD : va_D A [(q, .inr (5, [.int kd, .int hs, .int ro, .int qu, .int tl, .int hu, .int pd])), (q_1, .inr (5, [.int 0, .int 0, .int 0, .int 0, .int 0, .int 0, .int 0]))] := hD
  refine lv_dup hx hb dX6_copy_2_3 rfl ?_
  refine lv_aload_n hx hb dX6_copy_2_4 rfl (lv_at hl 0 rfl) ?_
  refine va_get (D := gD g) (ci := 5) (v := .int kd) (C := RX6) (T := TX6) (N := 7) hx hb hts in_X6 hown hK hP 0 rfl rfl 0 (by decide) (hts _ q795) (fun _ h9 => h9) rfl dX6_copy_2_5 ?_
  refine mcI (As := [.int kd]) (rest := [.ref q_1]) (wr := [(q, .inr (5, [.int kd, .int hs, .int ro, .int qu, .int tl, .int hu, .int pd]))]) (jX6_init l g E ho q_1 kd) kX6_init q791 hx hb hml hown hts hRf hRl ho.1.1 hE hS hP hD hA [1] [0] rfl (by decide) rfl (by decide) (by decide) ⟨Nat.le_trans (by decide) hRc, Nat.le_trans (by decide) hRs⟩ hl ⟨rfl, rfl⟩ rfl rfl (Nat.le_of_ble_eq_true rfl) dX6_copy_2_8 (fun _ H locs _ hP hD hS _ _ => ?_)
  have hP : va_P (gD g) Cl [(q, .inr (5, [.int kd, .int hs, .int ro, .int qu, .int tl, .int hu, .int pd])), (q_1, .inr (5, [.int kd, .int 0, .int 0, .int (-1), .int (-1), .int 0, .int 0]))] H := hP
  have hD : va_D A [(q, .inr (5, [.int kd, .int hs, .int ro, .int qu, .int tl, .int hu, .int pd])), (q_1, .inr (5, [.int kd, .int 0, .int 0, .int (-1), .int (-1), .int 0, .int 0]))] := hD
  refine lv_astore_n (lv' := [(1, .ref q_1), (0, .ref q)]) hx hb dX6_copy_2_11 rfl hl (by decide) rfl (fun ls hl => ?_)
  refine lv_aload_n hx hb dX6_copy_2_12 rfl (lv_at hl 0 rfl) ?_
  refine lv_aload_n hx hb dX6_copy_2_13 rfl (lv_at hl 1 rfl) ?_
  refine va_get (D := gD g) (ci := 5) (v := .int hs) (C := RX6) (T := TX6) (N := 7) hx hb hts in_X6 hown hK hP 0 rfl rfl 1 (by decide) (hts _ q798) (fun _ h9 => h9) rfl dX6_copy_2_14 ?_
  refine va_put (D := gD g) (ci := 5) (v := .int hs) (ty := .int) (C := RX6) (T := TX6) (N := 7) hx hb hts in_X6 tyX6 tyX6_ok nmX6 hown hK hP hD hS 1 rfl rfl 1 (by decide) (hts _ q798) (fun _ h9 => h9) rfl (by decide +kernel) rfl rfl (Nat.le_of_ble_eq_true rfl) dX6_copy_2_17 (fun H locs hP hD hS => ?_)
  have hP : va_P (gD g) Cl [(q, .inr (5, [.int kd, .int hs, .int ro, .int qu, .int tl, .int hu, .int pd])), (q_1, .inr (5, [.int kd, .int hs, .int 0, .int (-1), .int (-1), .int 0, .int 0]))] H := hP
  have hD : va_D A [(q, .inr (5, [.int kd, .int hs, .int ro, .int qu, .int tl, .int hu, .int pd])), (q_1, .inr (5, [.int kd, .int hs, .int 0, .int (-1), .int (-1), .int 0, .int 0]))] := hD
  refine lv_aload_n hx hb dX6_copy_2_20 rfl (lv_at hl 0 rfl) ?_
  refine lv_aload_n hx hb dX6_copy_2_21 rfl (lv_at hl 1 rfl) ?_
  refine va_get (D := gD g) (ci := 5) (v := .int ro) (C := RX6) (T := TX6) (N := 7) hx hb hts in_X6 hown hK hP 0 rfl rfl 2 (by decide) (hts _ q801) (fun _ h9 => h9) rfl dX6_copy_2_22 ?_
  refine va_put (D := gD g) (ci := 5) (v := .int ro) (ty := .int) (C := RX6) (T := TX6) (N := 7) hx hb hts in_X6 tyX6 tyX6_ok nmX6 hown hK hP hD hS 1 rfl rfl 2 (by decide) (hts _ q801) (fun _ h9 => h9) rfl (by decide +kernel) rfl rfl (Nat.le_of_ble_eq_true rfl) dX6_copy_2_25 (fun H locs hP hD hS => ?_)
  have hP : va_P (gD g) Cl [(q, .inr (5, [.int kd, .int hs, .int ro, .int qu, .int tl, .int hu, .int pd])), (q_1, .inr (5, [.int kd, .int hs, .int ro, .int (-1), .int (-1), .int 0, .int 0]))] H := hP
  have hD : va_D A [(q, .inr (5, [.int kd, .int hs, .int ro, .int qu, .int tl, .int hu, .int pd])), (q_1, .inr (5, [.int kd, .int hs, .int ro, .int (-1), .int (-1), .int 0, .int 0]))] := hD
  refine lv_aload_n hx hb dX6_copy_2_28 rfl (lv_at hl 0 rfl) ?_
  refine lv_aload_n hx hb dX6_copy_2_29 rfl (lv_at hl 1 rfl) ?_
  refine va_get (D := gD g) (ci := 5) (v := .int qu) (C := RX6) (T := TX6) (N := 7) hx hb hts in_X6 hown hK hP 0 rfl rfl 3 (by decide) (hts _ q804) (fun _ h9 => h9) rfl dX6_copy_2_30 ?_
  refine va_put (D := gD g) (ci := 5) (v := .int qu) (ty := .int) (C := RX6) (T := TX6) (N := 7) hx hb hts in_X6 tyX6 tyX6_ok nmX6 hown hK hP hD hS 1 rfl rfl 3 (by decide) (hts _ q804) (fun _ h9 => h9) rfl (by decide +kernel) rfl rfl (Nat.le_of_ble_eq_true rfl) dX6_copy_2_33 (fun H locs hP hD hS => ?_)
  have hP : va_P (gD g) Cl [(q, .inr (5, [.int kd, .int hs, .int ro, .int qu, .int tl, .int hu, .int pd])), (q_1, .inr (5, [.int kd, .int hs, .int ro, .int qu, .int (-1), .int 0, .int 0]))] H := hP
  have hD : va_D A [(q, .inr (5, [.int kd, .int hs, .int ro, .int qu, .int tl, .int hu, .int pd])), (q_1, .inr (5, [.int kd, .int hs, .int ro, .int qu, .int (-1), .int 0, .int 0]))] := hD
  refine lv_aload_n hx hb dX6_copy_2_36 rfl (lv_at hl 0 rfl) ?_
  refine lv_aload_n hx hb dX6_copy_2_37 rfl (lv_at hl 1 rfl) ?_
  refine va_get (D := gD g) (ci := 5) (v := .int tl) (C := RX6) (T := TX6) (N := 7) hx hb hts in_X6 hown hK hP 0 rfl rfl 4 (by decide) (hts _ q807) (fun _ h9 => h9) rfl dX6_copy_2_38 ?_
  refine va_put (D := gD g) (ci := 5) (v := .int tl) (ty := .int) (C := RX6) (T := TX6) (N := 7) hx hb hts in_X6 tyX6 tyX6_ok nmX6 hown hK hP hD hS 1 rfl rfl 4 (by decide) (hts _ q807) (fun _ h9 => h9) rfl (by decide +kernel) rfl rfl (Nat.le_of_ble_eq_true rfl) dX6_copy_2_41 (fun H locs hP hD hS => ?_)
  have hP : va_P (gD g) Cl [(q, .inr (5, [.int kd, .int hs, .int ro, .int qu, .int tl, .int hu, .int pd])), (q_1, .inr (5, [.int kd, .int hs, .int ro, .int qu, .int tl, .int 0, .int 0]))] H := hP
  have hD : va_D A [(q, .inr (5, [.int kd, .int hs, .int ro, .int qu, .int tl, .int hu, .int pd])), (q_1, .inr (5, [.int kd, .int hs, .int ro, .int qu, .int tl, .int 0, .int 0]))] := hD
  refine lv_aload_n hx hb dX6_copy_2_44 rfl (lv_at hl 0 rfl) ?_
  refine lv_aload_n hx hb dX6_copy_2_45 rfl (lv_at hl 1 rfl) ?_
  refine va_get (D := gD g) (ci := 5) (v := .int hu) (C := RX6) (T := TX6) (N := 7) hx hb hts in_X6 hown hK hP 0 rfl rfl 5 (by decide) (hts _ q810) (fun _ h9 => h9) rfl dX6_copy_2_46 ?_
  refine va_put (D := gD g) (ci := 5) (v := .int hu) (ty := .int) (C := RX6) (T := TX6) (N := 7) hx hb hts in_X6 tyX6 tyX6_ok nmX6 hown hK hP hD hS 1 rfl rfl 5 (by decide) (hts _ q810) (fun _ h9 => h9) rfl (by decide +kernel) rfl rfl (Nat.le_of_ble_eq_true rfl) dX6_copy_2_49 (fun H locs hP hD hS => ?_)
  have hP : va_P (gD g) Cl [(q, .inr (5, [.int kd, .int hs, .int ro, .int qu, .int tl, .int hu, .int pd])), (q_1, .inr (5, [.int kd, .int hs, .int ro, .int qu, .int tl, .int hu, .int 0]))] H := hP
  have hD : va_D A [(q, .inr (5, [.int kd, .int hs, .int ro, .int qu, .int tl, .int hu, .int pd])), (q_1, .inr (5, [.int kd, .int hs, .int ro, .int qu, .int tl, .int hu, .int 0]))] := hD
  refine lv_aload_n hx hb dX6_copy_2_52 rfl (lv_at hl 0 rfl) ?_
  refine lv_aload_n hx hb dX6_copy_2_53 rfl (lv_at hl 1 rfl) ?_
  refine va_get (D := gD g) (ci := 5) (v := .int pd) (C := RX6) (T := TX6) (N := 7) hx hb hts in_X6 hown hK hP 0 rfl rfl 6 (by decide) (hts _ q812) (fun _ h9 => h9) rfl dX6_copy_2_54 ?_
  refine va_put (D := gD g) (ci := 5) (v := .int pd) (ty := .boolean) (C := RX6) (T := TX6) (N := 7) hx hb hts in_X6 tyX6 tyX6_ok nmX6 hown hK hP hD hS 1 rfl rfl 6 (by decide) (hts _ q812) (fun _ h9 => h9) rfl (by decide +kernel) hpd.1 hpd.2 (Nat.le_of_ble_eq_true rfl) dX6_copy_2_57 (fun H locs hP hD hS => ?_)
  have hP : va_P (gD g) Cl [(q, .inr (5, [.int kd, .int hs, .int ro, .int qu, .int tl, .int hu, .int pd])), (q_1, .inr (5, [.int kd, .int hs, .int ro, .int qu, .int tl, .int hu, .int pd]))] H := hP
  have hD : va_D A [(q, .inr (5, [.int kd, .int hs, .int ro, .int qu, .int tl, .int hu, .int pd])), (q_1, .inr (5, [.int kd, .int hs, .int ro, .int qu, .int tl, .int hu, .int pd]))] := hD
  refine lv_aload_n hx hb dX6_copy_2_60 rfl (lv_at hl 0 rfl) ?_
  exact hm_a hQ hx hb hr hlk (Or.inl ⟨_, rfl⟩) (Or.inr ⟨_, rfl⟩) q_1 rfl trivial hP hD hS (by decide) (by decide) dX6_copy_2_61
-- X6_copy: by interface alone
set_option maxHeartbeats 4000000 in
theorem jX6_copy (l : Launch) (g : hG) (E : hEnv) (ho : jOk g E) (q : Nat) (kd : Int32) (hs : Int32) (ro : Int32) (qu : Int32) (tl : Int32) (hu : Int32) (pd : Int32) (hpd : narrow .boolean (.int pd) = .int pd ∧ fits .boolean (.int pd) = true) : MM l yX6_copy cX6_copy 1 (some (.object "java/lang/Object")) 3 72 1 7 [.ref q] g E [(q, .inr (5, [.int kd, .int hs, .int ro, .int qu, .int tl, .int hu, .int pd]))] (S := Nat) (fun u => (some (.ref u))) (fun u => True) (fun u => [(q, .inr (5, [.int kd, .int hs, .int ro, .int qu, .int tl, .int hu, .int pd])), (u, .inr (5, [.int kd, .int hs, .int ro, .int qu, .int tl, .int hu, .int pd]))]) := by
  refine MM.mk (by decide) (Nat.le_of_ble_eq_true rfl) ?_
  intro p e R s m args below meth c Q A H locs ls hX hRc hRs hP hD hE hS hA hnm hl hQ
  obtain ⟨hx, hb, hr, hlk, hml, hown, hts, hRf, hRl⟩ := hX
  have hown : s.vm.findClass RX6 = some m.cls := hown
  have hj := ho.2 _ _ _ hE
  have hK := hj.kn
  have hl : lv_has ls 1 [(0, .ref q)] := hl
  refine lv_aload_n hx hb dX6_copy_0 rfl (lv_at hl 0 rfl) ?_
  refine mcV (As := []) (rest := []) (wr := []) (jX6_copy_2 l g E ho q kd hs ro qu tl hu pd hpd) kX6_copy_2 q785 hx hb hml hown hts hRf hRl ho.1.1 hE hS hP hD hA [0] [] rfl (by decide) rfl (by decide) (by decide) ⟨Nat.le_trans (by decide) hRc, Nat.le_trans (by decide) hRs⟩ (va_recv hK hP (ci := 5) (q0 := 0) rfl rfl) hl ⟨rfl, rfl⟩ rfl rfl (Nat.le_of_ble_eq_true rfl) dX6_copy_1 (fun u_1 H locs _ hP hD hS _ _ => ?_)
  have hP : va_P (gD g) Cl [(q, .inr (5, [.int kd, .int hs, .int ro, .int qu, .int tl, .int hu, .int pd])), (u_1, .inr (5, [.int kd, .int hs, .int ro, .int qu, .int tl, .int hu, .int pd]))] H := hP
  have hD : va_D A [(q, .inr (5, [.int kd, .int hs, .int ro, .int qu, .int tl, .int hu, .int pd])), (u_1, .inr (5, [.int kd, .int hs, .int ro, .int qu, .int tl, .int hu, .int pd]))] := hD
  exact hm_a hQ hx hb hr hlk (Or.inl ⟨_, rfl⟩) (Or.inr ⟨_, rfl⟩) u_1 rfl trivial hP hD hS (by decide) (by decide) dX6_copy_4
theorem kX7_copy_2 : hkV RX7 yX7_copy_2 cX7_copy_2 1 (some (.object "HorsehairTrade$Cake")) 0 := ⟨q837, q838, q83, q839, rfl, by decide +kernel⟩
set_option maxHeartbeats 4000000 in
theorem jX7_copy_2 (l : Launch) (g : hG) (E : hEnv) (ho : jOk g E) (q : Nat) (sz : Int32) : MM l yX7_copy_2 cX7_copy_2 1 (some (.object "HorsehairTrade$Cake")) 2 51 1 1 [.ref q] g E [(q, .inr (6, [.int sz]))] (S := Nat) (fun u => (some (.ref u))) (fun u => True) (fun u => [(q, .inr (6, [.int sz])), (u, .inr (6, [.int sz]))]) := by
  refine MM.mk (by decide) (Nat.le_of_ble_eq_true rfl) ?_
  intro p e R s m args below meth c Q A H locs ls hX hRc hRs hP hD hE hS hA hnm hl hQ
  obtain ⟨hx, hb, hr, hlk, hml, hown, hts, hRf, hRl⟩ := hX
  have hown : s.vm.findClass RX7 = some m.cls := hown
  have hj := ho.2 _ _ _ hE
  have hK := hj.kn
  have hl : lv_has ls 1 [(0, .ref q)] := hl
  refine va_new (ci := 6) (fs := [.int 0]) (C := RX7) (T := TX7) (N := 1) hx hb hts in_X7 tyX7 tyX7_ok hown (hts _ q840) (hts _ q841) (hts _ q83) hK hP hD hS hA rfl (fun j hj => by rcases (show j = 0 by omega) with rfl <;> rfl) (Nat.le_trans (by decide) hRc) (Nat.le_trans (by decide) hRs) dX7_copy_2_0 (fun q_1 H hP hD hS => ?_)
  have hP : va_P (gD g) Cl [(q, .inr (6, [.int sz])), (q_1, .inr (6, [.int 0]))] H := hP
  have hD : va_D A [(q, .inr (6, [.int sz])), (q_1, .inr (6, [.int 0]))] := hD
  refine lv_dup hx hb dX7_copy_2_3 rfl ?_
  refine lv_aload_n hx hb dX7_copy_2_4 rfl (lv_at hl 0 rfl) ?_
  refine va_get (D := gD g) (ci := 6) (v := .int sz) (C := RX7) (T := TX7) (N := 1) hx hb hts in_X7 hown hK hP 0 rfl rfl 0 (by decide) (hts _ q846) (fun _ h9 => h9) rfl dX7_copy_2_5 ?_
  refine mcI (As := [.int sz]) (rest := [.ref q_1]) (wr := [(q, .inr (6, [.int sz]))]) (jX7_init l g E ho q_1 sz) kX7_init q842 hx hb hml hown hts hRf hRl ho.1.1 hE hS hP hD hA [1] [0] rfl (by decide) rfl (by decide) (by decide) ⟨Nat.le_trans (by decide) hRc, Nat.le_trans (by decide) hRs⟩ hl ⟨rfl, rfl⟩ rfl rfl (Nat.le_of_ble_eq_true rfl) dX7_copy_2_8 (fun _ H locs _ hP hD hS _ _ => ?_)
  have hP : va_P (gD g) Cl [(q, .inr (6, [.int sz])), (q_1, .inr (6, [.int sz]))] H := hP
  have hD : va_D A [(q, .inr (6, [.int sz])), (q_1, .inr (6, [.int sz]))] := hD
  exact hm_a hQ hx hb hr hlk (Or.inl ⟨_, rfl⟩) (Or.inr ⟨_, rfl⟩) q_1 rfl trivial hP hD hS (by decide) (by decide) dX7_copy_2_11
-- X7_copy: by interface alone
set_option maxHeartbeats 4000000 in
theorem jX7_copy (l : Launch) (g : hG) (E : hEnv) (ho : jOk g E) (q : Nat) (sz : Int32) : MM l yX7_copy cX7_copy 1 (some (.object "java/lang/Object")) 3 71 1 1 [.ref q] g E [(q, .inr (6, [.int sz]))] (S := Nat) (fun u => (some (.ref u))) (fun u => True) (fun u => [(q, .inr (6, [.int sz])), (u, .inr (6, [.int sz]))]) := by
  refine MM.mk (by decide) (Nat.le_of_ble_eq_true rfl) ?_
  intro p e R s m args below meth c Q A H locs ls hX hRc hRs hP hD hE hS hA hnm hl hQ
  obtain ⟨hx, hb, hr, hlk, hml, hown, hts, hRf, hRl⟩ := hX
  have hown : s.vm.findClass RX7 = some m.cls := hown
  have hj := ho.2 _ _ _ hE
  have hK := hj.kn
  have hl : lv_has ls 1 [(0, .ref q)] := hl
  refine lv_aload_n hx hb dX7_copy_0 rfl (lv_at hl 0 rfl) ?_
  refine mcV (As := []) (rest := []) (wr := []) (jX7_copy_2 l g E ho q sz) kX7_copy_2 q836 hx hb hml hown hts hRf hRl ho.1.1 hE hS hP hD hA [0] [] rfl (by decide) rfl (by decide) (by decide) ⟨Nat.le_trans (by decide) hRc, Nat.le_trans (by decide) hRs⟩ (va_recv hK hP (ci := 6) (q0 := 0) rfl rfl) hl ⟨rfl, rfl⟩ rfl rfl (Nat.le_of_ble_eq_true rfl) dX7_copy_1 (fun u_1 H locs _ hP hD hS _ _ => ?_)
  have hP : va_P (gD g) Cl [(q, .inr (6, [.int sz])), (u_1, .inr (6, [.int sz]))] H := hP
  have hD : va_D A [(q, .inr (6, [.int sz])), (u_1, .inr (6, [.int sz]))] := hD
  exact hm_a hQ hx hb hr hlk (Or.inl ⟨_, rfl⟩) (Or.inr ⟨_, rfl⟩) u_1 rfl trivial hP hD hS (by decide) (by decide) dX7_copy_4
