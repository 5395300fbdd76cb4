/-! CHECKS -/
set_option maxRecDepth 100000
theorem kX1_check : hkS yX1_check cX1_check 3 none 3 := ⟨q1094, q67, q1095, by decide +kernel⟩
set_option maxHeartbeats 4000000 in
theorem jX1_check (l : Launch) (g : hG) (E : hEnv) (ho : jOk g E) (hst : l.stackTraces = false) (P : Prop) [Decidable P] (r : Int32) (d : Int32) : XM l yX1_check cX1_check 3 none 5 92 1 8 [.int (if P then 1 else 0), .int r, .int d] g E [] (S := Unit) (fun _ => none) (fun _ => P) (fun _ => []) (SX := Nat → Value) (fun En u => En = RX10 ∧ ¬ P) (fun u q => [(q, .inr (9, [u 0, u 1, u 2, u 3, u 4, u 5, .int r, .int d]))]) := by
  refine XM.mk (by decide) (Nat.le_of_ble_eq_true rfl) ?_
  intro p e R s m args below meth c Q A H locs ls hX hRc hRs hP hD hE hS hA hnm hl hnt hQ
  obtain ⟨hx, hb, hr, hlk, hml, hown, hts, hRf, hRl⟩ := hX
  subst hQ
  have hown : s.vm.findClass RX1 = some m.cls := hown
  have hj := ho.2 _ _ _ hE
  have hK := hj.kn
  have hl : lv_has ls 3 [(0, .int (if P then 1 else 0)), (1, .int r), (2, .int d)] := hl
  refine lv_iload_n hx hb dX1_check_0 rfl (lv_at hl 0 rfl) ?_
  refine h_ifne_b (tgt := 14) hx hb dX1_check_1 (by decide) (fun c_1 => ?_) (fun c_1 => ?_)
  · exact vx_ret (hm_v rfl hx hb hr hlk () rfl (c_1) hP hD hS (by decide) (by decide) dX1_check_14)
  refine h_newE (ci := 9) (fs := [.null, .null, .null, .null, .null, .int 0, .int 0, .int 0]) (C := RX10) (T := TX10) (N := 8) hx hb hts in_X10 tyX10 tyX10_ok hown (hts _ q767) (hts _ q1096) (hts _ q97) hK hP hD hS hA rfl (fun j hj => by rcases (show j = 0 ∨ j = 1 ∨ j = 2 ∨ j = 3 ∨ j = 4 ∨ j = 5 ∨ j = 6 ∨ j = 7 by omega) with rfl | rfl | rfl | rfl | rfl | rfl | rfl | rfl <;> rfl) (Nat.le_trans (by decide) hRc) (Nat.le_trans (by decide) hRs) dX1_check_4 (fun q_2 H kC hkC hbl hP hD hS => ?_)
  have hP : va_P (gD g) Cl [(q_2, .inr (9, [.null, .null, .null, .null, .null, .int 0, .int 0, .int 0]))] H := hP
  have hD : va_D A [(q_2, .inr (9, [.null, .null, .null, .null, .null, .int 0, .int 0, .int 0]))] := hD
  refine lv_dup hx hb dX1_check_7 rfl ?_
  refine lv_iload_n hx hb dX1_check_8 rfl (lv_at hl 1 rfl) ?_
  refine lv_iload_n hx hb dX1_check_9 rfl (lv_at hl 2 rfl) ?_
  refine mbI (As := [.int r, .int d]) (rest := [.ref q_2]) (wr := []) (jX10_init l g E ho hst q_2 r d) kX10_init q1104 hx hb hml hown hts hRf hRl ho.1.1 hE hS hkC hbl hP hD hA ⟨Nat.le_trans (by decide) hRc, Nat.le_trans (by decide) hRs⟩ hl ⟨rfl, rfl⟩ rfl rfl (Nat.le_of_ble_eq_true rfl) dX1_check_10 (fun u_3 H locs hP hD hS => ?_)
  have hP : va_P (gD g) Cl [(q_2, .inr (9, [u_3 0, u_3 1, u_3 2, u_3 3, u_3 4, u_3 5, .int r, .int d]))] H := sg_P3e [] [[(q_2, .inr (9, [u_3 0, u_3 1, u_3 2, u_3 3, u_3 4, u_3 5, .int r, .int d]))]] [[(q_2, .inr (9, [u_3 0, u_3 1, u_3 2, u_3 3, u_3 4, u_3 5, .int r, .int d]))]] rfl rfl [0] rfl hP
  have hD : va_D A [(q_2, .inr (9, [u_3 0, u_3 1, u_3 2, u_3 3, u_3 4, u_3 5, .int r, .int d]))] := sg_D3e [] [[(q_2, .inr (9, [u_3 0, u_3 1, u_3 2, u_3 3, u_3 4, u_3 5, .int r, .int d]))]] [[(q_2, .inr (9, [u_3 0, u_3 1, u_3 2, u_3 3, u_3 4, u_3 5, .int r, .int d]))]] rfl rfl [0] rfl (by decide) hD
  obtain ⟨ce9, hc9, hv9, hcl9⟩ := h_thrown hK hP 0 rfl (C := RX10) (T0 := TX10) (N := 8) rfl
  refine vx_athrow hx hb dX1_check_13 ?_
  exact hx_out (fun x hx9 => (hnt x hx9).elim) hlk hc9 hv9 hcl9 u_3 (⟨rfl, c_1⟩) hP hD hS (by decide) (by decide)
theorem kX1_checkRange : hkS yX1_checkRange cX1_checkRange 3 none 3 := ⟨q1088, q67, q1089, by decide +kernel⟩
set_option maxHeartbeats 4000000 in
theorem jX1_checkRange (l : Launch) (g : hG) (E : hEnv) (ho : jOk g E) (hst : l.stackTraces = false) (x : Int32) (lo : Int32) (hi : Int32) : XM l yX1_checkRange cX1_checkRange 3 none 6 114 1 8 [.int x, .int lo, .int hi] g E [] (S := Unit) (fun _ => none) (fun _ => inR x lo hi) (fun _ => []) (SX := Nat → Value) (fun En u => En = RX10 ∧ ¬ inR x lo hi) (fun u q => [(q, .inr (9, [u 0, u 1, u 2, u 3, u 4, u 5, .int 3, .int x]))]) := by
  refine XM.mk (by decide) (Nat.le_of_ble_eq_true rfl) ?_
  intro p e R s m args below meth c Q A H locs ls hX hRc hRs hP hD hE hS hA hnm hl hnt hQ
  obtain ⟨hx, hb, hr, hlk, hml, hown, hts, hRf, hRl⟩ := hX
  subst hQ
  have hown : s.vm.findClass RX1 = some m.cls := hown
  have hj := ho.2 _ _ _ hE
  have hK := hj.kn
  have hl : lv_has ls 3 [(0, .int x), (1, .int lo), (2, .int hi)] := hl
  refine lv_iload_n hx hb dX1_checkRange_0 rfl (lv_at hl 0 rfl) ?_
  refine lv_iload_n hx hb dX1_checkRange_1 rfl (lv_at hl 1 rfl) ?_
  refine lv_iload_n hx hb dX1_checkRange_2 rfl (lv_at hl 2 rfl) ?_
  refine rcS (As := [.int x, .int lo, .int hi]) (rest := []) (st1 := [.int (if inR x lo hi then 1 else 0)]) (jX1_isBetween l g E ho x lo hi) kX1_isBetween q1090 hx hb hml hown hts hRf hRl ho.1.1 hE hS (hP.sub [] rfl) ⟨Nat.le_trans (by decide) hRc, Nat.le_trans (by decide) hRs⟩ hl ⟨rfl, rfl⟩ rfl rfl (Nat.le_of_ble_eq_true rfl) rfl dX1_checkRange_3 ?_
  refine lv_iconst (v := 3) hx hb dX1_checkRange_6 (by decide) ?_
  refine lv_iload_n hx hb dX1_checkRange_7 rfl (lv_at hl 0 rfl) ?_
  have hP : va_P (gD g) Cl ([] ++ []) H := hP
  have hD : va_D A ([] ++ []) := hD
  refine xcS (As := [.int (if inR x lo hi then 1 else 0), .int 3, .int x]) (rest := []) (wr := []) (jX1_check l g E ho hst (inR x lo hi) 3 x) kX1_check q1093 hx hb hml hown hts hRf hRl ho.1.1 hE hS hP hD hA ⟨Nat.le_trans (by decide) hRc, Nat.le_trans (by decide) hRs⟩ hl ⟨rfl, rfl⟩ rfl rfl (Nat.le_of_ble_eq_true rfl) dX1_checkRange_8 (fun Enz_2 cez_2 q9z_2 u9z_2 H locs hpxz_2 hP hD hS _ _ hcxz_2 hvxz_2 hclxz_2 => ?_) (fun _ H locs hp_1 hP hD hS _ _ => ?_)
  · have hP : va_P (gD g) Cl [(q9z_2, .inr (9, [u9z_2 0, u9z_2 1, u9z_2 2, u9z_2 3, u9z_2 4, u9z_2 5, .int 3, .int x]))] H := sg_P3e [] [[(q9z_2, .inr (9, [u9z_2 0, u9z_2 1, u9z_2 2, u9z_2 3, u9z_2 4, u9z_2 5, .int 3, .int x]))]] [[(q9z_2, .inr (9, [u9z_2 0, u9z_2 1, u9z_2 2, u9z_2 3, u9z_2 4, u9z_2 5, .int 3, .int x]))]] rfl rfl [0] rfl hP
    have hD : va_D A [(q9z_2, .inr (9, [u9z_2 0, u9z_2 1, u9z_2 2, u9z_2 3, u9z_2 4, u9z_2 5, .int 3, .int x]))] := sg_D3e [] [[(q9z_2, .inr (9, [u9z_2 0, u9z_2 1, u9z_2 2, u9z_2 3, u9z_2 4, u9z_2 5, .int 3, .int x]))]] [[(q9z_2, .inr (9, [u9z_2 0, u9z_2 1, u9z_2 2, u9z_2 3, u9z_2 4, u9z_2 5, .int 3, .int x]))]] rfl rfl [0] rfl (by decide) hD
    exact hx_out (fun x hx9 => (hnt x hx9).elim) hlk hcxz_2 hvxz_2 hclxz_2 u9z_2 (hpxz_2) hP hD hS (by decide) (by decide)
  have hP : va_P (gD g) Cl [] H := sg_P3e [] [] [] rfl rfl [] rfl hP
  have hD : va_D A [] := sg_D3e [] [] [] rfl rfl [] rfl (by decide) hD
  exact vx_ret (hm_v rfl hx hb hr hlk () rfl (hp_1) hP hD hS (by decide) (by decide) dX1_checkRange_11)
