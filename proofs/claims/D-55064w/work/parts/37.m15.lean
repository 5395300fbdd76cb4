/-! THE REFERENCE: runs -/
set_option maxRecDepth 100000
/-! A RUN of orders, as a function: where it stops, with what -/
abbrev doK (O : Nat → Int32) (s : Nat → Int32) (i : Nat) : opR := opDoes s (O (3 * i)) (O (3 * i + 1)) (O (3 * i + 2))
def runF (O : Nat → Int32) : Nat → Nat → (Nat → Int32) → Nat × opR
  | 0, i, s => (i, (0, 0, 0, s))
  | d + 1, i, s => if (doK O s i).1 = 0 then runF O d (i + 1) (doK O s i).2.2.2 else (i, doK O s i)
abbrev run0I (I : Nat → Int32) (q : txR) : Nat → Int32 := upd (txI I q) 7 0
abbrev runI (I : Nat → Int32) (n : Nat) (q : txR) (j : Nat) (r : opR) : Nat → Int32 := if r.1 = 0 then chI (upd (upd (run0I I q) 1 0) 5 (nI (q.2.2.1 - 1))) n else upd (refI (upd (upd (run0I I q) 1 0) 5 (nI j)) r.1 r.2.1) 1 2
abbrev runFF (F : Nat → Nat → Int32) (n : Nat) (q : txR) (r : opR) : Nat → Nat → Int32 := if r.1 = 0 then chF (va_up (kpF (txF F q)) 0 r.2.2.2) n else va_up (kpF (txF F q)) 0 (va_cpy (va_cpy (F 0) (F 1) 0 0 195) r.2.2.2 0 0 195)

theorem mX4_isTextN (l : Launch) (g : hG) (E : hEnv) (ho : jOk g E) (h0 : Nat) (a : Nat → Nat) (I : Nat → Int32) (F : Nat → Nat → Int32) (tp : Nat) (T : Nat → Int32) (td : Int32) (O : Nat → Int32) (q : txR) (hI7 : I 7 = nI tp) (ht60 : tp ≤ 60) (hT : F 4 = T) (htd : I 10 = td) (hO : F 5 = O) (hq : textR T tp td O = q) (hok : txOk tp q = 0) : MM l yX4_isText cX4_isText 2 (some .boolean) 7 154 0 0 [.ref h0] g E (mW g h0 a I F) (S := Unit) (fun _ => (some (.int 0))) (fun _ => True) (fun _ => mW g h0 a (txI I q) (txF F q)) := by
  have h := mX4_isText l g E ho h0 a I F tp T hI7 ht60 hT
  subst htd
  subst hO
  rw [hq, hok] at h
  exact h
theorem mX4_isTextY (l : Launch) (g : hG) (E : hEnv) (ho : jOk g E) (h0 : Nat) (a : Nat → Nat) (I : Nat → Int32) (F : Nat → Nat → Int32) (tp : Nat) (T : Nat → Int32) (td : Int32) (O : Nat → Int32) (q : txR) (hI7 : I 7 = nI tp) (ht60 : tp ≤ 60) (hT : F 4 = T) (htd : I 10 = td) (hO : F 5 = O) (hq : textR T tp td O = q) (hok : txOk tp q = 1) : MM l yX4_isText cX4_isText 2 (some .boolean) 7 154 0 0 [.ref h0] g E (mW g h0 a I F) (S := Unit) (fun _ => (some (.int 1))) (fun _ => True) (fun _ => mW g h0 a (txI I q) (txF F q)) := by
  have h := mX4_isText l g E ho h0 a I F tp T hI7 ht60 hT
  subst htd
  subst hO
  rw [hq, hok] at h
  exact h
theorem mX4_doesY (l : Launch) (g : hG) (E : hEnv) (ho : mOk g E) (h0 : Nat) (a : Nat → Nat) (I : Nat → Int32) (F : Nat → Nat → Int32) (pt : Nat) (nt : Nat) (nh : Nat) (nb : Nat) (nc : Nat) (tw : Nat) (S0 : Nat → Int32) (O : Nat → Int32) (r : opR) (hc : Cn (F 0) nt nh nb nc tw) (hpt : pt + 2 < 36) (hS0 : F 0 = S0) (hO : F 5 = O) (hrr : opDoes S0 (O pt) (O (pt + 1)) (O (pt + 2)) = r) (hr1 : r.1 = 0) : MM l yX4_does cX4_does 4 (some .int) 4 90 0 0 [.ref h0, .int (nI pt)] g E (mW g h0 a I F) (S := Unit) (fun _ => (some (.int r.2.2.1))) (fun _ => True) (fun _ => mW g h0 a I (va_up F 0 r.2.2.2)) := by
  have h := mX4_does l g E ho h0 a I F pt nt nh nb nc tw hc hpt
  subst hS0
  subst hO
  rw [hrr, show opI I r = I from if_pos hr1] at h
  exact h
theorem mX4_doesN (l : Launch) (g : hG) (E : hEnv) (ho : mOk g E) (h0 : Nat) (a : Nat → Nat) (I : Nat → Int32) (F : Nat → Nat → Int32) (pt : Nat) (nt : Nat) (nh : Nat) (nb : Nat) (nc : Nat) (tw : Nat) (S0 : Nat → Int32) (O : Nat → Int32) (r : opR) (hc : Cn (F 0) nt nh nb nc tw) (hpt : pt + 2 < 36) (hS0 : F 0 = S0) (hO : F 5 = O) (hrr : opDoes S0 (O pt) (O (pt + 1)) (O (pt + 2)) = r) (hr1 : ¬ r.1 = 0) : MM l yX4_does cX4_does 4 (some .int) 4 90 0 0 [.ref h0, .int (nI pt)] g E (mW g h0 a I F) (S := Unit) (fun _ => (some (.int 0))) (fun _ => True) (fun _ => mW g h0 a (refI I r.1 r.2.1) F) := by
  have h := mX4_does l g E ho h0 a I F pt nt nh nb nc tw hc hpt
  subst hS0
  subst hO
  obtain ⟨e1, e2⟩ := opDoes_ref (F 0) (F 5 pt) (F 5 (pt + 1)) (F 5 (pt + 2)) (by rw [hrr]; exact hr1)
  rw [hrr] at e1 e2
  rw [hrr, show opI I r = refI I r.1 r.2.1 from if_neg hr1, e1, e2, hup_id] at h
  exact h
theorem kX4_run : hkV RX4 yX4_run cX4_run 4 (some .int) 0 := ⟨q2635, q2636, q78, q2637, rfl, by decide +kernel⟩
set_option maxHeartbeats 4000000 in
theorem mX4_run0 (l : Launch) (g : hG) (E : hEnv) (ho : jOk g E) (h0 : Nat) (a : Nat → Nat) (I : Nat → Int32) (F : Nat → Nat → Int32) (tp : Nat) (T : Nat → Int32) (td : Int32) (O : Nat → Int32) (q : txR) (hI7 : I 7 = nI tp) (ht60 : tp ≤ 60) (hT : F 4 = T) (htd : I 10 = td) (hO : F 5 = O) (hq : textR T tp td O = q) (hok : txOk tp q = 0) : MM l yX4_run cX4_run 4 (some .int) 8 175 0 0 [.ref h0] g E (mW g h0 a I F) (S := Unit) (fun _ => (some (.int 0))) (fun _ => True) (fun _ => mW g h0 a (upd (upd (run0I I q) 1 1) 11 (nI q.2.1)) (txF F q)) := by
  refine MM.mk (by decide) (Nat.le_of_ble_eq_true rfl) ?_
  intro p e R s m args below meth c Q A H locs ls hX hRc hRs hP hD hE hS hA hnm hl hQ
  obtain ⟨hx, hb, hr, hlk, hml, hown, hts, hRf, hRl⟩ := hX
  have hown : s.vm.findClass RX4 = some m.cls := hown
  have hj := ho.2 _ _ _ hE
  have hK := hj.kn
  have hl : lv_has ls 4 [(0, .ref h0)] := hl
  subst hT
  subst htd
  subst hO
  have e0 : upd (upd (upd (upd I 5 (I 5)) 8 (I 8)) 9 (I 9)) 10 (I 10) = I := by rw [h_usame rfl, h_usame rfl, h_usame rfl, h_usame rfl]
  have eF : va_up (va_up F 0 (F 0)) 5 (F 5) = F := by rw [hup_id, hup_id]
  rw [← e0, ← eF] at hP hD
  have hP : va_P (gD g) Cl (mW g h0 a (upd (upd (upd (upd I 5 (I 5)) 8 (I 8)) 9 (I 9)) 10 (I 10)) (va_up (va_up F 0 (F 0)) 5 (F 5))) H := hP
  have hD : va_D A (mW g h0 a (upd (upd (upd (upd I 5 (I 5)) 8 (I 8)) 9 (I 9)) 10 (I 10)) (va_up (va_up F 0 (F 0)) 5 (F 5))) := hD
  refine lv_aload_n hx hb dX4_run_0 rfl (lv_at hl 0 rfl) ?_
  refine mcV (As := []) (rest := []) (wr := []) (mX4_isTextN l g E ho h0 a (upd (upd (upd (upd I 5 (I 5)) 8 (I 8)) 9 (I 9)) 10 (I 10)) (va_up (va_up F 0 (F 0)) 5 (F 5)) tp (F 4) (I 10) (F 5) q hI7 ht60 rfl rfl rfl hq hok) kX4_isText q2638 hx hb hml hown hts hRf hRl ho.1.1 hE hS hP hD hA [0, 1, 2, 3, 4, 5, 6, 7, 8] [] rfl (by decide) rfl (by decide) (by decide) ⟨Nat.zero_le _, Nat.zero_le _⟩ (va_recv hK hP (ci := 0) (q0 := 0) rfl rfl) hl ⟨rfl, rfl⟩ rfl rfl (Nat.le_of_ble_eq_true rfl) dX4_run_1 (fun _ H locs _ hP hD hS _ _ => ?_)
  have hP : va_P (gD g) Cl (mW g h0 a (upd (upd (upd (upd I 5 (I 5)) 8 (nI q.2.1)) 9 (nI q.2.2.1)) 10 q.2.2.2.1) (va_up (va_up F 0 (F 0)) 5 (q.2.2.2.2))) H := hP
  have hD : va_D A (mW g h0 a (upd (upd (upd (upd I 5 (I 5)) 8 (nI q.2.1)) 9 (nI q.2.2.1)) 10 q.2.2.2.1) (va_up (va_up F 0 (F 0)) 5 (q.2.2.2.2))) := hD
  refine lv_istore_n (lv' := [(1, .int 0), (0, .ref h0)]) hx hb dX4_run_4 rfl hl (by decide) rfl (fun ls hl => ?_)
  refine lv_aload_n hx hb dX4_run_5 rfl (lv_at hl 1 rfl) ?_
  refine lv_iconst (v := 0) hx hb dX4_run_6 (by decide) ?_
  refine va_put (D := gD g) (ci := 0) (v := .int 0) (ty := .int) (C := RX4) (T := TX4) (N := 21) hx hb hts in_X4 tyX4 tyX4_ok nmX4 hown hK hP hD hS 0 rfl rfl 14 (by decide) (hts _ q2328) (fun _ h9 => h9) rfl (by decide +kernel) rfl rfl (Nat.le_of_ble_eq_true rfl) dX4_run_7 (fun H locs hP hD hS => ?_)
  have hP : va_P (gD g) Cl (mW g h0 a (upd (upd (upd (upd (upd I 5 (I 5)) 8 (nI q.2.1)) 9 (nI q.2.2.1)) 10 q.2.2.2.1) 7 0) (va_up (va_up F 0 (F 0)) 5 (q.2.2.2.2))) H := hP
  have hD : va_D A (mW g h0 a (upd (upd (upd (upd (upd I 5 (I 5)) 8 (nI q.2.1)) 9 (nI q.2.2.1)) 10 q.2.2.2.1) 7 0) (va_up (va_up F 0 (F 0)) 5 (q.2.2.2.2))) := hD
  refine lv_aload_n hx hb dX4_run_10 rfl (lv_at hl 1 rfl) ?_
  refine lv_iload_n hx hb dX4_run_11 rfl (lv_at hl 0 rfl) ?_
  refine lv_if_ne (tgt := 19) hx hb dX4_run_12 (by decide) (fun c => absurd c (by decide)) (fun _ => ?_)
  refine lv_iconst (v := 1) hx hb dX4_run_15 (by decide) ?_
  refine lv_goto (tgt := 20) hx hb dX4_run_16 (by decide) ?_
  refine lv_iconst (v := 1) hx hb dX4_run_20 (by decide) ?_
  refine mcV (As := [.int 1, .int 1]) (rest := []) (wr := []) (mX4_isThrown1 l g E ho.1 h0 a (upd (upd (upd (upd (upd I 5 (I 5)) 8 (nI q.2.1)) 9 (nI q.2.2.1)) 10 q.2.2.2.1) 7 0) (va_up (va_up F 0 (F 0)) 5 (q.2.2.2.2)) 1) kX4_isThrown q2574 hx hb hml hown hts hRf hRl ho.1.1 hE hS hP hD hA [0, 1, 2, 3, 4, 5, 6, 7, 8] [] rfl (by decide) rfl (by decide) (by decide) ⟨Nat.zero_le _, Nat.zero_le _⟩ (va_recv hK hP (ci := 0) (q0 := 0) rfl rfl) hl ⟨rfl, rfl⟩ rfl rfl (Nat.le_of_ble_eq_true rfl) dX4_run_21 (fun _ H locs _ hP hD hS _ _ => ?_)
  have hP : va_P (gD g) Cl (mW g h0 a (upd (upd (upd (upd (upd (upd I 5 (I 5)) 8 (nI q.2.1)) 9 (nI q.2.2.1)) 10 q.2.2.2.1) 7 0) 1 1) (va_up (va_up F 0 (F 0)) 5 (q.2.2.2.2))) H := hP
  have hD : va_D A (mW g h0 a (upd (upd (upd (upd (upd (upd I 5 (I 5)) 8 (nI q.2.1)) 9 (nI q.2.2.1)) 10 q.2.2.2.1) 7 0) 1 1) (va_up (va_up F 0 (F 0)) 5 (q.2.2.2.2))) := hD
  refine lv_if_eq (tgt := 37) hx hb dX4_run_24 (by decide) (fun c => absurd c (by decide)) (fun _ => ?_)
  refine lv_aload_n hx hb dX4_run_27 rfl (lv_at hl 1 rfl) ?_
  refine lv_aload_n hx hb dX4_run_28 rfl (lv_at hl 1 rfl) ?_
  refine va_get (D := gD g) (ci := 0) (v := .int (nI q.2.1)) (C := RX4) (T := TX4) (N := 21) hx hb hts in_X4 hown hK hP 0 rfl rfl 15 (by decide) (hts _ q2329) (fun _ h9 => h9) rfl dX4_run_29 ?_
  refine va_put (D := gD g) (ci := 0) (v := .int (nI q.2.1)) (ty := .int) (C := RX4) (T := TX4) (N := 21) hx hb hts in_X4 tyX4 tyX4_ok nmX4 hown hK hP hD hS 0 rfl rfl 18 (by decide) (hts _ q2332) (fun _ h9 => h9) rfl (by decide +kernel) rfl rfl (Nat.le_of_ble_eq_true rfl) dX4_run_32 (fun H locs hP hD hS => ?_)
  have hP : va_P (gD g) Cl (mW g h0 a (upd (upd (upd (upd (upd (upd (upd I 5 (I 5)) 8 (nI q.2.1)) 9 (nI q.2.2.1)) 10 q.2.2.2.1) 7 0) 1 1) 11 (nI q.2.1)) (va_up (va_up F 0 (F 0)) 5 (q.2.2.2.2))) H := hP
  have hD : va_D A (mW g h0 a (upd (upd (upd (upd (upd (upd (upd I 5 (I 5)) 8 (nI q.2.1)) 9 (nI q.2.2.1)) 10 q.2.2.2.1) 7 0) 1 1) 11 (nI q.2.1)) (va_up (va_up F 0 (F 0)) 5 (q.2.2.2.2))) := hD
  refine lv_iconst (v := 0) hx hb dX4_run_35 (by decide) ?_
  have hW1 : (mW g h0 a (upd (upd (upd (upd (upd (upd (upd I 5 (I 5)) 8 (nI q.2.1)) 9 (nI q.2.2.1)) 10 q.2.2.2.1) 7 0) 1 1) 11 (nI q.2.1)) (va_up (va_up F 0 (F 0)) 5 (q.2.2.2.2))) = mW g h0 a (upd (upd (run0I I q) 1 1) 11 (nI q.2.1)) (txF F q) := rfl
  rw [hW1] at hP hD
  exact hm_i hQ hx hb hr hlk rfl () (rfl) trivial hP hD hS (by decide) (by decide) dX4_run_36
set_option maxHeartbeats 4000000 in
theorem mX4_run1 (l : Launch) (g : hG) (E : hEnv) (ho : jOk g E) (h0 : Nat) (a : Nat → Nat) (I : Nat → Int32) (F : Nat → Nat → Int32) (tp : Nat) (T : Nat → Int32) (td : Int32) (O : Nat → Int32) (q : txR) (n : Nat) (j : Nat) (r : opR) (hI7 : I 7 = nI tp) (ht60 : tp ≤ 60) (hT : F 4 = T) (htd : I 10 = td) (hO : F 5 = O) (hq : textR T tp td O = q) (hok : txOk tp q = 1) (hom : q.2.2.1 ≤ 12) (hom1 : 1 ≤ q.2.2.1) (hcn : CnE (F 0)) (hn : I 0 = nI n) (hn8 : n ≤ 8) (hrun : runF q.2.2.2.2 q.2.2.1 0 (F 0) = (j, r)) : MM l yX4_run cX4_run 4 (some .int) 8 175 0 0 [.ref h0] g E (mW g h0 a I F) (S := Unit) (fun _ => (some (.int (if r.1 = 0 then nI q.2.2.1 else 0)))) (fun _ => True) (fun _ => mW g h0 a (runI I n q j r) (runFF F n q r)) := by
  refine MM.mk (by decide) (Nat.le_of_ble_eq_true rfl) ?_
  intro p e R s m args below meth c Q A H locs ls hX hRc hRs hP hD hE hS hA hnm hl hQ
  obtain ⟨hx, hb, hr, hlk, hml, hown, hts, hRf, hRl⟩ := hX
  have hown : s.vm.findClass RX4 = some m.cls := hown
  have hj := ho.2 _ _ _ hE
  have hK := hj.kn
  have hl : lv_has ls 4 [(0, .ref h0)] := hl
  subst hT
  subst htd
  subst hO
  have e0 : upd (upd (upd (upd I 5 (I 5)) 8 (I 8)) 9 (I 9)) 10 (I 10) = I := by rw [h_usame rfl, h_usame rfl, h_usame rfl, h_usame rfl]
  have eF : va_up (va_up F 0 (F 0)) 5 (F 5) = F := by rw [hup_id, hup_id]
  rw [← e0, ← eF] at hP hD
  have hP : va_P (gD g) Cl (mW g h0 a (upd (upd (upd (upd I 5 (I 5)) 8 (I 8)) 9 (I 9)) 10 (I 10)) (va_up (va_up F 0 (F 0)) 5 (F 5))) H := hP
  have hD : va_D A (mW g h0 a (upd (upd (upd (upd I 5 (I 5)) 8 (I 8)) 9 (I 9)) 10 (I 10)) (va_up (va_up F 0 (F 0)) 5 (F 5))) := hD
  refine lv_aload_n hx hb dX4_run_0 rfl (lv_at hl 0 rfl) ?_
  refine mcV (As := []) (rest := []) (wr := []) (mX4_isTextY l g E ho h0 a (upd (upd (upd (upd I 5 (I 5)) 8 (I 8)) 9 (I 9)) 10 (I 10)) (va_up (va_up F 0 (F 0)) 5 (F 5)) tp (F 4) (I 10) (F 5) q hI7 ht60 rfl rfl rfl hq hok) kX4_isText q2638 hx hb hml hown hts hRf hRl ho.1.1 hE hS hP hD hA [0, 1, 2, 3, 4, 5, 6, 7, 8] [] rfl (by decide) rfl (by decide) (by decide) ⟨Nat.zero_le _, Nat.zero_le _⟩ (va_recv hK hP (ci := 0) (q0 := 0) rfl rfl) hl ⟨rfl, rfl⟩ rfl rfl (Nat.le_of_ble_eq_true rfl) dX4_run_1 (fun _ H locs _ hP hD hS _ _ => ?_)
  have hP : va_P (gD g) Cl (mW g h0 a (upd (upd (upd (upd I 5 (I 5)) 8 (nI q.2.1)) 9 (nI q.2.2.1)) 10 q.2.2.2.1) (va_up (va_up F 0 (F 0)) 5 (q.2.2.2.2))) H := hP
  have hD : va_D A (mW g h0 a (upd (upd (upd (upd I 5 (I 5)) 8 (nI q.2.1)) 9 (nI q.2.2.1)) 10 q.2.2.2.1) (va_up (va_up F 0 (F 0)) 5 (q.2.2.2.2))) := hD
  refine lv_istore_n (lv' := [(1, .int 1), (0, .ref h0)]) hx hb dX4_run_4 rfl hl (by decide) rfl (fun ls hl => ?_)
  refine lv_aload_n hx hb dX4_run_5 rfl (lv_at hl 1 rfl) ?_
  refine lv_iconst (v := 0) hx hb dX4_run_6 (by decide) ?_
  refine va_put (D := gD g) (ci := 0) (v := .int 0) (ty := .int) (C := RX4) (T := TX4) (N := 21) hx hb hts in_X4 tyX4 tyX4_ok nmX4 hown hK hP hD hS 0 rfl rfl 14 (by decide) (hts _ q2328) (fun _ h9 => h9) rfl (by decide +kernel) rfl rfl (Nat.le_of_ble_eq_true rfl) dX4_run_7 (fun H locs hP hD hS => ?_)
  have hP : va_P (gD g) Cl (mW g h0 a (upd (upd (upd (upd (upd I 5 (I 5)) 8 (nI q.2.1)) 9 (nI q.2.2.1)) 10 q.2.2.2.1) 7 0) (va_up (va_up F 0 (F 0)) 5 (q.2.2.2.2))) H := hP
  have hD : va_D A (mW g h0 a (upd (upd (upd (upd (upd I 5 (I 5)) 8 (nI q.2.1)) 9 (nI q.2.2.1)) 10 q.2.2.2.1) 7 0) (va_up (va_up F 0 (F 0)) 5 (q.2.2.2.2))) := hD
  refine lv_aload_n hx hb dX4_run_10 rfl (lv_at hl 1 rfl) ?_
  refine lv_iload_n hx hb dX4_run_11 rfl (lv_at hl 0 rfl) ?_
  refine lv_if_ne (tgt := 19) hx hb dX4_run_12 (by decide) (fun _ => ?_) (fun c => absurd c (by decide))
  refine lv_iconst (v := 0) hx hb dX4_run_19 (by decide) ?_
  refine lv_iconst (v := 1) hx hb dX4_run_20 (by decide) ?_
  refine mcV (As := [.int 0, .int 1]) (rest := []) (wr := []) (mX4_isThrown0 l g E ho.1 h0 a (upd (upd (upd (upd (upd I 5 (I 5)) 8 (nI q.2.1)) 9 (nI q.2.2.1)) 10 q.2.2.2.1) 7 0) (va_up (va_up F 0 (F 0)) 5 (q.2.2.2.2)) 1) kX4_isThrown q2574 hx hb hml hown hts hRf hRl ho.1.1 hE hS hP hD hA [0, 1, 2, 3, 4, 5, 6, 7, 8] [] rfl (by decide) rfl (by decide) (by decide) ⟨Nat.zero_le _, Nat.zero_le _⟩ (va_recv hK hP (ci := 0) (q0 := 0) rfl rfl) hl ⟨rfl, rfl⟩ rfl rfl (Nat.le_of_ble_eq_true rfl) dX4_run_21 (fun _ H locs _ hP hD hS _ _ => ?_)
  have hP : va_P (gD g) Cl (mW g h0 a (upd (upd (upd (upd (upd (upd I 5 (I 5)) 8 (nI q.2.1)) 9 (nI q.2.2.1)) 10 q.2.2.2.1) 7 0) 1 0) (va_up (va_up F 0 (F 0)) 5 (q.2.2.2.2))) H := hP
  have hD : va_D A (mW g h0 a (upd (upd (upd (upd (upd (upd I 5 (I 5)) 8 (nI q.2.1)) 9 (nI q.2.2.1)) 10 q.2.2.2.1) 7 0) 1 0) (va_up (va_up F 0 (F 0)) 5 (q.2.2.2.2))) := hD
  refine lv_if_eq (tgt := 37) hx hb dX4_run_24 (by decide) (fun _ => ?_) (fun c => absurd c (by decide))
  refine lv_aload_n hx hb dX4_run_37 rfl (lv_at hl 1 rfl) ?_
  refine mcV (As := []) (rest := []) (wr := []) (mX4_keeps l g E ho.1 h0 a (upd (upd (upd (upd (upd (upd I 5 (I 5)) 8 (nI q.2.1)) 9 (nI q.2.2.1)) 10 q.2.2.2.1) 7 0) 1 0) (va_up (va_up F 0 (F 0)) 5 (q.2.2.2.2))) kX4_keeps q2390 hx hb hml hown hts hRf hRl ho.1.1 hE hS hP hD hA [0, 1, 2, 3, 4, 5, 6, 7, 8] [] rfl (by decide) rfl (by decide) (by decide) ⟨Nat.zero_le _, Nat.zero_le _⟩ (va_recv hK hP (ci := 0) (q0 := 0) rfl rfl) hl ⟨rfl, rfl⟩ rfl rfl (Nat.le_of_ble_eq_true rfl) dX4_run_38 (fun _ H locs _ hP hD hS _ _ => ?_)
  have hP : va_P (gD g) Cl (mW g h0 a (upd (upd (upd (upd (upd (upd I 5 (I 5)) 8 (nI q.2.1)) 9 (nI q.2.2.1)) 10 q.2.2.2.1) 7 0) 1 0) (va_up (va_up (va_up F 0 (F 0)) 1 (va_cpy (F 0) (F 1) 0 0 195)) 5 (q.2.2.2.2))) H := hP
  have hD : va_D A (mW g h0 a (upd (upd (upd (upd (upd (upd I 5 (I 5)) 8 (nI q.2.1)) 9 (nI q.2.2.1)) 10 q.2.2.2.1) 7 0) 1 0) (va_up (va_up (va_up F 0 (F 0)) 1 (va_cpy (F 0) (F 1) 0 0 195)) 5 (q.2.2.2.2))) := hD
  refine lv_iconst (v := 0) hx hb dX4_run_41 (by decide) ?_
  refine lv_istore_n (lv' := [(2, .int 0), (1, .int 1), (0, .ref h0)]) hx hb dX4_run_42 rfl hl (by decide) rfl (fun ls hl => ?_)
  have loop_43 : ∀ (k : Nat) (i : Nat) (sr : Nat → Int32) (o5 : Int32), (q.2.2.1 < i + k ∧ i ≤ q.2.2.1 ∧ runF q.2.2.2.2 q.2.2.1 0 (F 0) = runF q.2.2.2.2 (q.2.2.1 - i) i sr ∧ CnE sr ∧ (1 ≤ i → o5 = nI (i - 1))) → ∀ (H : Heap) (locs : List Loc), va_P (gD g) Cl (mW g h0 a (upd (upd (upd (upd (upd (upd I 5 o5) 8 (nI q.2.1)) 9 (nI q.2.2.1)) 10 q.2.2.2.1) 7 0) 1 0) (va_up (va_up (va_up F 0 sr) 1 (va_cpy (F 0) (F 1) 0 0 195)) 5 (q.2.2.2.2))) H → va_D A (mW g h0 a (upd (upd (upd (upd (upd (upd I 5 o5) 8 (nI q.2.1)) 9 (nI q.2.2.1)) 10 q.2.2.2.1) 7 0) 1 0) (va_up (va_up (va_up F 0 sr) 1 (va_cpy (F 0) (F 1) 0 0 195)) 5 (q.2.2.2.2))) → va_S A s.heap H locs → ∀ (ls : Array Slot), lv_has ls 4 [(2, .int (nI i)), (0, .ref h0)] → W p l e R s m args below meth c H locs 0 0 Q (F0 m 43 ls []) := by
    intro k
    induction k with
    | zero =>
      intro i sr o5 hi H locs hP hD hS ls hl
      exact absurd hi.1 (by omega)
    | succ k ih_43 =>
      intro i sr o5 hi H locs hP hD hS ls hl
      obtain ⟨hi1, hi2, hi3, hi4, hi5⟩ := hi
      refine lv_iload_n hx hb dX4_run_43 rfl (lv_at hl 0 rfl) ?_
      refine lv_aload_n hx hb dX4_run_44 rfl (lv_at hl 1 rfl) ?_
      refine va_get (D := gD g) (ci := 0) (v := .int (nI q.2.2.1)) (C := RX4) (T := TX4) (N := 21) hx hb hts in_X4 hown hK hP 0 rfl rfl 16 (by decide) (hts _ q2330) (fun _ h9 => h9) rfl dX4_run_45 ?_
      refine lv_icmp_ge (tgt := 97) hx hb dX4_run_48 (by decide) (fun c_1 => ?_) (fun c_1 => ?_)
      · have hiq : i = q.2.2.1 := by
          rcases Nat.lt_or_ge i (q.2.2.1) with z | z
          · exact absurd c_1 (nI_ge (a := i) (b := q.2.2.1) z (by omega))
          · omega
        have ho5 : o5 = nI (q.2.2.1 - 1) := by rw [hi5 (by omega), hiq]
        have hjr : (j, r) = (q.2.2.1, ((0, 0, 0, sr) : opR)) := hrun.symm.trans (hi3.trans (by rw [hiq, Nat.sub_self]; rfl))
        obtain ⟨rfl, rfl⟩ := Prod.mk.inj hjr
        refine lv_aload_n hx hb dX4_run_97 rfl (lv_at hl 1 rfl) ?_
        refine lv_aload_n hx hb dX4_run_98 rfl (lv_at hl 1 rfl) ?_
        refine va_get (D := gD g) (ci := 0) (v := .int (nI q.2.2.1)) (C := RX4) (T := TX4) (N := 21) hx hb hts in_X4 hown hK hP 0 rfl rfl 16 (by decide) (hts _ q2330) (fun _ h9 => h9) rfl dX4_run_99 ?_
        refine mcV (As := [.int (nI q.2.2.1)]) (rest := []) (wr := []) (mX4_ends0 l g E ho.1 h0 a (upd (upd (upd (upd (upd (upd I 5 o5) 8 (nI q.2.1)) 9 (nI q.2.2.1)) 10 q.2.2.2.1) 7 0) 1 0) (va_up (va_up (va_up F 0 sr) 1 (va_cpy (F 0) (F 1) 0 0 195)) 5 (q.2.2.2.2)) (nI q.2.2.1) n rfl hn hn8) kX4_ends q2411 hx hb hml hown hts hRf hRl ho.1.1 hE hS hP hD hA [0, 1, 2, 3, 4, 5, 6, 7, 8] [] rfl (by decide) rfl (by decide) (by decide) ⟨Nat.zero_le _, Nat.zero_le _⟩ (va_recv hK hP (ci := 0) (q0 := 0) rfl rfl) hl ⟨rfl, rfl⟩ rfl rfl (Nat.le_of_ble_eq_true rfl) dX4_run_102 (fun _ H locs _ hP hD hS _ _ => ?_)
        have hP : va_P (gD g) Cl (mW g h0 a (upd (upd (upd (upd (upd (upd (upd I 5 o5) 8 (nI q.2.1)) 9 (nI q.2.2.1)) 10 q.2.2.2.1) 7 0) 1 0) 0 (nI (chN n))) (va_up (va_up (va_up (va_up F 0 sr) 1 (va_cpy (F 0) (F 1) 0 0 195)) 3 (chP (va_cpy (F 0) (F 1) 0 0 195) (F 3) n)) 5 (q.2.2.2.2))) H := hP
        have hD : va_D A (mW g h0 a (upd (upd (upd (upd (upd (upd (upd I 5 o5) 8 (nI q.2.1)) 9 (nI q.2.2.1)) 10 q.2.2.2.1) 7 0) 1 0) 0 (nI (chN n))) (va_up (va_up (va_up (va_up F 0 sr) 1 (va_cpy (F 0) (F 1) 0 0 195)) 3 (chP (va_cpy (F 0) (F 1) 0 0 195) (F 3) n)) 5 (q.2.2.2.2))) := hD
        have hW1 : (mW g h0 a (upd (upd (upd (upd (upd (upd (upd I 5 o5) 8 (nI q.2.1)) 9 (nI q.2.2.1)) 10 q.2.2.2.1) 7 0) 1 0) 0 (nI (chN n))) (va_up (va_up (va_up (va_up F 0 sr) 1 (va_cpy (F 0) (F 1) 0 0 195)) 3 (chP (va_cpy (F 0) (F 1) 0 0 195) (F 3) n)) 5 (q.2.2.2.2))) = mW g h0 a (runI I n q q.2.2.1 (0, 0, 0, sr)) (runFF F n q (0, 0, 0, sr)) := by
          rw [show runI I n q q.2.2.1 (0, 0, 0, sr) = _ from if_pos rfl, show runFF F n q (0, 0, 0, sr) = _ from if_pos rfl, ho5]
          rfl
        rw [hW1] at hP hD
        exact hm_i hQ hx hb hr hlk rfl () (by rw [if_pos rfl]) trivial hP hD hS (by decide) (by decide) dX4_run_105
      have hlt : i < q.2.2.1 := by
        rcases Nat.lt_or_ge i (q.2.2.1) with z | z
        · exact z
        · exact absurd (nI_le (a := q.2.2.1) (b := i) z (by omega)) c_1
      obtain ⟨d, hd⟩ : ∃ d, q.2.2.1 - i = d + 1 := ⟨q.2.2.1 - i - 1, by omega⟩
      have hd2 : q.2.2.1 - (i + 1) = d := by omega
      refine lv_aload_n hx hb dX4_run_51 rfl (lv_at hl 1 rfl) ?_
      refine lv_iload_n hx hb dX4_run_52 rfl (lv_at hl 0 rfl) ?_
      refine va_put (D := gD g) (ci := 0) (v := .int (nI i)) (ty := .int) (C := RX4) (T := TX4) (N := 21) hx hb hts in_X4 tyX4 tyX4_ok nmX4 hown hK hP hD hS 0 rfl rfl 9 (by decide) (hts _ q2323) (fun _ h9 => h9) rfl (by decide +kernel) rfl rfl (Nat.le_of_ble_eq_true rfl) dX4_run_53 (fun H locs hP hD hS => ?_)
      have hP : va_P (gD g) Cl (mW g h0 a (upd (upd (upd (upd (upd (upd I 8 (nI q.2.1)) 9 (nI q.2.2.1)) 10 q.2.2.2.1) 7 0) 1 0) 5 (nI i)) (va_up (va_up (va_up F 0 sr) 1 (va_cpy (F 0) (F 1) 0 0 195)) 5 (q.2.2.2.2))) H := hP
      have hD : va_D A (mW g h0 a (upd (upd (upd (upd (upd (upd I 8 (nI q.2.1)) 9 (nI q.2.2.1)) 10 q.2.2.2.1) 7 0) 1 0) 5 (nI i)) (va_up (va_up (va_up F 0 sr) 1 (va_cpy (F 0) (F 1) 0 0 195)) 5 (q.2.2.2.2))) := hD
      have hcs := hi4
      obtain ⟨nt, nh, nb, nc, tw, hc⟩ := hcs
      obtain ⟨rr, hrr⟩ : ∃ rr, doK q.2.2.2.2 sr i = rr := ⟨_, rfl⟩
      by_cases hr1 : rr.1 = 0
      · skip
        refine lv_aload_n hx hb dX4_run_56 rfl (lv_at hl 1 rfl) ?_
        refine lv_iconst (v := 3) hx hb dX4_run_57 (by decide) ?_
        refine lv_iload_n hx hb dX4_run_58 rfl (lv_at hl 0 rfl) ?_
        refine lv_imul hx hb dX4_run_59 ?_
        refine h_topi (v := nI (3 * i)) (h_nmul (a := 3) (b := i) (rfl) (rfl)) ?_
        refine mcV (As := [.int (nI (3 * i))]) (rest := []) (wr := []) (mX4_doesY l g E ho.1 h0 a (upd (upd (upd (upd (upd (upd I 8 (nI q.2.1)) 9 (nI q.2.2.1)) 10 q.2.2.2.1) 7 0) 1 0) 5 (nI i)) (va_up (va_up (va_up F 0 sr) 1 (va_cpy (F 0) (F 1) 0 0 195)) 5 (q.2.2.2.2)) (3 * i) nt nh nb nc tw sr q.2.2.2.2 rr hc (by omega) rfl rfl hrr hr1) kX4_does q2671 hx hb hml hown hts hRf hRl ho.1.1 hE hS hP hD hA [0, 1, 2, 3, 4, 5, 6, 7, 8] [] rfl (by decide) rfl (by decide) (by decide) ⟨Nat.zero_le _, Nat.zero_le _⟩ (va_recv hK hP (ci := 0) (q0 := 0) rfl rfl) hl ⟨rfl, rfl⟩ rfl rfl (Nat.le_of_ble_eq_true rfl) dX4_run_60 (fun _ H locs _ hP hD hS _ _ => ?_)
        have hP : va_P (gD g) Cl (mW g h0 a (upd (upd (upd (upd (upd (upd I 8 (nI q.2.1)) 9 (nI q.2.2.1)) 10 q.2.2.2.1) 7 0) 1 0) 5 (nI i)) (va_up (va_up (va_up F 0 (rr.2.2.2)) 1 (va_cpy (F 0) (F 1) 0 0 195)) 5 (q.2.2.2.2))) H := hP
        have hD : va_D A (mW g h0 a (upd (upd (upd (upd (upd (upd I 8 (nI q.2.1)) 9 (nI q.2.2.1)) 10 q.2.2.2.1) 7 0) 1 0) 5 (nI i)) (va_up (va_up (va_up F 0 (rr.2.2.2)) 1 (va_cpy (F 0) (F 1) 0 0 195)) 5 (q.2.2.2.2))) := hD
        refine lv_istore_n (lv' := [(3, .int rr.2.2.1), (2, .int (nI i)), (0, .ref h0)]) hx hb dX4_run_63 rfl hl (by decide) rfl (fun ls hl => ?_)
        refine lv_aload_n hx hb dX4_run_64 rfl (lv_at hl 2 rfl) ?_
        refine va_get (D := gD g) (ci := 0) (v := .int 0) (C := RX4) (T := TX4) (N := 21) hx hb hts in_X4 hown hK hP 0 rfl rfl 5 (by decide) (hts _ q2319) (fun _ h9 => h9) rfl dX4_run_65 ?_
        refine lv_if_eq (tgt := 91) hx hb dX4_run_68 (by decide) (fun _ => ?_) (fun c => absurd c (by decide))
        refine lv_iinc (v := nI (i + 1)) (lv' := [(2, .int (nI (i + 1))), (3, .int rr.2.2.1), (0, .ref h0)]) hx hb dX4_run_91 hl (k := 1) rfl (h_ninc (a := i) (k := 1) (rfl)) (by decide) rfl (fun ls hl => ?_)
        refine lv_goto (tgt := 43) hx hb dX4_run_94 (by decide) ?_
        exact ih_43 (i + 1) rr.2.2.2 (nI i) ⟨by omega, by omega, by rw [hi3, hd, hd2, ← hrr]; exact if_pos (by rw [hrr]; exact hr1), by rw [← hrr]; exact opDoes_Cn hi4 _ _ _ ((congrArg Prod.fst hrr).trans hr1), fun _ => rfl⟩ H locs hP hD hS ls (lv_sub hl [0, 2] rfl)
      · have hjr : (j, r) = (i, rr) := hrun.symm.trans (hi3.trans (by rw [hd, ← hrr]; exact if_neg (by rw [hrr]; exact hr1)))
        have e1 := (Prod.mk.inj hjr).1.symm
        have e2 := (Prod.mk.inj hjr).2.symm
        subst e1
        subst e2
        have hsr : rr.2.2.2 = sr := by rw [← hrr]; exact (opDoes_ref _ _ _ _ (fun z => hr1 ((congrArg Prod.fst hrr).symm.trans z))).2
        refine lv_aload_n hx hb dX4_run_56 rfl (lv_at hl 1 rfl) ?_
        refine lv_iconst (v := 3) hx hb dX4_run_57 (by decide) ?_
        refine lv_iload_n hx hb dX4_run_58 rfl (lv_at hl 0 rfl) ?_
        refine lv_imul hx hb dX4_run_59 ?_
        refine h_topi (v := nI (3 * i)) (h_nmul (a := 3) (b := i) (rfl) (rfl)) ?_
        refine mcV (As := [.int (nI (3 * i))]) (rest := []) (wr := []) (mX4_doesN l g E ho.1 h0 a (upd (upd (upd (upd (upd (upd I 8 (nI q.2.1)) 9 (nI q.2.2.1)) 10 q.2.2.2.1) 7 0) 1 0) 5 (nI i)) (va_up (va_up (va_up F 0 sr) 1 (va_cpy (F 0) (F 1) 0 0 195)) 5 (q.2.2.2.2)) (3 * i) nt nh nb nc tw sr q.2.2.2.2 rr hc (by omega) rfl rfl hrr hr1) kX4_does q2671 hx hb hml hown hts hRf hRl ho.1.1 hE hS hP hD hA [0, 1, 2, 3, 4, 5, 6, 7, 8] [] rfl (by decide) rfl (by decide) (by decide) ⟨Nat.zero_le _, Nat.zero_le _⟩ (va_recv hK hP (ci := 0) (q0 := 0) rfl rfl) hl ⟨rfl, rfl⟩ rfl rfl (Nat.le_of_ble_eq_true rfl) dX4_run_60 (fun _ H locs _ hP hD hS _ _ => ?_)
        have hP : va_P (gD g) Cl (mW g h0 a (upd (upd (upd (upd (upd (upd (upd (upd (upd I 8 (nI q.2.1)) 9 (nI q.2.2.1)) 10 q.2.2.2.1) 7 0) 1 1) 5 (nI i)) 2 rr.1) 3 rr.2.1) 4 (nI i)) (va_up (va_up (va_up F 0 sr) 1 (va_cpy (F 0) (F 1) 0 0 195)) 5 (q.2.2.2.2))) H := hP
        have hD : va_D A (mW g h0 a (upd (upd (upd (upd (upd (upd (upd (upd (upd I 8 (nI q.2.1)) 9 (nI q.2.2.1)) 10 q.2.2.2.1) 7 0) 1 1) 5 (nI i)) 2 rr.1) 3 rr.2.1) 4 (nI i)) (va_up (va_up (va_up F 0 sr) 1 (va_cpy (F 0) (F 1) 0 0 195)) 5 (q.2.2.2.2))) := hD
        refine lv_istore_n (lv' := [(3, .int 0), (2, .int (nI i)), (0, .ref h0)]) hx hb dX4_run_63 rfl hl (by decide) rfl (fun ls hl => ?_)
        refine lv_aload_n hx hb dX4_run_64 rfl (lv_at hl 2 rfl) ?_
        refine va_get (D := gD g) (ci := 0) (v := .int 1) (C := RX4) (T := TX4) (N := 21) hx hb hts in_X4 hown hK hP 0 rfl rfl 5 (by decide) (hts _ q2319) (fun _ h9 => h9) rfl dX4_run_65 ?_
        refine lv_if_eq (tgt := 91) hx hb dX4_run_68 (by decide) (fun c => absurd c (by decide)) (fun _ => ?_)
        refine lv_aload_n hx hb dX4_run_71 rfl (lv_at hl 2 rfl) ?_
        refine va_get (D := gD g) (ci := 0) (v := .ref (a 1)) (C := RX4) (T := TX4) (N := 21) hx hb hts in_X4 hown hK hP 0 rfl rfl 1 (by decide) (hts _ q2315) (fun _ h9 => h9) rfl dX4_run_72 ?_
        refine lv_iconst (v := 0) hx hb dX4_run_75 (by decide) ?_
        refine lv_aload_n hx hb dX4_run_76 rfl (lv_at hl 2 rfl) ?_
        refine va_get (D := gD g) (ci := 0) (v := .ref (a 0)) (C := RX4) (T := TX4) (N := 21) hx hb hts in_X4 hown hK hP 0 rfl rfl 0 (by decide) (hts _ q2314) (fun _ h9 => h9) rfl dX4_run_77 ?_
        refine lv_iconst (v := 0) hx hb dX4_run_80 (by decide) ?_
        refine mcS (As := [.ref (a 1), .int 0, .ref (a 0), .int 0]) (rest := []) (st0 := [.int 0, .ref (a 0), .int 0, .ref (a 1)]) (wr := [(h0, .inr (0, mO a (upd (upd (upd (upd (upd (upd (upd (upd (upd I 8 (nI q.2.1)) 9 (nI q.2.2.1)) 10 q.2.2.2.1) 7 0) 1 1) 5 (nI i)) 2 rr.1) 3 rr.2.1) 4 (nI i)))), (a 2, .inl (g.2.2.1 0, 195, .inl (F 2))), (a 3, .inl (g.2.2.1 0, 1560, .inl (F 3))), (a 5, .inl (g.2.2.1 0, 60, .inl (F 4))), (a 6, .inl (g.2.2.1 0, 36, .inl (q.2.2.2.2))), (a 7, .inl (g.2.2.1 0, 260, .inl (F 6))), (a 4, .inl (g.2.2.1 5, 8, .inr (.inr (.inr (.inr (fun j => some (gA g (60 + j))))))))]) (mX4_copies2 l g E ho.1 (a 1) 195 (va_cpy (F 0) (F 1) 0 0 195) (a 0) 195 sr 0 0 (by omega) (by omega) (by decide) (by decide)) kX4_copies q2394 hx hb hml hown hts hRf hRl ho.1.1 hE hS hP hD hA [2, 1] [0, 3, 4, 5, 6, 7, 8] rfl (by decide) rfl (by decide) (by decide) ⟨Nat.zero_le _, Nat.zero_le _⟩ hl ⟨rfl, rfl⟩ rfl rfl (Nat.le_of_ble_eq_true rfl) dX4_run_81 (fun _ H locs _ hP hD hS _ _ => ?_)
        have hP := hP.sub (ws' := (mW g h0 a (upd (upd (upd (upd (upd (upd (upd (upd (upd I 8 (nI q.2.1)) 9 (nI q.2.2.1)) 10 q.2.2.2.1) 7 0) 1 1) 5 (nI i)) 2 rr.1) 3 rr.2.1) 4 (nI i)) (va_up (va_up (va_up F 0 (va_cpy (va_cpy (F 0) (F 1) 0 0 195) sr 0 0 195)) 1 (va_cpy (F 0) (F 1) 0 0 195)) 5 (q.2.2.2.2)))) [0, 8, 7, 1, 2, 3, 4, 5, 6] rfl
        have hD := hD.sub (ws' := (mW g h0 a (upd (upd (upd (upd (upd (upd (upd (upd (upd I 8 (nI q.2.1)) 9 (nI q.2.2.1)) 10 q.2.2.2.1) 7 0) 1 1) 5 (nI i)) 2 rr.1) 3 rr.2.1) 4 (nI i)) (va_up (va_up (va_up F 0 (va_cpy (va_cpy (F 0) (F 1) 0 0 195) sr 0 0 195)) 1 (va_cpy (F 0) (F 1) 0 0 195)) 5 (q.2.2.2.2)))) [0, 8, 7, 1, 2, 3, 4, 5, 6] (by decide) rfl
        refine lv_aload_n hx hb dX4_run_84 rfl (lv_at hl 2 rfl) ?_
        refine lv_iconst (v := 2) hx hb dX4_run_85 (by decide) ?_
        refine va_put (D := gD g) (ci := 0) (v := .int 2) (ty := .int) (C := RX4) (T := TX4) (N := 21) hx hb hts in_X4 tyX4 tyX4_ok nmX4 hown hK hP hD hS 0 rfl rfl 5 (by decide) (hts _ q2319) (fun _ h9 => h9) rfl (by decide +kernel) rfl rfl (Nat.le_of_ble_eq_true rfl) dX4_run_86 (fun H locs hP hD hS => ?_)
        have hP : va_P (gD g) Cl (mW g h0 a (upd (upd (upd (upd (upd (upd (upd (upd (upd I 8 (nI q.2.1)) 9 (nI q.2.2.1)) 10 q.2.2.2.1) 7 0) 5 (nI i)) 2 rr.1) 3 rr.2.1) 4 (nI i)) 1 2) (va_up (va_up (va_up F 0 (va_cpy (va_cpy (F 0) (F 1) 0 0 195) sr 0 0 195)) 1 (va_cpy (F 0) (F 1) 0 0 195)) 5 (q.2.2.2.2))) H := hP
        have hD : va_D A (mW g h0 a (upd (upd (upd (upd (upd (upd (upd (upd (upd I 8 (nI q.2.1)) 9 (nI q.2.2.1)) 10 q.2.2.2.1) 7 0) 5 (nI i)) 2 rr.1) 3 rr.2.1) 4 (nI i)) 1 2) (va_up (va_up (va_up F 0 (va_cpy (va_cpy (F 0) (F 1) 0 0 195) sr 0 0 195)) 1 (va_cpy (F 0) (F 1) 0 0 195)) 5 (q.2.2.2.2))) := hD
        refine lv_iconst (v := 0) hx hb dX4_run_89 (by decide) ?_
        have hW1 : (mW g h0 a (upd (upd (upd (upd (upd (upd (upd (upd (upd I 8 (nI q.2.1)) 9 (nI q.2.2.1)) 10 q.2.2.2.1) 7 0) 5 (nI i)) 2 rr.1) 3 rr.2.1) 4 (nI i)) 1 2) (va_up (va_up (va_up F 0 (va_cpy (va_cpy (F 0) (F 1) 0 0 195) sr 0 0 195)) 1 (va_cpy (F 0) (F 1) 0 0 195)) 5 (q.2.2.2.2))) = mW g h0 a (runI I n q i rr) (runFF F n q rr) := by
          rw [show runI I n q i rr = _ from if_neg hr1, show runFF F n q rr = _ from if_neg hr1, hsr]
          rfl
        rw [hW1] at hP hD
        exact hm_i hQ hx hb hr hlk rfl () (by rw [if_neg hr1]) trivial hP hD hS (by decide) (by decide) dX4_run_90
  exact loop_43 (q.2.2.1 + 1) 0 (F 0) (I 5) ⟨by omega, by omega, rfl, hcn, fun z => absurd z (by decide)⟩ H locs hP hD hS ls (lv_sub hl [0, 2] rfl)
