/-! THE REFERENCE: quotients -/
set_option maxRecDepth 100000
section HEXD
variable {p : Program} {l : Launch} {e : Env} {R : Room} {s : State} {m : MethodId} {args : Array Value} {below : List Frame} {meth : Method} {c : Code} {H : Heap} {locs : List Loc} {cells slots : Nat} {Q : State → Prop}
variable {cc : ByteArray} {pc : Nat} {ls : Array Slot} {rest st0 st1 : List Value} {g : hG} {E : hEnv} {A : Nat → Prop}
variable {S : Type} {vf : S → Option Value} {post : S → Prop} {W1 : S → va_W} {mc ms : Nat}
theorem hm_d {x : UInt64} (hQ : Q = MQ below (fun _ st o t => (∃ u : S, o = .returned (vf u) ∧ post u ∧ va_P (gD g) Cl (W1 u) t.heap ∧ va_D A (W1 u)) ∧ va_F A st t) args s mc ms A) (hx : p.tables.exec = Jvm.exec) (hb : c.code = cc) (hr : meth.sig.returnType = some .double) (hlk : meth.locks = false) (u : S) (hv : vf u = some (.double x)) (hp : post u) (hP : va_P (gD g) Cl (W1 u) H) (hD : va_D A (W1 u)) (hS : va_S A s.heap H locs) (hc : cells ≤ mc) (hs : slots ≤ ms) (hd : decode cc pc = .ok (.dreturn, 1)) : W p l e R s m args below meth c H locs cells slots Q (F0 m pc ls [.double x]) := by
  subst hQ
  refine W.widen hc hs ?_
  exact W.dret (v := x) hx hb hr (fun t ht _ => ⟨⟨u, by rw [hv], hp, by rw [ht]; exact hP, hD⟩, hS.F ht⟩) hS.2.2 hd hlk
theorem hm_f {x : UInt32} (hQ : Q = MQ below (fun _ st o t => (∃ u : S, o = .returned (vf u) ∧ post u ∧ va_P (gD g) Cl (W1 u) t.heap ∧ va_D A (W1 u)) ∧ va_F A st t) args s mc ms A) (hx : p.tables.exec = Jvm.exec) (hb : c.code = cc) (hr : meth.sig.returnType = some .float) (hlk : meth.locks = false) (u : S) (hv : vf u = some (.float x)) (hp : post u) (hP : va_P (gD g) Cl (W1 u) H) (hD : va_D A (W1 u)) (hS : va_S A s.heap H locs) (hc : cells ≤ mc) (hs : slots ≤ ms) (hd : decode cc pc = .ok (.freturn, 1)) : W p l e R s m args below meth c H locs cells slots Q (F0 m pc ls [.float x]) := by
  subst hQ
  refine W.widen hc hs ?_
  exact W.fret (v := x) hx hb hr (fun t ht _ => ⟨⟨u, by rw [hv], hp, by rw [ht]; exact hP, hD⟩, hS.F ht⟩) hS.2.2 hd hlk
end HEXD
theorem kX4_meanLength : hkV RX4 yX4_meanLength cX4_meanLength 1 (some .double) 0 := ⟨q2700, q2701, q78, q2702, rfl, by decide +kernel⟩
set_option maxHeartbeats 4000000 in
theorem mX4_meanLength0 (l : Launch) (g : hG) (E : hEnv) (ho : mOk g E) (h0 : Nat) (a : Nat → Nat) (I : Nat → Int32) (F : Nat → Nat → Int32) (hz : F 0 4 = 0) : MM l yX4_meanLength cX4_meanLength 1 (some .double) 1 22 0 0 [.ref h0] g E (mW g h0 a I F) (S := Unit) (fun _ => (some (.double FP.dconst0))) (fun _ => True) (fun _ => mW g h0 a (upd I 1 1) F) := by
  refine MM.mk (by decide) (Nat.le_of_ble_eq_true rfl) ?_
  intro p e R s m args below meth c Q A H locs ls hX hRc hRs hP hD hE hS hA hnm hl hQ
  obtain ⟨hx, hb, hr, hlk, hml, hown, hts, hRf, hRl⟩ := hX
  have hown : s.vm.findClass RX4 = some m.cls := hown
  have hK := ho.2 _ _ _ hE
  have hl : lv_has ls 1 [(0, .ref h0)] := hl
  refine lv_aload_n hx hb dX4_meanLength_0 rfl (lv_at hl 0 rfl) ?_
  refine lv_aload_n hx hb dX4_meanLength_1 rfl (lv_at hl 0 rfl) ?_
  refine va_get (D := gD g) (ci := 0) (v := .ref (a 0)) (C := RX4) (T := TX4) (N := 21) hx hb hts in_X4 hown hK hP 0 rfl rfl 0 (by decide) (hts _ q2314) (fun _ h9 => h9) rfl dX4_meanLength_2 ?_
  refine lv_iconst (v := 4) hx hb dX4_meanLength_5 (by decide) ?_
  refine h_iald (f := (F 0)) hx hb hK hP 1 0 rfl rfl 4 rfl (by decide) (by decide) dX4_meanLength_6 ?_
  refine lv_if_ne (tgt := 14) hx hb dX4_meanLength_7 (by decide) (fun c_1 => ?_) (fun c_1 => ?_)
  · exact (c_1 hz).elim
  refine lv_iconst (v := 1) hx hb dX4_meanLength_10 (by decide) ?_
  refine lv_goto (tgt := 15) hx hb dX4_meanLength_11 (by decide) ?_
  refine lv_iconst (v := 1) hx hb dX4_meanLength_15 (by decide) ?_
  refine mcV (As := [.int 1, .int 1]) (rest := []) (wr := []) (mX4_isThrown1 l g E ho h0 a I F 1) kX4_isThrown q2574 hx hb hml hown hts hRf hRl ho.1 hE hS hP hD hA [0, 1, 2, 3, 4, 5, 6, 7, 8] [] rfl (by decide) rfl (by decide) (by decide) ⟨Nat.zero_le _, Nat.zero_le _⟩ (va_recv hK hP (ci := 0) (q0 := 0) rfl rfl) hl ⟨rfl, rfl⟩ rfl rfl (Nat.le_of_ble_eq_true rfl) dX4_meanLength_16 (fun _ H locs _ hP hD hS _ _ => ?_)
  have hP : va_P (gD g) Cl (mW g h0 a (upd I 1 1) F) H := hP
  have hD : va_D A (mW g h0 a (upd I 1 1) F) := hD
  refine lv_if_eq (tgt := 24) hx hb dX4_meanLength_19 (by decide) (fun c => absurd c (by decide)) (fun _ => ?_)
  refine lv_dconst0 hx hb dX4_meanLength_22 ?_
  have hW1 : (mW g h0 a (upd I 1 1) F) = mW g h0 a (upd I 1 1) F := rfl
  rw [hW1] at hP hD
  exact hm_d hQ hx hb hr hlk () rfl trivial hP hD hS (by decide) (by decide) dX4_meanLength_23
theorem kX4_lostShare : hkV RX4 yX4_lostShare cX4_lostShare 1 (some .float) 0 := ⟨q2708, q2709, q78, q2710, rfl, by decide +kernel⟩
set_option maxHeartbeats 4000000 in
theorem mX4_lostShare0 (l : Launch) (g : hG) (E : hEnv) (ho : mOk g E) (h0 : Nat) (a : Nat → Nat) (I : Nat → Int32) (F : Nat → Nat → Int32) (hz : F 0 8 = 0) : MM l yX4_lostShare cX4_lostShare 1 (some .float) 1 22 0 0 [.ref h0] g E (mW g h0 a I F) (S := Unit) (fun _ => (some (.float FP.fconst0))) (fun _ => True) (fun _ => mW g h0 a (upd I 1 1) F) := by
  refine MM.mk (by decide) (Nat.le_of_ble_eq_true rfl) ?_
  intro p e R s m args below meth c Q A H locs ls hX hRc hRs hP hD hE hS hA hnm hl hQ
  obtain ⟨hx, hb, hr, hlk, hml, hown, hts, hRf, hRl⟩ := hX
  have hown : s.vm.findClass RX4 = some m.cls := hown
  have hK := ho.2 _ _ _ hE
  have hl : lv_has ls 1 [(0, .ref h0)] := hl
  refine lv_aload_n hx hb dX4_lostShare_0 rfl (lv_at hl 0 rfl) ?_
  refine lv_aload_n hx hb dX4_lostShare_1 rfl (lv_at hl 0 rfl) ?_
  refine va_get (D := gD g) (ci := 0) (v := .ref (a 0)) (C := RX4) (T := TX4) (N := 21) hx hb hts in_X4 hown hK hP 0 rfl rfl 0 (by decide) (hts _ q2314) (fun _ h9 => h9) rfl dX4_lostShare_2 ?_
  refine lv_bipush (v := 8) hx hb dX4_lostShare_5 (by decide) ?_
  refine h_iald (f := (F 0)) hx hb hK hP 1 0 rfl rfl 8 rfl (by decide) (by decide) dX4_lostShare_7 ?_
  refine lv_if_ne (tgt := 15) hx hb dX4_lostShare_8 (by decide) (fun c_1 => ?_) (fun c_1 => ?_)
  · exact (c_1 hz).elim
  refine lv_iconst (v := 1) hx hb dX4_lostShare_11 (by decide) ?_
  refine lv_goto (tgt := 16) hx hb dX4_lostShare_12 (by decide) ?_
  refine lv_iconst (v := 1) hx hb dX4_lostShare_16 (by decide) ?_
  refine mcV (As := [.int 1, .int 1]) (rest := []) (wr := []) (mX4_isThrown1 l g E ho h0 a I F 1) kX4_isThrown q2574 hx hb hml hown hts hRf hRl ho.1 hE hS hP hD hA [0, 1, 2, 3, 4, 5, 6, 7, 8] [] rfl (by decide) rfl (by decide) (by decide) ⟨Nat.zero_le _, Nat.zero_le _⟩ (va_recv hK hP (ci := 0) (q0 := 0) rfl rfl) hl ⟨rfl, rfl⟩ rfl rfl (Nat.le_of_ble_eq_true rfl) dX4_lostShare_17 (fun _ H locs _ hP hD hS _ _ => ?_)
  have hP : va_P (gD g) Cl (mW g h0 a (upd I 1 1) F) H := hP
  have hD : va_D A (mW g h0 a (upd I 1 1) F) := hD
  refine lv_if_eq (tgt := 27) hx hb dX4_lostShare_20 (by decide) (fun c => absurd c (by decide)) (fun _ => ?_)
  refine lv_fconst0 hx hb dX4_lostShare_23 ?_
  refine lv_goto (tgt := 52) hx hb dX4_lostShare_24 (by decide) ?_
  have hW1 : (mW g h0 a (upd I 1 1) F) = mW g h0 a (upd I 1 1) F := rfl
  rw [hW1] at hP hD
  exact hm_f hQ hx hb hr hlk () rfl trivial hP hD hS (by decide) (by decide) dX4_lostShare_52
set_option maxHeartbeats 4000000 in
theorem mX4_meanLength1 (l : Launch) (g : hG) (E : hEnv) (ho : mOk g E) (h0 : Nat) (a : Nat → Nat) (I : Nat → Int32) (F : Nat → Nat → Int32) (nt : Nat) (nh : Nat) (nb : Nat) (nc : Nat) (tw : Nat) (hc : Cn (F 0) nt nh nb nc tw) (h0n : 0 < nh) : MM l yX4_meanLength cX4_meanLength 1 (some .double) 1 26 0 0 [.ref h0] g E (mW g h0 a I F) (S := Unit) (fun _ => (some (.double (FP.ddiv (FP.i2d (sumS (F 0) 73 4 1 nh)) (FP.i2d (nI nh)))))) (fun _ => True) (fun _ => mW g h0 a (upd I 1 0) F) := by
  refine MM.mk (by decide) (Nat.le_of_ble_eq_true rfl) ?_
  intro p e R s m args below meth c Q A H locs ls hX hRc hRs hP hD hE hS hA hnm hl hQ
  obtain ⟨hx, hb, hr, hlk, hml, hown, hts, hRf, hRl⟩ := hX
  have hown : s.vm.findClass RX4 = some m.cls := hown
  have hK := ho.2 _ _ _ hE
  have hl : lv_has ls 1 [(0, .ref h0)] := hl
  have hc0 := hc
  obtain ⟨htw, htw6, ht, ht10, hh, hh20, hb6, hb6l, hk5, hk5l⟩ := hc
  have htc : (nI nt).toNatClampNeg = nt := nI_clamp (by omega)
  have hhc : (nI nh).toNatClampNeg = nh := nI_clamp (by omega)
  have hbc : (nI nb).toNatClampNeg = nb := nI_clamp (by omega)
  have hkc : (nI nc).toNatClampNeg = nc := nI_clamp (by omega)
  have htwc : (nI tw).toNatClampNeg = tw := nI_clamp (by omega)
  refine lv_aload_n hx hb dX4_meanLength_0 rfl (lv_at hl 0 rfl) ?_
  refine lv_aload_n hx hb dX4_meanLength_1 rfl (lv_at hl 0 rfl) ?_
  refine va_get (D := gD g) (ci := 0) (v := .ref (a 0)) (C := RX4) (T := TX4) (N := 21) hx hb hts in_X4 hown hK hP 0 rfl rfl 0 (by decide) (hts _ q2314) (fun _ h9 => h9) rfl dX4_meanLength_2 ?_
  refine lv_iconst (v := 4) hx hb dX4_meanLength_5 (by decide) ?_
  refine h_iald (f := (F 0)) hx hb hK hP 1 0 rfl rfl 4 rfl (by decide) (by decide) dX4_meanLength_6 ?_
  refine h_topi (v := nI nh) (hh) ?_
  refine lv_if_ne (tgt := 14) hx hb dX4_meanLength_7 (by decide) (fun c_1 => ?_) (fun c_1 => ?_)
  · refine lv_iconst (v := 0) hx hb dX4_meanLength_14 (by decide) ?_
    refine lv_iconst (v := 1) hx hb dX4_meanLength_15 (by decide) ?_
    refine mcV (As := [.int 0, .int 1]) (rest := []) (wr := []) (mX4_isThrown0 l g E ho h0 a I F 1) kX4_isThrown q2574 hx hb hml hown hts hRf hRl ho.1 hE hS hP hD hA [0, 1, 2, 3, 4, 5, 6, 7, 8] [] rfl (by decide) rfl (by decide) (by decide) ⟨Nat.zero_le _, Nat.zero_le _⟩ (va_recv hK hP (ci := 0) (q0 := 0) rfl rfl) hl ⟨rfl, rfl⟩ rfl rfl (Nat.le_of_ble_eq_true rfl) dX4_meanLength_16 (fun _ H locs _ hP hD hS _ _ => ?_)
    have hP : va_P (gD g) Cl (mW g h0 a (upd I 1 0) F) H := hP
    have hD : va_D A (mW g h0 a (upd I 1 0) F) := hD
    refine lv_if_eq (tgt := 24) hx hb dX4_meanLength_19 (by decide) (fun _ => ?_) (fun c => absurd c (by decide))
    refine lv_aload_n hx hb dX4_meanLength_24 rfl (lv_at hl 0 rfl) ?_
    refine lv_aload_n hx hb dX4_meanLength_25 rfl (lv_at hl 0 rfl) ?_
    refine va_get (D := gD g) (ci := 0) (v := .ref (a 0)) (C := RX4) (T := TX4) (N := 21) hx hb hts in_X4 hown hK hP 0 rfl rfl 0 (by decide) (hts _ q2314) (fun _ h9 => h9) rfl dX4_meanLength_26 ?_
    refine lv_iconst (v := 4) hx hb dX4_meanLength_29 (by decide) ?_
    refine h_iald (f := (F 0)) hx hb hK hP 1 0 rfl rfl 4 rfl (by decide) (by decide) dX4_meanLength_30 ?_
    refine h_topi (v := nI nh) (hh) ?_
    refine lv_bipush (v := 73) hx hb dX4_meanLength_31 (by decide) ?_
    refine lv_iconst (v := 4) hx hb dX4_meanLength_33 (by decide) ?_
    refine lv_iconst (v := 1) hx hb dX4_meanLength_34 (by decide) ?_
    refine rcV (As := [.int (nI nh), .int 73, .int 4, .int 1]) (rest := []) (st1 := [.int (sumS (F 0) 73 4 1 nh)]) (mX4_ofAll l g E ho h0 a (upd I 1 0) F nh 73 4 1 (by omega) (fun i h => by omega)) kX4_ofAll q2703 hx hb hml hown hts hRf hRl ho.1 hE hS hP (va_recv hK hP (ci := 0) (q0 := 0) rfl rfl) ⟨Nat.zero_le _, Nat.zero_le _⟩ hl ⟨rfl, rfl⟩ rfl rfl (Nat.le_of_ble_eq_true rfl) rfl dX4_meanLength_35 ?_
    refine lv_i2d hx hb dX4_meanLength_38 ?_
    refine lv_aload_n hx hb dX4_meanLength_39 rfl (lv_at hl 0 rfl) ?_
    refine va_get (D := gD g) (ci := 0) (v := .ref (a 0)) (C := RX4) (T := TX4) (N := 21) hx hb hts in_X4 hown hK hP 0 rfl rfl 0 (by decide) (hts _ q2314) (fun _ h9 => h9) rfl dX4_meanLength_40 ?_
    refine lv_iconst (v := 4) hx hb dX4_meanLength_43 (by decide) ?_
    refine h_iald (f := (F 0)) hx hb hK hP 1 0 rfl rfl 4 rfl (by decide) (by decide) dX4_meanLength_44 ?_
    refine h_topi (v := nI nh) (hh) ?_
    refine lv_i2d hx hb dX4_meanLength_45 ?_
    refine lv_ddiv hx hb dX4_meanLength_46 (fp_div64 _ h0n (by omega)) ?_
    have hW1 : (mW g h0 a (upd I 1 0) F) = mW g h0 a (upd I 1 0) F := rfl
    rw [hW1] at hP hD
    exact hm_d hQ hx hb hr hlk () rfl trivial hP hD hS (by decide) (by decide) dX4_meanLength_47
  exact (show False by have z := (nI_eq (a := nh) (b := 0) (by omega) (by decide)).mp c_1; omega).elim
set_option maxHeartbeats 4000000 in
theorem mX4_lostShare1 (l : Launch) (g : hG) (E : hEnv) (ho : mOk g E) (h0 : Nat) (a : Nat → Nat) (I : Nat → Int32) (F : Nat → Nat → Int32) (cm : Nat) (hcm : F 0 8 = nI cm) (h0n : 0 < cm) (hcl : cm < 2 ^ 24) : MM l yX4_lostShare cX4_lostShare 1 (some .float) 1 22 0 0 [.ref h0] g E (mW g h0 a I F) (S := Unit) (fun _ => (some (.float (FP.fdiv (FP.i2f (F 0 10 + F 0 11)) (FP.i2f (nI cm)))))) (fun _ => True) (fun _ => mW g h0 a (upd I 1 0) F) := by
  refine MM.mk (by decide) (Nat.le_of_ble_eq_true rfl) ?_
  intro p e R s m args below meth c Q A H locs ls hX hRc hRs hP hD hE hS hA hnm hl hQ
  obtain ⟨hx, hb, hr, hlk, hml, hown, hts, hRf, hRl⟩ := hX
  have hown : s.vm.findClass RX4 = some m.cls := hown
  have hK := ho.2 _ _ _ hE
  have hl : lv_has ls 1 [(0, .ref h0)] := hl
  refine lv_aload_n hx hb dX4_lostShare_0 rfl (lv_at hl 0 rfl) ?_
  refine lv_aload_n hx hb dX4_lostShare_1 rfl (lv_at hl 0 rfl) ?_
  refine va_get (D := gD g) (ci := 0) (v := .ref (a 0)) (C := RX4) (T := TX4) (N := 21) hx hb hts in_X4 hown hK hP 0 rfl rfl 0 (by decide) (hts _ q2314) (fun _ h9 => h9) rfl dX4_lostShare_2 ?_
  refine lv_bipush (v := 8) hx hb dX4_lostShare_5 (by decide) ?_
  refine h_iald (f := (F 0)) hx hb hK hP 1 0 rfl rfl 8 rfl (by decide) (by decide) dX4_lostShare_7 ?_
  refine h_topi (v := nI cm) (hcm) ?_
  refine lv_if_ne (tgt := 15) hx hb dX4_lostShare_8 (by decide) (fun c_1 => ?_) (fun c_1 => ?_)
  · refine lv_iconst (v := 0) hx hb dX4_lostShare_15 (by decide) ?_
    refine lv_iconst (v := 1) hx hb dX4_lostShare_16 (by decide) ?_
    refine mcV (As := [.int 0, .int 1]) (rest := []) (wr := []) (mX4_isThrown0 l g E ho h0 a I F 1) kX4_isThrown q2574 hx hb hml hown hts hRf hRl ho.1 hE hS hP hD hA [0, 1, 2, 3, 4, 5, 6, 7, 8] [] rfl (by decide) rfl (by decide) (by decide) ⟨Nat.zero_le _, Nat.zero_le _⟩ (va_recv hK hP (ci := 0) (q0 := 0) rfl rfl) hl ⟨rfl, rfl⟩ rfl rfl (Nat.le_of_ble_eq_true rfl) dX4_lostShare_17 (fun _ H locs _ hP hD hS _ _ => ?_)
    have hP : va_P (gD g) Cl (mW g h0 a (upd I 1 0) F) H := hP
    have hD : va_D A (mW g h0 a (upd I 1 0) F) := hD
    refine lv_if_eq (tgt := 27) hx hb dX4_lostShare_20 (by decide) (fun _ => ?_) (fun c => absurd c (by decide))
    refine lv_aload_n hx hb dX4_lostShare_27 rfl (lv_at hl 0 rfl) ?_
    refine va_get (D := gD g) (ci := 0) (v := .ref (a 0)) (C := RX4) (T := TX4) (N := 21) hx hb hts in_X4 hown hK hP 0 rfl rfl 0 (by decide) (hts _ q2314) (fun _ h9 => h9) rfl dX4_lostShare_28 ?_
    refine lv_bipush (v := 10) hx hb dX4_lostShare_31 (by decide) ?_
    refine h_iald (f := (F 0)) hx hb hK hP 1 0 rfl rfl 10 rfl (by decide) (by decide) dX4_lostShare_33 ?_
    refine lv_aload_n hx hb dX4_lostShare_34 rfl (lv_at hl 0 rfl) ?_
    refine va_get (D := gD g) (ci := 0) (v := .ref (a 0)) (C := RX4) (T := TX4) (N := 21) hx hb hts in_X4 hown hK hP 0 rfl rfl 0 (by decide) (hts _ q2314) (fun _ h9 => h9) rfl dX4_lostShare_35 ?_
    refine lv_bipush (v := 11) hx hb dX4_lostShare_38 (by decide) ?_
    refine h_iald (f := (F 0)) hx hb hK hP 1 0 rfl rfl 11 rfl (by decide) (by decide) dX4_lostShare_40 ?_
    refine lv_iadd hx hb dX4_lostShare_41 ?_
    refine lv_i2f hx hb dX4_lostShare_42 ?_
    refine lv_aload_n hx hb dX4_lostShare_43 rfl (lv_at hl 0 rfl) ?_
    refine va_get (D := gD g) (ci := 0) (v := .ref (a 0)) (C := RX4) (T := TX4) (N := 21) hx hb hts in_X4 hown hK hP 0 rfl rfl 0 (by decide) (hts _ q2314) (fun _ h9 => h9) rfl dX4_lostShare_44 ?_
    refine lv_bipush (v := 8) hx hb dX4_lostShare_47 (by decide) ?_
    refine h_iald (f := (F 0)) hx hb hK hP 1 0 rfl rfl 8 rfl (by decide) (by decide) dX4_lostShare_49 ?_
    refine h_topi (v := nI cm) (hcm) ?_
    refine lv_i2f hx hb dX4_lostShare_50 ?_
    refine lv_fdiv hx hb dX4_lostShare_51 (fp_div32 _ h0n hcl) ?_
    have hW1 : (mW g h0 a (upd I 1 0) F) = mW g h0 a (upd I 1 0) F := rfl
    rw [hW1] at hP hD
    exact hm_f hQ hx hb hr hlk () rfl trivial hP hD hS (by decide) (by decide) dX4_lostShare_52
  exact (show False by have z := (nI_eq (a := cm) (b := 0) (by omega) (by decide)).mp c_1; omega).elim
