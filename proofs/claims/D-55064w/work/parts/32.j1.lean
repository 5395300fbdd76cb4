/-! STRINGS -/
set_option maxRecDepth 100000
section JROW
variable {p : Program} {l : Launch} {e : Env} {R : Room} {s : State} {m : MethodId} {args : Array Value} {below : List Frame} {meth : Method} {c : Code} {H : Heap} {locs : List Loc} {cells slots : Nat} {Q : State → Prop}
variable {cc : ByteArray} {pc : Nat} {ls : Array Slot} {rest st0 st1 : List Value} {g : hG} {A : Nat → Prop} {ws : va_W} {H0 : Heap} {a : Nat} {D : va_G} {cl : List vw_C} {tys : List (ClassId × FieldType)}
theorem h_bald (hx : p.tables.exec = Jvm.exec) (hb : c.code = cc) (hK : va_K D cl tys s) (hP : va_P D cl ws H) (q0 t0 : Nat) {cA : ClassId} {n : Nat} {f : Nat → Int32} (ha : ws[q0]? = some (a, .inl (cA, n, .inl f))) (ht : tys[t0]? = some (cA, .byte)) {i : Int32} (k : Nat) (hi : i = nI k) (hk : k < n) (hN : n < 2 ^ 31) (hdg : decode cc pc = .ok (.baload, 1))
    (kk : W p l e R s m args below meth c H locs cells slots Q (F0 m (pc + 1) ls (.int (f k) :: rest))) : W p l e R s m args below meth c H locs cells slots Q (F0 m pc ls (.int i :: .ref a :: rest)) := by
  refine va_bald hx hb hK hP q0 t0 ha ht (pk_in k n hk hi hN) hdg ?_
  rw [pk_cl k hi (Nat.lt_trans hk hN)]
  exact kk
end JROW
theorem h_shl1 {k : Nat} (h : k < 2 ^ 30) : nI k <<< ((1 : Int32) &&& 31) = nI (2 * k) := by
  rw [pk_shlN ((1 : Int32) &&& 31) 1 (by decide) (by omega)]
  exact congrArg nI (by omega)
/-- the char at k of bytes by two -/
def utC (f : Nat → Int32) (k : Nat) : Int32 := ((((f (2 * k) &&& 255) <<< ((0 : Int32) &&& 31)) ||| ((f (2 * k + 1) &&& 255) <<< ((8 : Int32) &&& 31))).toUInt32 % 65536).toInt32
theorem h_shr1 {k : Nat} (h : 2 * k < 2 ^ 31) : nI (2 * k) >>> ((1 : Int32) &&& 31) = nI k := by
  rw [pk_shrN h ((1 : Int32) &&& 31) 1 (by decide)]
  exact congrArg nI (by omega)

theorem kJ9_checkIndex : hkS yJ9_checkIndex cJ9_checkIndex 3 (some .int) 3 := ⟨q477, q81, q478, by decide +kernel⟩
set_option maxHeartbeats 4000000 in
theorem jJ9_checkIndexN (l : Launch) (g : hG) (E : hEnv) (ho : jOk g E) (k : Nat) (mx : Nat) (hk : k < mx) (hm : mx < 2 ^ 31) : RM l yJ9_checkIndex cJ9_checkIndex 3 (some .int) 0 0 [.int (nI k), .int (nI mx), .null] g E [] (some (.int (nI k))) := by
  refine RM.mk (by decide) (Nat.le_of_ble_eq_true rfl) ?_
  intro p e R s m args below meth c Q ls hX hP hE hS hl hQ
  obtain ⟨hx, hb, hr, hlk, hml, hown, hts, hRf, hRl⟩ := hX
  have hown : s.vm.findClass RJ9 = some m.cls := hown
  have hj := ho.2 _ _ _ hE
  have hK := hj.kn
  have hl : lv_has ls 3 [(0, .int (nI k)), (1, .int (nI mx)), (2, .null)] := hl
  refine lv_iload_n hx hb dJ9_checkIndex_0 rfl (lv_at hl 0 rfl) ?_
  refine lv_if_lt (tgt := 9) hx hb dJ9_checkIndex_1 (by decide) (fun c_1 => ?_) (fun c_1 => ?_)
  · exact (nI_pos (by omega) c_1).elim
  refine lv_iload_n hx hb dJ9_checkIndex_4 rfl (lv_at hl 0 rfl) ?_
  refine lv_iload_n hx hb dJ9_checkIndex_5 rfl (lv_at hl 1 rfl) ?_
  refine lv_icmp_lt (tgt := 16) hx hb dJ9_checkIndex_6 (by decide) (fun c_2 => ?_) (fun c_2 => ?_)
  · refine lv_iload_n hx hb dJ9_checkIndex_16 rfl (lv_at hl 0 rfl) ?_
    exact hr_i hQ hx hb hr hlk rfl (rfl) dJ9_checkIndex_17
  exact (c_2 (nI_lt hk hm)).elim
set_option maxHeartbeats 4000000 in
theorem jJ9_checkIndexR (l : Launch) (g : hG) (E : hEnv) (ho : jOk g E) (k : Nat) (mx : Nat) (t9 : Nat) (hk : k < mx) (hm : mx < 2 ^ 31) : RM l yJ9_checkIndex cJ9_checkIndex 3 (some .int) 0 0 [.int (nI k), .int (nI mx), .ref t9] g E [] (some (.int (nI k))) := by
  refine RM.mk (by decide) (Nat.le_of_ble_eq_true rfl) ?_
  intro p e R s m args below meth c Q ls hX hP hE hS hl hQ
  obtain ⟨hx, hb, hr, hlk, hml, hown, hts, hRf, hRl⟩ := hX
  have hown : s.vm.findClass RJ9 = some m.cls := hown
  have hj := ho.2 _ _ _ hE
  have hK := hj.kn
  have hl : lv_has ls 3 [(0, .int (nI k)), (1, .int (nI mx)), (2, .ref t9)] := hl
  refine lv_iload_n hx hb dJ9_checkIndex_0 rfl (lv_at hl 0 rfl) ?_
  refine lv_if_lt (tgt := 9) hx hb dJ9_checkIndex_1 (by decide) (fun c_1 => ?_) (fun c_1 => ?_)
  · exact (nI_pos (by omega) c_1).elim
  refine lv_iload_n hx hb dJ9_checkIndex_4 rfl (lv_at hl 0 rfl) ?_
  refine lv_iload_n hx hb dJ9_checkIndex_5 rfl (lv_at hl 1 rfl) ?_
  refine lv_icmp_lt (tgt := 16) hx hb dJ9_checkIndex_6 (by decide) (fun c_2 => ?_) (fun c_2 => ?_)
  · refine lv_iload_n hx hb dJ9_checkIndex_16 rfl (lv_at hl 0 rfl) ?_
    exact hr_i hQ hx hb hr hlk rfl (rfl) dJ9_checkIndex_17
  exact (c_2 (nI_lt hk hm)).elim
theorem kJ6_checkIndex : hkS yJ6_checkIndex cJ6_checkIndex 2 none 2 := ⟨q504, q76, q505, by decide +kernel⟩
set_option maxHeartbeats 4000000 in
theorem jJ6_checkIndex (l : Launch) (g : hG) (E : hEnv) (ho : jOk g E) (k : Nat) (mx : Nat) (hk : k < mx) (hm : mx < 2 ^ 31) : RM l yJ6_checkIndex cJ6_checkIndex 2 none 1 22 [.int (nI k), .int (nI mx)] g E [] none := by
  refine RM.mk (by decide) (Nat.le_of_ble_eq_true rfl) ?_
  intro p e R s m args below meth c Q ls hX hP hE hS hl hQ
  obtain ⟨hx, hb, hr, hlk, hml, hown, hts, hRf, hRl⟩ := hX
  have hown : s.vm.findClass RJ6 = some m.cls := hown
  have hj := ho.2 _ _ _ hE
  have hK := hj.kn
  have hl : lv_has ls 2 [(0, .int (nI k)), (1, .int (nI mx))] := hl
  refine lv_iload_n hx hb dJ6_checkIndex_0 rfl (lv_at hl 0 rfl) ?_
  refine lv_iload_n hx hb dJ6_checkIndex_1 rfl (lv_at hl 1 rfl) ?_
  rcases hj.fo with hz9 | ⟨t9, hz9⟩
  · refine va_gets hx hb hz9 hS hown (hts _ q403) (fun _ h9 => h9) dJ6_checkIndex_2 ?_
    refine rcS (As := [.int (nI k), .int (nI mx), .null]) (rest := []) (st1 := [.int (nI k)]) (jJ9_checkIndexN l g E ho k mx hk hm) kJ9_checkIndex q506 hx hb hml hown hts hRf hRl ho.1.1 hE hS (hP.sub [] rfl) ⟨Nat.zero_le _, Nat.zero_le _⟩ hl ⟨rfl, rfl⟩ rfl rfl (Nat.le_of_ble_eq_true rfl) rfl dJ6_checkIndex_5 ?_
    refine lv_pop hx hb dJ6_checkIndex_8 rfl ?_
    exact hr_v hQ hx hb hr hlk dJ6_checkIndex_9
  · refine va_gets hx hb hz9 hS hown (hts _ q403) (fun _ h9 => h9) dJ6_checkIndex_2 ?_
    refine rcS (As := [.int (nI k), .int (nI mx), .ref t9]) (rest := []) (st1 := [.int (nI k)]) (jJ9_checkIndexR l g E ho k mx t9 hk hm) kJ9_checkIndex q506 hx hb hml hown hts hRf hRl ho.1.1 hE hS (hP.sub [] rfl) ⟨Nat.zero_le _, Nat.zero_le _⟩ hl ⟨rfl, rfl⟩ rfl rfl (Nat.le_of_ble_eq_true rfl) rfl dJ6_checkIndex_5 ?_
    refine lv_pop hx hb dJ6_checkIndex_8 rfl ?_
    exact hr_v hQ hx hb hr hlk dJ6_checkIndex_9
theorem kJ13_charAt : hkS yJ13_charAt cJ13_charAt 2 (some .char) 2 := ⟨q501, q90, q502, by decide +kernel⟩
set_option maxHeartbeats 4000000 in
theorem jJ13_charAt (l : Launch) (g : hG) (E : hEnv) (ho : jOk g E) (b : Nat) (n : Nat) (f : Nat → Int32) (k : Nat) (hk : k < n) (hn : n < 2 ^ 31) : RM l yJ13_charAt cJ13_charAt 2 (some .char) 2 43 [.ref b, .int (nI k)] g E [(b, .inl (g.2.2.1 1, n, .inl f))] (some (.int (f k &&& 255))) := by
  refine RM.mk (by decide) (Nat.le_of_ble_eq_true rfl) ?_
  intro p e R s m args below meth c Q ls hX hP hE hS hl hQ
  obtain ⟨hx, hb, hr, hlk, hml, hown, hts, hRf, hRl⟩ := hX
  have hown : s.vm.findClass RJ13 = some m.cls := hown
  have hj := ho.2 _ _ _ hE
  have hK := hj.kn
  have hl : lv_has ls 2 [(0, .ref b), (1, .int (nI k))] := hl
  refine lv_iload_n hx hb dJ13_charAt_0 rfl (lv_at hl 1 rfl) ?_
  refine lv_aload_n hx hb dJ13_charAt_1 rfl (lv_at hl 0 rfl) ?_
  refine va_alen (v := nI n) hx hb hK hP 0 1 rfl rfl rfl dJ13_charAt_2 ?_
  refine rcS (As := [.int (nI k), .int (nI n)]) (rest := []) (st1 := []) (jJ6_checkIndex l g E ho k n hk hn) kJ6_checkIndex q503 hx hb hml hown hts hRf hRl ho.1.1 hE hS (hP.sub [] rfl) ⟨Nat.zero_le _, Nat.zero_le _⟩ hl ⟨rfl, rfl⟩ rfl rfl (Nat.le_of_ble_eq_true rfl) rfl dJ13_charAt_3 ?_
  refine lv_aload_n hx hb dJ13_charAt_6 rfl (lv_at hl 0 rfl) ?_
  refine lv_iload_n hx hb dJ13_charAt_7 rfl (lv_at hl 1 rfl) ?_
  refine h_bald (f := f) hx hb hK hP 0 1 rfl rfl k rfl (by omega) (by omega) dJ13_charAt_8 ?_
  refine lv_sipush (v := 255) hx hb dJ13_charAt_9 (by decide) ?_
  refine lv_iand hx hb dJ13_charAt_12 ?_
  refine lv_i2c (v := (((f k) &&& 255).toUInt32 % 65536).toInt32) hx hb dJ13_charAt_13 rfl ?_
  exact hr_i hQ hx hb hr hlk ((congrArg (fun z => narrow .char (.int z)) (sc_c2 _)).trans ((sc_nar _).trans (congrArg Value.int (sc_c2 _)).symm)) (by rw [sc_c2]) dJ13_charAt_14
theorem kJ6_isLatin1 : hkV RJ6 yJ6_isLatin1 cJ6_isLatin1 1 (some .boolean) 0 := ⟨q497, q498, q76, q499, rfl, by decide +kernel⟩
set_option maxHeartbeats 4000000 in
theorem jJ6_isLatin10 (l : Launch) (g : hG) (E : hEnv) (ho : jOk g E) (q : Nat) (b : Nat) (hs : Int32) (hz : Int32) : RM l yJ6_isLatin1 cJ6_isLatin1 1 (some .boolean) 0 0 [.ref q] g E [(q, .inr (16, [.ref b, .int 0, .int hs, .int hz]))] (some (.int 1)) := by
  refine RM.mk (by decide) (Nat.le_of_ble_eq_true rfl) ?_
  intro p e R s m args below meth c Q ls hX hP hE hS hl hQ
  obtain ⟨hx, hb, hr, hlk, hml, hown, hts, hRf, hRl⟩ := hX
  have hown : s.vm.findClass RJ6 = some m.cls := hown
  have hj := ho.2 _ _ _ hE
  have hK := hj.kn
  have hl : lv_has ls 1 [(0, .ref q)] := hl
  refine va_gets hx hb hj.cs hS hown (hts _ q425) (fun _ h9 => h9) dJ6_isLatin1_0 ?_
  refine lv_if_eq (tgt := 17) hx hb dJ6_isLatin1_3 (by decide) (fun c => absurd c (by decide)) (fun _ => ?_)
  refine lv_aload_n hx hb dJ6_isLatin1_6 rfl (lv_at hl 0 rfl) ?_
  refine va_get (D := gD g) (ci := 16) (v := .int 0) (C := RJ6) (T := TJ6) (N := 4) hx hb hts in_J6 hown hK hP 0 rfl rfl 1 (by decide) (hts _ q685) (fun _ h9 => h9) rfl dJ6_isLatin1_7 ?_
  refine lv_if_ne (tgt := 17) hx hb dJ6_isLatin1_10 (by decide) (fun c => absurd c (by decide)) (fun _ => ?_)
  refine lv_iconst (v := 1) hx hb dJ6_isLatin1_13 (by decide) ?_
  refine lv_goto (tgt := 18) hx hb dJ6_isLatin1_14 (by decide) ?_
  exact hr_i hQ hx hb hr hlk rfl (rfl) dJ6_isLatin1_18
theorem kJ6_coder : hkV RJ6 yJ6_coder cJ6_coder 1 (some .byte) 0 := ⟨q422, q423, q76, q424, rfl, by decide +kernel⟩
set_option maxHeartbeats 4000000 in
theorem jJ6_coder0 (l : Launch) (g : hG) (E : hEnv) (ho : jOk g E) (q : Nat) (b : Nat) (hs : Int32) (hz : Int32) : RM l yJ6_coder cJ6_coder 1 (some .byte) 0 0 [.ref q] g E [(q, .inr (16, [.ref b, .int 0, .int hs, .int hz]))] (some (.int 0)) := by
  refine RM.mk (by decide) (Nat.le_of_ble_eq_true rfl) ?_
  intro p e R s m args below meth c Q ls hX hP hE hS hl hQ
  obtain ⟨hx, hb, hr, hlk, hml, hown, hts, hRf, hRl⟩ := hX
  have hown : s.vm.findClass RJ6 = some m.cls := hown
  have hj := ho.2 _ _ _ hE
  have hK := hj.kn
  have hl : lv_has ls 1 [(0, .ref q)] := hl
  refine va_gets hx hb hj.cs hS hown (hts _ q425) (fun _ h9 => h9) dJ6_coder_0 ?_
  refine lv_if_eq (tgt := 13) hx hb dJ6_coder_3 (by decide) (fun c => absurd c (by decide)) (fun _ => ?_)
  refine lv_aload_n hx hb dJ6_coder_6 rfl (lv_at hl 0 rfl) ?_
  refine va_get (D := gD g) (ci := 16) (v := .int 0) (C := RJ6) (T := TJ6) (N := 4) hx hb hts in_J6 hown hK hP 0 rfl rfl 1 (by decide) (hts _ q685) (fun _ h9 => h9) rfl dJ6_coder_7 ?_
  refine lv_goto (tgt := 14) hx hb dJ6_coder_10 (by decide) ?_
  exact hr_i hQ hx hb hr hlk rfl (rfl) dJ6_coder_14
set_option maxHeartbeats 4000000 in
theorem jJ6_isLatin11 (l : Launch) (g : hG) (E : hEnv) (ho : jOk g E) (q : Nat) (b : Nat) (hs : Int32) (hz : Int32) : RM l yJ6_isLatin1 cJ6_isLatin1 1 (some .boolean) 0 0 [.ref q] g E [(q, .inr (16, [.ref b, .int 1, .int hs, .int hz]))] (some (.int 0)) := by
  refine RM.mk (by decide) (Nat.le_of_ble_eq_true rfl) ?_
  intro p e R s m args below meth c Q ls hX hP hE hS hl hQ
  obtain ⟨hx, hb, hr, hlk, hml, hown, hts, hRf, hRl⟩ := hX
  have hown : s.vm.findClass RJ6 = some m.cls := hown
  have hj := ho.2 _ _ _ hE
  have hK := hj.kn
  have hl : lv_has ls 1 [(0, .ref q)] := hl
  refine va_gets hx hb hj.cs hS hown (hts _ q425) (fun _ h9 => h9) dJ6_isLatin1_0 ?_
  refine lv_if_eq (tgt := 17) hx hb dJ6_isLatin1_3 (by decide) (fun c => absurd c (by decide)) (fun _ => ?_)
  refine lv_aload_n hx hb dJ6_isLatin1_6 rfl (lv_at hl 0 rfl) ?_
  refine va_get (D := gD g) (ci := 16) (v := .int 1) (C := RJ6) (T := TJ6) (N := 4) hx hb hts in_J6 hown hK hP 0 rfl rfl 1 (by decide) (hts _ q685) (fun _ h9 => h9) rfl dJ6_isLatin1_7 ?_
  refine lv_if_ne (tgt := 17) hx hb dJ6_isLatin1_10 (by decide) (fun _ => ?_) (fun c => absurd c (by decide))
  refine lv_iconst (v := 0) hx hb dJ6_isLatin1_17 (by decide) ?_
  exact hr_i hQ hx hb hr hlk rfl (rfl) dJ6_isLatin1_18
set_option maxHeartbeats 4000000 in
theorem jJ6_coder1 (l : Launch) (g : hG) (E : hEnv) (ho : jOk g E) (q : Nat) (b : Nat) (hs : Int32) (hz : Int32) : RM l yJ6_coder cJ6_coder 1 (some .byte) 0 0 [.ref q] g E [(q, .inr (16, [.ref b, .int 1, .int hs, .int hz]))] (some (.int 1)) := by
  refine RM.mk (by decide) (Nat.le_of_ble_eq_true rfl) ?_
  intro p e R s m args below meth c Q ls hX hP hE hS hl hQ
  obtain ⟨hx, hb, hr, hlk, hml, hown, hts, hRf, hRl⟩ := hX
  have hown : s.vm.findClass RJ6 = some m.cls := hown
  have hj := ho.2 _ _ _ hE
  have hK := hj.kn
  have hl : lv_has ls 1 [(0, .ref q)] := hl
  refine va_gets hx hb hj.cs hS hown (hts _ q425) (fun _ h9 => h9) dJ6_coder_0 ?_
  refine lv_if_eq (tgt := 13) hx hb dJ6_coder_3 (by decide) (fun c => absurd c (by decide)) (fun _ => ?_)
  refine lv_aload_n hx hb dJ6_coder_6 rfl (lv_at hl 0 rfl) ?_
  refine va_get (D := gD g) (ci := 16) (v := .int 1) (C := RJ6) (T := TJ6) (N := 4) hx hb hts in_J6 hown hK hP 0 rfl rfl 1 (by decide) (hts _ q685) (fun _ h9 => h9) rfl dJ6_coder_7 ?_
  refine lv_goto (tgt := 14) hx hb dJ6_coder_10 (by decide) ?_
  exact hr_i hQ hx hb hr hlk rfl (rfl) dJ6_coder_14
theorem kJ6_length : hkV RJ6 yJ6_length cJ6_length 1 (some .int) 0 := ⟨q418, q419, q76, q420, rfl, by decide +kernel⟩
set_option maxHeartbeats 4000000 in
theorem jJ6_length0 (l : Launch) (g : hG) (E : hEnv) (ho : jOk g E) (q : Nat) (b : Nat) (hs : Int32) (hz : Int32) (n : Nat) (f : Nat → Int32) (hn : n < 2 ^ 31) : RM l yJ6_length cJ6_length 1 (some .int) 1 20 [.ref q] g E [(q, .inr (16, [.ref b, .int 0, .int hs, .int hz])), (b, .inl (g.2.2.1 1, n, .inl f))] (some (.int (nI n))) := by
  refine RM.mk (by decide) (Nat.le_of_ble_eq_true rfl) ?_
  intro p e R s m args below meth c Q ls hX hP hE hS hl hQ
  obtain ⟨hx, hb, hr, hlk, hml, hown, hts, hRf, hRl⟩ := hX
  have hown : s.vm.findClass RJ6 = some m.cls := hown
  have hj := ho.2 _ _ _ hE
  have hK := hj.kn
  have hl : lv_has ls 1 [(0, .ref q)] := hl
  refine lv_aload_n hx hb dJ6_length_0 rfl (lv_at hl 0 rfl) ?_
  refine va_get (D := gD g) (ci := 16) (v := .ref b) (C := RJ6) (T := TJ6) (N := 4) hx hb hts in_J6 hown hK hP 0 rfl rfl 0 (by decide) (hts _ q684) (fun _ h9 => h9) rfl dJ6_length_1 ?_
  refine va_alen (v := nI n) hx hb hK hP 1 1 rfl rfl rfl dJ6_length_4 ?_
  refine lv_aload_n hx hb dJ6_length_5 rfl (lv_at hl 0 rfl) ?_
  refine rcV (As := []) (rest := [.int (nI n)]) (st1 := [.int 0, .int (nI n)]) (jJ6_coder0 l g E ho q b hs hz) kJ6_coder q421 hx hb hml hown hts hRf hRl ho.1.1 hE hS (hP.sub [0] rfl) (va_recv hK hP (ci := 16) (q0 := 0) rfl rfl) ⟨Nat.zero_le _, Nat.zero_le _⟩ hl ⟨rfl, rfl⟩ rfl rfl (Nat.le_of_ble_eq_true rfl) rfl dJ6_length_6 ?_
  refine lv_ishr hx hb dJ6_length_9 ?_
  exact hr_i hQ hx hb hr hlk rfl (by rw [sc_shr0 (by omega)]) dJ6_length_10
theorem kJ6_charAt : hkV RJ6 yJ6_charAt cJ6_charAt 2 (some .char) 1 := ⟨q493, q494, q76, q495, rfl, by decide +kernel⟩
set_option maxHeartbeats 4000000 in
theorem jJ6_charAt0 (l : Launch) (g : hG) (E : hEnv) (ho : jOk g E) (q : Nat) (b : Nat) (hs : Int32) (hz : Int32) (n : Nat) (f : Nat → Int32) (k : Nat) (hk : k < n) (hn : n < 2 ^ 31) : RM l yJ6_charAt cJ6_charAt 2 (some .char) 3 64 [.ref q, .int (nI k)] g E [(q, .inr (16, [.ref b, .int 0, .int hs, .int hz])), (b, .inl (g.2.2.1 1, n, .inl f))] (some (.int (f k &&& 255))) := by
  refine RM.mk (by decide) (Nat.le_of_ble_eq_true rfl) ?_
  intro p e R s m args below meth c Q ls hX hP hE hS hl hQ
  obtain ⟨hx, hb, hr, hlk, hml, hown, hts, hRf, hRl⟩ := hX
  have hown : s.vm.findClass RJ6 = some m.cls := hown
  have hj := ho.2 _ _ _ hE
  have hK := hj.kn
  have hl : lv_has ls 2 [(0, .ref q), (1, .int (nI k))] := hl
  refine lv_aload_n hx hb dJ6_charAt_0 rfl (lv_at hl 0 rfl) ?_
  refine rcV (As := []) (rest := []) (st1 := [.int 1]) (jJ6_isLatin10 l g E ho q b hs hz) kJ6_isLatin1 q496 hx hb hml hown hts hRf hRl ho.1.1 hE hS (hP.sub [0] rfl) (va_recv hK hP (ci := 16) (q0 := 0) rfl rfl) ⟨Nat.zero_le _, Nat.zero_le _⟩ hl ⟨rfl, rfl⟩ rfl rfl (Nat.le_of_ble_eq_true rfl) rfl dJ6_charAt_1 ?_
  refine lv_if_eq (tgt := 16) hx hb dJ6_charAt_4 (by decide) (fun c => absurd c (by decide)) (fun _ => ?_)
  refine lv_aload_n hx hb dJ6_charAt_7 rfl (lv_at hl 0 rfl) ?_
  refine va_get (D := gD g) (ci := 16) (v := .ref b) (C := RJ6) (T := TJ6) (N := 4) hx hb hts in_J6 hown hK hP 0 rfl rfl 0 (by decide) (hts _ q684) (fun _ h9 => h9) rfl dJ6_charAt_8 ?_
  refine lv_iload_n hx hb dJ6_charAt_11 rfl (lv_at hl 1 rfl) ?_
  refine rcS (As := [.ref b, .int (nI k)]) (rest := []) (st1 := [.int (f k &&& 255)]) (jJ13_charAt l g E ho b n f k hk hn) kJ13_charAt q500 hx hb hml hown hts hRf hRl ho.1.1 hE hS (hP.sub [1] rfl) ⟨Nat.zero_le _, Nat.zero_le _⟩ hl ⟨rfl, rfl⟩ rfl rfl (Nat.le_of_ble_eq_true rfl) rfl dJ6_charAt_12 ?_
  exact hr_i hQ hx hb hr hlk (sc_nar _) (rfl) dJ6_charAt_15
theorem kJ7_length : hkS yJ7_length cJ7_length 1 (some .int) 1 := ⟨q398, q77, q399, by decide +kernel⟩
set_option maxHeartbeats 4000000 in
theorem jJ7_length (l : Launch) (g : hG) (E : hEnv) (ho : jOk g E) (b : Nat) (n : Nat) (f : Nat → Int32) (hn : 2 * n < 2 ^ 31) : RM l yJ7_length cJ7_length 1 (some .int) 0 0 [.ref b] g E [(b, .inl (g.2.2.1 1, (2 * n), .inl f))] (some (.int (nI n))) := by
  refine RM.mk (by decide) (Nat.le_of_ble_eq_true rfl) ?_
  intro p e R s m args below meth c Q ls hX hP hE hS hl hQ
  obtain ⟨hx, hb, hr, hlk, hml, hown, hts, hRf, hRl⟩ := hX
  have hown : s.vm.findClass RJ7 = some m.cls := hown
  have hj := ho.2 _ _ _ hE
  have hK := hj.kn
  have hl : lv_has ls 1 [(0, .ref b)] := hl
  refine lv_aload_n hx hb dJ7_length_0 rfl (lv_at hl 0 rfl) ?_
  refine va_alen (v := nI (2 * n)) hx hb hK hP 0 1 rfl rfl rfl dJ7_length_1 ?_
  refine lv_iconst (v := 1) hx hb dJ7_length_2 (by decide) ?_
  refine lv_ishr hx hb dJ7_length_3 ?_
  exact hr_i hQ hx hb hr hlk rfl (by rw [h_shr1 hn]) dJ7_length_4
theorem kJ7_checkIndex : hkS yJ7_checkIndex cJ7_checkIndex 2 none 2 := ⟨q511, q77, q512, by decide +kernel⟩
set_option maxHeartbeats 4000000 in
theorem jJ7_checkIndex (l : Launch) (g : hG) (E : hEnv) (ho : jOk g E) (b : Nat) (n : Nat) (f : Nat → Int32) (k : Nat) (hn : 2 * n < 2 ^ 31) (hk : k < n) : RM l yJ7_checkIndex cJ7_checkIndex 2 none 2 43 [.int (nI k), .ref b] g E [(b, .inl (g.2.2.1 1, (2 * n), .inl f))] none := by
  refine RM.mk (by decide) (Nat.le_of_ble_eq_true rfl) ?_
  intro p e R s m args below meth c Q ls hX hP hE hS hl hQ
  obtain ⟨hx, hb, hr, hlk, hml, hown, hts, hRf, hRl⟩ := hX
  have hown : s.vm.findClass RJ7 = some m.cls := hown
  have hj := ho.2 _ _ _ hE
  have hK := hj.kn
  have hl : lv_has ls 2 [(0, .int (nI k)), (1, .ref b)] := hl
  refine lv_iload_n hx hb dJ7_checkIndex_0 rfl (lv_at hl 0 rfl) ?_
  refine lv_aload_n hx hb dJ7_checkIndex_1 rfl (lv_at hl 1 rfl) ?_
  refine rcS (As := [.ref b]) (rest := [.int (nI k)]) (st1 := [.int (nI n), .int (nI k)]) (jJ7_length l g E ho b n f hn) kJ7_length q397 hx hb hml hown hts hRf hRl ho.1.1 hE hS (hP.sub [0] rfl) ⟨Nat.zero_le _, Nat.zero_le _⟩ hl ⟨rfl, rfl⟩ rfl rfl (Nat.le_of_ble_eq_true rfl) rfl dJ7_checkIndex_2 ?_
  refine rcS (As := [.int (nI k), .int (nI n)]) (rest := []) (st1 := []) (jJ6_checkIndex l g E ho k n hk (by omega)) kJ6_checkIndex q513 hx hb hml hown hts hRf hRl ho.1.1 hE hS (hP.sub [] rfl) ⟨Nat.zero_le _, Nat.zero_le _⟩ hl ⟨rfl, rfl⟩ rfl rfl (Nat.le_of_ble_eq_true rfl) rfl dJ7_checkIndex_5 ?_
  exact hr_v hQ hx hb hr hlk dJ7_checkIndex_8
theorem kJ7_getChar : hkS yJ7_getChar cJ7_getChar 2 (some .char) 2 := ⟨q515, q77, q516, by decide +kernel⟩
set_option maxHeartbeats 4000000 in
theorem jJ7_getChar (l : Launch) (g : hG) (E : hEnv) (ho : jOk g E) (b : Nat) (n : Nat) (f : Nat → Int32) (k : Nat) (hn : 2 * n < 2 ^ 31) (hk : k < n) : RM l yJ7_getChar cJ7_getChar 2 (some .char) 0 0 [.ref b, .int (nI k)] g E [(b, .inl (g.2.2.1 1, (2 * n), .inl f))] (some (.int (utC f k))) := by
  refine RM.mk (by decide) (Nat.le_of_ble_eq_true rfl) ?_
  intro p e R s m args below meth c Q ls hX hP hE hS hl hQ
  obtain ⟨hx, hb, hr, hlk, hml, hown, hts, hRf, hRl⟩ := hX
  have hown : s.vm.findClass RJ7 = some m.cls := hown
  have hj := ho.2 _ _ _ hE
  have hK := hj.kn
  have hl : lv_has ls 2 [(0, .ref b), (1, .int (nI k))] := hl
  refine va_gets hx hb hj.ad hS hown (hts _ q411) (fun _ h9 => h9) dJ7_getChar_0 ?_
  refine lv_if_ne (tgt := 28) hx hb dJ7_getChar_3 (by decide) (fun _ => ?_) (fun c => absurd c (by decide))
  refine lv_iload_n hx hb dJ7_getChar_28 rfl (lv_at hl 1 rfl) ?_
  refine lv_iconst (v := 1) hx hb dJ7_getChar_29 (by decide) ?_
  refine lv_ishl hx hb dJ7_getChar_30 ?_
  refine h_topi (v := nI (2 * k)) (h_shl1 (by omega)) ?_
  refine lv_istore_n (lv' := [(1, .int (nI (2 * k))), (0, .ref b)]) hx hb dJ7_getChar_31 rfl hl (by decide) rfl (fun ls hl => ?_)
  refine lv_aload_n hx hb dJ7_getChar_32 rfl (lv_at hl 1 rfl) ?_
  refine lv_iload_n hx hb dJ7_getChar_33 rfl (lv_at hl 0 rfl) ?_
  refine lv_iinc (v := nI (2 * k + 1)) (lv' := [(1, .int (nI (2 * k + 1))), (0, .ref b)]) hx hb dJ7_getChar_34 hl (k := 0) rfl (h_ninc (a := 2 * k) (k := 1) (rfl)) (by decide) rfl (fun ls hl => ?_)
  refine h_bald (f := f) hx hb hK hP 0 1 rfl rfl (2 * k) rfl (by omega) (by omega) dJ7_getChar_37 ?_
  refine lv_sipush (v := 255) hx hb dJ7_getChar_38 (by decide) ?_
  refine lv_iand hx hb dJ7_getChar_41 ?_
  refine va_gets hx hb hj.hs hS hown (hts _ q413) (fun _ h9 => h9) dJ7_getChar_42 ?_
  refine lv_ishl hx hb dJ7_getChar_45 ?_
  refine lv_aload_n hx hb dJ7_getChar_46 rfl (lv_at hl 1 rfl) ?_
  refine lv_iload_n hx hb dJ7_getChar_47 rfl (lv_at hl 0 rfl) ?_
  refine h_bald (f := f) hx hb hK hP 0 1 rfl rfl (2 * k + 1) rfl (by omega) (by omega) dJ7_getChar_48 ?_
  refine lv_sipush (v := 255) hx hb dJ7_getChar_49 (by decide) ?_
  refine lv_iand hx hb dJ7_getChar_52 ?_
  refine va_gets hx hb hj.ls hS hown (hts _ q415) (fun _ h9 => h9) dJ7_getChar_53 ?_
  refine lv_ishl hx hb dJ7_getChar_56 ?_
  refine lv_ior hx hb dJ7_getChar_57 ?_
  refine lv_i2c (v := (((((f (2 * k)) &&& 255) <<< (0 &&& 31)) ||| (((f (2 * k + 1)) &&& 255) <<< (8 &&& 31))).toUInt32 % 65536).toInt32) hx hb dJ7_getChar_58 rfl ?_
  exact hr_i hQ hx hb hr hlk (congrArg Value.int (h_char _)) (rfl) dJ7_getChar_59
theorem kJ7_charAt : hkS yJ7_charAt cJ7_charAt 2 (some .char) 2 := ⟨q508, q77, q509, by decide +kernel⟩
set_option maxHeartbeats 4000000 in
theorem jJ7_charAt (l : Launch) (g : hG) (E : hEnv) (ho : jOk g E) (b : Nat) (n : Nat) (f : Nat → Int32) (k : Nat) (hn : 2 * n < 2 ^ 31) (hk : k < n) : RM l yJ7_charAt cJ7_charAt 2 (some .char) 3 64 [.ref b, .int (nI k)] g E [(b, .inl (g.2.2.1 1, (2 * n), .inl f))] (some (.int (utC f k))) := by
  refine RM.mk (by decide) (Nat.le_of_ble_eq_true rfl) ?_
  intro p e R s m args below meth c Q ls hX hP hE hS hl hQ
  obtain ⟨hx, hb, hr, hlk, hml, hown, hts, hRf, hRl⟩ := hX
  have hown : s.vm.findClass RJ7 = some m.cls := hown
  have hj := ho.2 _ _ _ hE
  have hK := hj.kn
  have hl : lv_has ls 2 [(0, .ref b), (1, .int (nI k))] := hl
  refine lv_iload_n hx hb dJ7_charAt_0 rfl (lv_at hl 1 rfl) ?_
  refine lv_aload_n hx hb dJ7_charAt_1 rfl (lv_at hl 0 rfl) ?_
  refine rcS (As := [.int (nI k), .ref b]) (rest := []) (st1 := []) (jJ7_checkIndex l g E ho b n f k hn hk) kJ7_checkIndex q510 hx hb hml hown hts hRf hRl ho.1.1 hE hS (hP.sub [0] rfl) ⟨Nat.zero_le _, Nat.zero_le _⟩ hl ⟨rfl, rfl⟩ rfl rfl (Nat.le_of_ble_eq_true rfl) rfl dJ7_charAt_2 ?_
  refine lv_aload_n hx hb dJ7_charAt_5 rfl (lv_at hl 0 rfl) ?_
  refine lv_iload_n hx hb dJ7_charAt_6 rfl (lv_at hl 1 rfl) ?_
  refine rcS (As := [.ref b, .int (nI k)]) (rest := []) (st1 := [.int (utC f k)]) (jJ7_getChar l g E ho b n f k hn hk) kJ7_getChar q514 hx hb hml hown hts hRf hRl ho.1.1 hE hS (hP.sub [0] rfl) ⟨Nat.zero_le _, Nat.zero_le _⟩ hl ⟨rfl, rfl⟩ rfl rfl (Nat.le_of_ble_eq_true rfl) rfl dJ7_charAt_7 ?_
  exact hr_i hQ hx hb hr hlk (congrArg Value.int (h_char _)) (rfl) dJ7_charAt_10
set_option maxHeartbeats 4000000 in
theorem jJ6_length1 (l : Launch) (g : hG) (E : hEnv) (ho : jOk g E) (q : Nat) (b : Nat) (hs : Int32) (hz : Int32) (n : Nat) (f : Nat → Int32) (hn : 2 * n < 2 ^ 31) : RM l yJ6_length cJ6_length 1 (some .int) 1 20 [.ref q] g E [(q, .inr (16, [.ref b, .int 1, .int hs, .int hz])), (b, .inl (g.2.2.1 1, (2 * n), .inl f))] (some (.int (nI n))) := by
  refine RM.mk (by decide) (Nat.le_of_ble_eq_true rfl) ?_
  intro p e R s m args below meth c Q ls hX hP hE hS hl hQ
  obtain ⟨hx, hb, hr, hlk, hml, hown, hts, hRf, hRl⟩ := hX
  have hown : s.vm.findClass RJ6 = some m.cls := hown
  have hj := ho.2 _ _ _ hE
  have hK := hj.kn
  have hl : lv_has ls 1 [(0, .ref q)] := hl
  refine lv_aload_n hx hb dJ6_length_0 rfl (lv_at hl 0 rfl) ?_
  refine va_get (D := gD g) (ci := 16) (v := .ref b) (C := RJ6) (T := TJ6) (N := 4) hx hb hts in_J6 hown hK hP 0 rfl rfl 0 (by decide) (hts _ q684) (fun _ h9 => h9) rfl dJ6_length_1 ?_
  refine va_alen (v := nI (2 * n)) hx hb hK hP 1 1 rfl rfl rfl dJ6_length_4 ?_
  refine lv_aload_n hx hb dJ6_length_5 rfl (lv_at hl 0 rfl) ?_
  refine rcV (As := []) (rest := [.int (nI (2 * n))]) (st1 := [.int 1, .int (nI (2 * n))]) (jJ6_coder1 l g E ho q b hs hz) kJ6_coder q421 hx hb hml hown hts hRf hRl ho.1.1 hE hS (hP.sub [0] rfl) (va_recv hK hP (ci := 16) (q0 := 0) rfl rfl) ⟨Nat.zero_le _, Nat.zero_le _⟩ hl ⟨rfl, rfl⟩ rfl rfl (Nat.le_of_ble_eq_true rfl) rfl dJ6_length_6 ?_
  refine lv_ishr hx hb dJ6_length_9 ?_
  exact hr_i hQ hx hb hr hlk rfl (by rw [h_shr1 hn]) dJ6_length_10
set_option maxHeartbeats 4000000 in
theorem jJ6_charAt1 (l : Launch) (g : hG) (E : hEnv) (ho : jOk g E) (q : Nat) (b : Nat) (hs : Int32) (hz : Int32) (n : Nat) (f : Nat → Int32) (k : Nat) (hn : 2 * n < 2 ^ 31) (hk : k < n) : RM l yJ6_charAt cJ6_charAt 2 (some .char) 4 85 [.ref q, .int (nI k)] g E [(q, .inr (16, [.ref b, .int 1, .int hs, .int hz])), (b, .inl (g.2.2.1 1, (2 * n), .inl f))] (some (.int (utC f k))) := by
  refine RM.mk (by decide) (Nat.le_of_ble_eq_true rfl) ?_
  intro p e R s m args below meth c Q ls hX hP hE hS hl hQ
  obtain ⟨hx, hb, hr, hlk, hml, hown, hts, hRf, hRl⟩ := hX
  have hown : s.vm.findClass RJ6 = some m.cls := hown
  have hj := ho.2 _ _ _ hE
  have hK := hj.kn
  have hl : lv_has ls 2 [(0, .ref q), (1, .int (nI k))] := hl
  refine lv_aload_n hx hb dJ6_charAt_0 rfl (lv_at hl 0 rfl) ?_
  refine rcV (As := []) (rest := []) (st1 := [.int 0]) (jJ6_isLatin11 l g E ho q b hs hz) kJ6_isLatin1 q496 hx hb hml hown hts hRf hRl ho.1.1 hE hS (hP.sub [0] rfl) (va_recv hK hP (ci := 16) (q0 := 0) rfl rfl) ⟨Nat.zero_le _, Nat.zero_le _⟩ hl ⟨rfl, rfl⟩ rfl rfl (Nat.le_of_ble_eq_true rfl) rfl dJ6_charAt_1 ?_
  refine lv_if_eq (tgt := 16) hx hb dJ6_charAt_4 (by decide) (fun _ => ?_) (fun c => absurd c (by decide))
  refine lv_aload_n hx hb dJ6_charAt_16 rfl (lv_at hl 0 rfl) ?_
  refine va_get (D := gD g) (ci := 16) (v := .ref b) (C := RJ6) (T := TJ6) (N := 4) hx hb hts in_J6 hown hK hP 0 rfl rfl 0 (by decide) (hts _ q684) (fun _ h9 => h9) rfl dJ6_charAt_17 ?_
  refine lv_iload_n hx hb dJ6_charAt_20 rfl (lv_at hl 1 rfl) ?_
  refine rcS (As := [.ref b, .int (nI k)]) (rest := []) (st1 := [.int (utC f k)]) (jJ7_charAt l g E ho b n f k hn hk) kJ7_charAt q507 hx hb hml hown hts hRf hRl ho.1.1 hE hS (hP.sub [1] rfl) ⟨Nat.zero_le _, Nat.zero_le _⟩ hl ⟨rfl, rfl⟩ rfl rfl (Nat.le_of_ble_eq_true rfl) rfl dJ6_charAt_21 ?_
  exact hr_i hQ hx hb hr hlk (congrArg Value.int (h_char _)) (rfl) dJ6_charAt_24
