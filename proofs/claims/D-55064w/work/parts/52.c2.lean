/-! LISTS: reading -/
set_option maxRecDepth 100000
section JALD
variable {p : Program} {l : Launch} {e : Env} {R : Room} {s : State} {m : MethodId} {args : Array Value} {below : List Frame} {meth : Method} {c : Code} {H : Heap} {locs : List Loc} {cells slots : Nat} {Q : State → Prop}
variable {cc : ByteArray} {pc : Nat} {ls : Array Slot} {rest st0 st1 : List Value} {ws : va_W} {a : Nat} {D : va_G} {cl : List vw_C} {tys : List (ClassId × FieldType)}
theorem h_aldr (hx : p.tables.exec = Jvm.exec) (hb : c.code = cc) (hK : va_K D cl tys s) (hP : va_P D cl ws H) (q0 t0 : Nat) {cA : ClassId} {C : String} {n : Nat} {f : Nat → Option Nat} (ha : ws[q0]? = some (a, .inl (cA, n, .inr (.inr (.inr (.inr f)))))) (ht : tys[t0]? = some (cA, .object C)) {i : Int32} {k : Nat} (hi : i = nI k) (hk : k < n) (hn : n < 2 ^ 31) {v : Nat} (hf : f k = some v) (hdg : decode cc pc = .ok (.aaload, 1))
    (kk : W p l e R s m args below meth c H locs cells slots Q (F0 m (pc + 1) ls (.ref v :: rest))) : W p l e R s m args below meth c H locs cells slots Q (F0 m pc ls (.int i :: .ref a :: rest)) := by
  refine va_aldq hx hb hK hP q0 t0 ha ht (pk_in k n hk hi hn) hdg ?_
  rw [pk_cl k hi (Nat.lt_trans hk hn), hf]
  exact kk
end JALD

theorem kJ8_checkIndex : hkS yJ8_checkIndex cJ8_checkIndex 2 (some .int) 2 := ⟨q474, q80, q475, by decide +kernel⟩
set_option maxHeartbeats 4000000 in
theorem jJ8_checkIndex (l : Launch) (g : hG) (E : hEnv) (ho : jOk g E) (k : Nat) (mx : Nat) (hk : k < mx) (hm : mx < 2 ^ 31) : RM l yJ8_checkIndex cJ8_checkIndex 2 (some .int) 1 22 [.int (nI k), .int (nI mx)] g E [] (some (.int (nI k))) := by
  refine RM.mk (by decide) (Nat.le_of_ble_eq_true rfl) ?_
  intro p e R s m args below meth c Q ls hX hP hE hS hl hQ
  obtain ⟨hx, hb, hr, hlk, hml, hown, hts, hRf, hRl⟩ := hX
  have hown : s.vm.findClass RJ8 = some m.cls := hown
  have hj := ho.2 _ _ _ hE
  have hK := hj.kn
  have hl : lv_has ls 2 [(0, .int (nI k)), (1, .int (nI mx))] := hl
  refine lv_iload_n hx hb dJ8_checkIndex_0 rfl (lv_at hl 0 rfl) ?_
  refine lv_iload_n hx hb dJ8_checkIndex_1 rfl (lv_at hl 1 rfl) ?_
  refine lv_null hx hb dJ8_checkIndex_2 ?_
  refine rcS (As := [.int (nI k), .int (nI mx), .null]) (rest := []) (st1 := [.int (nI k)]) (jJ9_checkIndexN l g E ho k mx hk hm) kJ9_checkIndex q476 hx hb hml hown hts hRf hRl ho.1.1 hE hS (hP.sub [] rfl) ⟨Nat.zero_le _, Nat.zero_le _⟩ hl ⟨rfl, rfl⟩ rfl rfl (Nat.le_of_ble_eq_true rfl) rfl dJ8_checkIndex_3 ?_
  exact hr_i hQ hx hb hr hlk rfl (rfl) dJ8_checkIndex_6
-- J2_size: by interface alone
set_option maxHeartbeats 4000000 in
theorem jJ2_size (l : Launch) (g : hG) (E : hEnv) (ho : jOk g E) (L : Nat) (ea : Nat) (mo : Int32) (sz : Nat) : RM l yJ2_size cJ2_size 1 (some .int) 0 0 [.ref L] g E [(L, .inr (13, [.int mo, .ref ea, .int (nI sz)]))] (some (.int (nI sz))) := by
  refine RM.mk (by decide) (Nat.le_of_ble_eq_true rfl) ?_
  intro p e R s m args below meth c Q ls hX hP hE hS hl hQ
  obtain ⟨hx, hb, hr, hlk, hml, hown, hts, hRf, hRl⟩ := hX
  have hown : s.vm.findClass RJ2 = some m.cls := hown
  have hj := ho.2 _ _ _ hE
  have hK := hj.kn
  have hl : lv_has ls 1 [(0, .ref L)] := hl
  refine lv_aload_n hx hb dJ2_size_0 rfl (lv_at hl 0 rfl) ?_
  refine va_get (D := gD g) (ci := 13) (v := .int (nI sz)) (C := RJ2) (T := TJ2) (N := 3) hx hb hts in_J2 hown hK hP 0 rfl rfl 2 (by decide) (hts _ q152) (fun _ h9 => h9) rfl dJ2_size_1 ?_
  exact hr_i hQ hx hb hr hlk rfl (rfl) dJ2_size_4
-- J2_isEmpty: by interface alone
set_option maxHeartbeats 4000000 in
theorem jJ2_isEmpty (l : Launch) (g : hG) (E : hEnv) (ho : jOk g E) (L : Nat) (ea : Nat) (mo : Int32) (sz : Nat) (hsz : sz < 2 ^ 31) : RM l yJ2_isEmpty cJ2_isEmpty 1 (some .boolean) 0 0 [.ref L] g E [(L, .inr (13, [.int mo, .ref ea, .int (nI sz)]))] (some (.int (if sz = 0 then 1 else 0))) := by
  refine RM.mk (by decide) (Nat.le_of_ble_eq_true rfl) ?_
  intro p e R s m args below meth c Q ls hX hP hE hS hl hQ
  obtain ⟨hx, hb, hr, hlk, hml, hown, hts, hRf, hRl⟩ := hX
  have hown : s.vm.findClass RJ2 = some m.cls := hown
  have hj := ho.2 _ _ _ hE
  have hK := hj.kn
  have hl : lv_has ls 1 [(0, .ref L)] := hl
  refine lv_aload_n hx hb dJ2_isEmpty_0 rfl (lv_at hl 0 rfl) ?_
  refine va_get (D := gD g) (ci := 13) (v := .int (nI sz)) (C := RJ2) (T := TJ2) (N := 3) hx hb hts in_J2 hown hK hP 0 rfl rfl 2 (by decide) (hts _ q152) (fun _ h9 => h9) rfl dJ2_isEmpty_1 ?_
  refine lv_if_ne (tgt := 11) hx hb dJ2_isEmpty_4 (by decide) (fun c_1 => ?_) (fun c_1 => ?_)
  · refine lv_iconst (v := 0) hx hb dJ2_isEmpty_11 (by decide) ?_
    exact hr_i hQ hx hb hr hlk rfl (by first | (have z := (nI_eq (a := sz) (b := 0) hsz (by decide)).mp (by assumption); simp [z]; done) | (have z : ¬ sz = 0 := fun z => c_1 (congrArg nI z); simp [z]; done)) dJ2_isEmpty_12
  refine lv_iconst (v := 1) hx hb dJ2_isEmpty_7 (by decide) ?_
  refine lv_goto (tgt := 12) hx hb dJ2_isEmpty_8 (by decide) ?_
  exact hr_i hQ hx hb hr hlk rfl (by first | (have z := (nI_eq (a := sz) (b := 0) hsz (by decide)).mp (by assumption); simp [z]; done) | (have z : ¬ sz = 0 := fun z => c_1 (congrArg nI z); simp [z]; done)) dJ2_isEmpty_12
theorem kJ2_elementData : hkV RJ2 yJ2_elementData cJ2_elementData 2 (some (.object "java/lang/Object")) 1 := ⟨q480, q481, q72, q482, rfl, by decide +kernel⟩
set_option maxHeartbeats 4000000 in
theorem jJ2_elementData (l : Launch) (g : hG) (E : hEnv) (ho : jOk g E) (L : Nat) (ea : Nat) (mo : Int32) (sz : Nat) (cp : Nat) (f : Nat → Option Nat) (k : Nat) (v : Nat) (hk : k < sz) (hsz : sz ≤ cp) (hcp : cp < 2 ^ 31) (hv : f k = some v) : RM l yJ2_elementData cJ2_elementData 2 (some (.object "java/lang/Object")) 0 0 [.ref L, .int (nI k)] g E [(L, .inr (13, [.int mo, .ref ea, .int (nI sz)])), (ea, .inl (g.2.2.1 4, cp, .inr (.inr (.inr (.inr f)))))] (some (.ref v)) := by
  refine RM.mk (by decide) (Nat.le_of_ble_eq_true rfl) ?_
  intro p e R s m args below meth c Q ls hX hP hE hS hl hQ
  obtain ⟨hx, hb, hr, hlk, hml, hown, hts, hRf, hRl⟩ := hX
  have hown : s.vm.findClass RJ2 = some m.cls := hown
  have hj := ho.2 _ _ _ hE
  have hK := hj.kn
  have hl : lv_has ls 2 [(0, .ref L), (1, .int (nI k))] := hl
  refine lv_aload_n hx hb dJ2_elementData_0 rfl (lv_at hl 0 rfl) ?_
  refine va_get (D := gD g) (ci := 13) (v := .ref ea) (C := RJ2) (T := TJ2) (N := 3) hx hb hts in_J2 hown hK hP 0 rfl rfl 1 (by decide) (hts _ q149) (fun _ h9 => h9) rfl dJ2_elementData_1 ?_
  refine lv_iload_n hx hb dJ2_elementData_4 rfl (lv_at hl 1 rfl) ?_
  refine h_aldr (f := f) hx hb hK hP 1 4 rfl rfl (k := k) rfl (by omega) (by omega) (v := v) (hv) dJ2_elementData_5 ?_
  exact hr_a hQ hx hb hr hlk (Or.inl ⟨_, rfl⟩) (Or.inr ⟨_, rfl⟩) rfl dJ2_elementData_6
-- J2_get: by interface alone
set_option maxHeartbeats 4000000 in
theorem jJ2_get (l : Launch) (g : hG) (E : hEnv) (ho : jOk g E) (L : Nat) (ea : Nat) (mo : Int32) (sz : Nat) (cp : Nat) (f : Nat → Option Nat) (k : Nat) (v : Nat) (hk : k < sz) (hsz : sz ≤ cp) (hcp : cp < 2 ^ 31) (hv : f k = some v) : RM l yJ2_get cJ2_get 2 (some (.object "java/lang/Object")) 2 43 [.ref L, .int (nI k)] g E [(L, .inr (13, [.int mo, .ref ea, .int (nI sz)])), (ea, .inl (g.2.2.1 4, cp, .inr (.inr (.inr (.inr f)))))] (some (.ref v)) := by
  refine RM.mk (by decide) (Nat.le_of_ble_eq_true rfl) ?_
  intro p e R s m args below meth c Q ls hX hP hE hS hl hQ
  obtain ⟨hx, hb, hr, hlk, hml, hown, hts, hRf, hRl⟩ := hX
  have hown : s.vm.findClass RJ2 = some m.cls := hown
  have hj := ho.2 _ _ _ hE
  have hK := hj.kn
  have hl : lv_has ls 2 [(0, .ref L), (1, .int (nI k))] := hl
  refine lv_iload_n hx hb dJ2_get_0 rfl (lv_at hl 1 rfl) ?_
  refine lv_aload_n hx hb dJ2_get_1 rfl (lv_at hl 0 rfl) ?_
  refine va_get (D := gD g) (ci := 13) (v := .int (nI sz)) (C := RJ2) (T := TJ2) (N := 3) hx hb hts in_J2 hown hK hP 0 rfl rfl 2 (by decide) (hts _ q152) (fun _ h9 => h9) rfl dJ2_get_2 ?_
  refine rcS (As := [.int (nI k), .int (nI sz)]) (rest := []) (st1 := [.int (nI k)]) (jJ8_checkIndex l g E ho k sz hk (by omega)) kJ8_checkIndex q473 hx hb hml hown hts hRf hRl ho.1.1 hE hS (hP.sub [] rfl) ⟨Nat.zero_le _, Nat.zero_le _⟩ hl ⟨rfl, rfl⟩ rfl rfl (Nat.le_of_ble_eq_true rfl) rfl dJ2_get_5 ?_
  refine lv_pop hx hb dJ2_get_8 rfl ?_
  refine lv_aload_n hx hb dJ2_get_9 rfl (lv_at hl 0 rfl) ?_
  refine lv_iload_n hx hb dJ2_get_10 rfl (lv_at hl 1 rfl) ?_
  refine rcV (As := [.int (nI k)]) (rest := []) (st1 := [.ref v]) (jJ2_elementData l g E ho L ea mo sz cp f k v hk hsz hcp hv) kJ2_elementData q479 hx hb hml hown hts hRf hRl ho.1.1 hE hS (hP.sub [0, 1] rfl) (va_recv hK hP (ci := 13) (q0 := 0) rfl rfl) ⟨Nat.zero_le _, Nat.zero_le _⟩ hl ⟨rfl, rfl⟩ rfl rfl (Nat.le_of_ble_eq_true rfl) rfl dJ2_get_11 ?_
  exact hr_a hQ hx hb hr hlk (Or.inl ⟨_, rfl⟩) (Or.inr ⟨_, rfl⟩) rfl dJ2_get_14
