/-! QUEUES; what is required -/
set_option maxRecDepth 100000
theorem dqDecT {i : Nat} (hi : i < 17) (h : 0 ≤ nI i + (-1)) : nI i + (-1) = nI ((i + 16) % 17) := (by decide : ∀ i : Fin 17, 0 ≤ nI i + (-1) → nI i + (-1) = nI ((i + 16) % 17)) ⟨i, hi⟩ h
theorem dqDecF {i : Nat} (hi : i < 17) (h : ¬ 0 ≤ nI i + (-1)) : (17 : Int32) - 1 = nI ((i + 16) % 17) := (by decide : ∀ i : Fin 17, ¬ 0 ≤ nI i + (-1) → (17 : Int32) - 1 = nI ((i + 16) % 17)) ⟨i, hi⟩ h
theorem dqSubT {t k : Nat} (ht : t < 17) (hk : k < 17) (h : 0 ≤ nI t - nI k) : nI t - nI k = nI ((t + 17 - k) % 17) := (by decide : ∀ t k : Fin 17, 0 ≤ nI t - nI k → nI t - nI k = nI ((t + 17 - k) % 17)) ⟨t, ht⟩ ⟨k, hk⟩ h
theorem dqSubF {t k : Nat} (ht : t < 17) (hk : k < 17) (h : ¬ 0 ≤ nI t - nI k) : nI t - nI k + 17 = nI ((t + 17 - k) % 17) := (by decide : ∀ t k : Fin 17, ¬ 0 ≤ nI t - nI k → nI t - nI k + 17 = nI ((t + 17 - k) % 17)) ⟨t, ht⟩ ⟨k, hk⟩ h
/-- a queue of n things a, its head at the place h -/
def dqOk (h n : Nat) (f : Nat → Option Nat) (a : Nat → Nat) : Prop := h < 17 ∧ n ≤ 8 ∧ ∀ i, i < n → f ((h + i) % 17) = some (a i)
/-- one more, at most 8 -/
def remN (n : Nat) : Nat := if n = 8 then 8 else n + 1
def remA (n : Nat) (a : Nat → Nat) (v : Nat) : Nat → Nat := if n = 8 then va_up (fun i => a (i + 1)) 7 v else va_up a n v

theorem kJ3_inc : hkS yJ3_inc cJ3_inc 2 (some .int) 2 := ⟨q1296, q73, q1297, by decide +kernel⟩
set_option maxHeartbeats 4000000 in
theorem jJ3_inc (l : Launch) (g : hG) (E : hEnv) (ho : jOk g E) (i : Nat) (hi : i < 17) : RM l yJ3_inc cJ3_inc 2 (some .int) 0 0 [.int (nI i), .int 17] g E [] (some (.int (nI ((i + 1) % 17)))) := by
  refine RM.mk (by decide) (Nat.le_of_ble_eq_true rfl) ?_
  intro p e R s m args below meth c Q ls hX hP hE hS hl hQ
  obtain ⟨hx, hb, hr, hlk, hml, hown, hts, hRf, hRl⟩ := hX
  have hown : s.vm.findClass RJ3 = some m.cls := hown
  have hj := ho.2 _ _ _ hE
  have hK := hj.kn
  have hl : lv_has ls 2 [(0, .int (nI i)), (1, .int 17)] := hl
  refine lv_iinc (v := nI (i + 1)) (lv' := [(0, .int (nI (i + 1))), (1, .int 17)]) hx hb dJ3_inc_0 hl (k := 0) rfl (h_ninc (a := i) (k := 1) (rfl)) (by decide) rfl (fun ls hl => ?_)
  refine lv_iload_n hx hb dJ3_inc_3 rfl (lv_at hl 0 rfl) ?_
  refine lv_iload_n hx hb dJ3_inc_4 rfl (lv_at hl 1 rfl) ?_
  refine lv_icmp_lt (tgt := 10) hx hb dJ3_inc_5 (by decide) (fun c_1 => ?_) (fun c_1 => ?_)
  · refine lv_iload_n hx hb dJ3_inc_10 rfl (lv_at hl 0 rfl) ?_
    exact hr_i hQ hx hb hr hlk rfl (congrArg (fun z => some (Value.int z)) (congrArg nI (by have z := (nI_ltI (a := i + 1) (b := 17) (by omega) (by decide)).mp c_1; omega))) dJ3_inc_11
  refine lv_iconst (v := 0) hx hb dJ3_inc_8 (by decide) ?_
  refine lv_istore_n (lv' := [(0, .int 0), (1, .int 17)]) hx hb dJ3_inc_9 rfl hl (by decide) rfl (fun ls hl => ?_)
  refine lv_iload_n hx hb dJ3_inc_10 rfl (lv_at hl 0 rfl) ?_
  exact hr_i hQ hx hb hr hlk rfl (congrArg (fun z => some (Value.int z)) ((show nI ((i + 1) % 17) = (0 : Int32) by have z : ¬ i + 1 < 17 := fun z9 => c_1 ((nI_ltI (a := i + 1) (b := 17) (by omega) (by decide)).mpr z9); rw [show (i + 1) % 17 = 0 by omega]; rfl))) dJ3_inc_11
theorem kJ3_dec : hkS yJ3_dec cJ3_dec 2 (some .int) 2 := ⟨q2278, q73, q2279, by decide +kernel⟩
set_option maxHeartbeats 4000000 in
theorem jJ3_dec (l : Launch) (g : hG) (E : hEnv) (ho : jOk g E) (i : Nat) (hi : i < 17) : RM l yJ3_dec cJ3_dec 2 (some .int) 0 0 [.int (nI i), .int 17] g E [] (some (.int (nI ((i + 16) % 17)))) := by
  refine RM.mk (by decide) (Nat.le_of_ble_eq_true rfl) ?_
  intro p e R s m args below meth c Q ls hX hP hE hS hl hQ
  obtain ⟨hx, hb, hr, hlk, hml, hown, hts, hRf, hRl⟩ := hX
  have hown : s.vm.findClass RJ3 = some m.cls := hown
  have hj := ho.2 _ _ _ hE
  have hK := hj.kn
  have hl : lv_has ls 2 [(0, .int (nI i)), (1, .int 17)] := hl
  refine lv_iinc (v := (nI i) + (-1)) (lv' := [(0, .int ((nI i) + (-1))), (1, .int 17)]) hx hb dJ3_dec_0 hl (k := 0) rfl (rfl) (by decide) rfl (fun ls hl => ?_)
  refine lv_iload_n hx hb dJ3_dec_3 rfl (lv_at hl 0 rfl) ?_
  refine lv_if_ge (tgt := 11) hx hb dJ3_dec_4 (by decide) (fun c_1 => ?_) (fun c_1 => ?_)
  · refine lv_iload_n hx hb dJ3_dec_11 rfl (lv_at hl 0 rfl) ?_
    exact hr_i hQ hx hb hr hlk rfl (congrArg (fun z => some (Value.int z)) ((dqDecT hi c_1).symm)) dJ3_dec_12
  refine lv_iload_n hx hb dJ3_dec_7 rfl (lv_at hl 1 rfl) ?_
  refine lv_iconst (v := 1) hx hb dJ3_dec_8 (by decide) ?_
  refine lv_isub hx hb dJ3_dec_9 ?_
  refine lv_istore_n (lv' := [(0, .int (17 - 1)), (1, .int 17)]) hx hb dJ3_dec_10 rfl hl (by decide) rfl (fun ls hl => ?_)
  refine lv_iload_n hx hb dJ3_dec_11 rfl (lv_at hl 0 rfl) ?_
  exact hr_i hQ hx hb hr hlk rfl (congrArg (fun z => some (Value.int z)) ((dqDecF hi c_1).symm)) dJ3_dec_12
theorem kJ3_sub : hkS yJ3_sub cJ3_sub 3 (some .int) 3 := ⟨q1277, q73, q1278, by decide +kernel⟩
set_option maxHeartbeats 4000000 in
theorem jJ3_sub (l : Launch) (g : hG) (E : hEnv) (ho : jOk g E) (t : Nat) (h : Nat) (ht : t < 17) (hh : h < 17) : RM l yJ3_sub cJ3_sub 3 (some .int) 0 0 [.int (nI t), .int (nI h), .int 17] g E [] (some (.int (nI ((t + 17 - h) % 17)))) := by
  refine RM.mk (by decide) (Nat.le_of_ble_eq_true rfl) ?_
  intro p e R s m args below meth c Q ls hX hP hE hS hl hQ
  obtain ⟨hx, hb, hr, hlk, hml, hown, hts, hRf, hRl⟩ := hX
  have hown : s.vm.findClass RJ3 = some m.cls := hown
  have hj := ho.2 _ _ _ hE
  have hK := hj.kn
  have hl : lv_has ls 3 [(0, .int (nI t)), (1, .int (nI h)), (2, .int 17)] := hl
  refine lv_iload_n hx hb dJ3_sub_0 rfl (lv_at hl 0 rfl) ?_
  refine lv_iload_n hx hb dJ3_sub_1 rfl (lv_at hl 1 rfl) ?_
  refine lv_isub hx hb dJ3_sub_2 ?_
  refine lv_dup hx hb dJ3_sub_3 rfl ?_
  refine lv_istore_n (lv' := [(0, .int ((nI t) - (nI h))), (1, .int (nI h)), (2, .int 17)]) hx hb dJ3_sub_4 rfl hl (by decide) rfl (fun ls hl => ?_)
  refine lv_if_ge (tgt := 12) hx hb dJ3_sub_5 (by decide) (fun c_1 => ?_) (fun c_1 => ?_)
  · refine lv_iload_n hx hb dJ3_sub_12 rfl (lv_at hl 0 rfl) ?_
    exact hr_i hQ hx hb hr hlk rfl (congrArg (fun z => some (Value.int z)) ((dqSubT ht hh c_1).symm)) dJ3_sub_13
  refine lv_iload_n hx hb dJ3_sub_8 rfl (lv_at hl 0 rfl) ?_
  refine lv_iload_n hx hb dJ3_sub_9 rfl (lv_at hl 2 rfl) ?_
  refine lv_iadd hx hb dJ3_sub_10 ?_
  refine lv_istore_n (lv' := [(0, .int (((nI t) - (nI h)) + 17)), (1, .int (nI h)), (2, .int 17)]) hx hb dJ3_sub_11 rfl hl (by decide) rfl (fun ls hl => ?_)
  refine lv_iload_n hx hb dJ3_sub_12 rfl (lv_at hl 0 rfl) ?_
  exact hr_i hQ hx hb hr hlk rfl (congrArg (fun z => some (Value.int z)) ((dqSubF ht hh c_1).symm)) dJ3_sub_13
theorem kJ3_elementAt : hkS yJ3_elementAt cJ3_elementAt 2 (some (.object "java/lang/Object")) 2 := ⟨q1293, q73, q1294, by decide +kernel⟩
set_option maxHeartbeats 4000000 in
theorem jJ3_elementAt (l : Launch) (g : hG) (E : hEnv) (ho : jOk g E) (ea : Nat) (i : Nat) (v : Nat) (f : Nat → Option Nat) (hi : i < 17) (hf : f i = some v) : RM l yJ3_elementAt cJ3_elementAt 2 (some (.object "java/lang/Object")) 0 0 [.ref ea, .int (nI i)] g E [(ea, .inl (g.2.2.1 4, 17, .inr (.inr (.inr (.inr f)))))] (some (.ref v)) := by
  refine RM.mk (by decide) (Nat.le_of_ble_eq_true rfl) ?_
  intro p e R s m args below meth c Q ls hX hP hE hS hl hQ
  obtain ⟨hx, hb, hr, hlk, hml, hown, hts, hRf, hRl⟩ := hX
  have hown : s.vm.findClass RJ3 = some m.cls := hown
  have hj := ho.2 _ _ _ hE
  have hK := hj.kn
  have hl : lv_has ls 2 [(0, .ref ea), (1, .int (nI i))] := hl
  refine lv_aload_n hx hb dJ3_elementAt_0 rfl (lv_at hl 0 rfl) ?_
  refine lv_iload_n hx hb dJ3_elementAt_1 rfl (lv_at hl 1 rfl) ?_
  refine h_aldr (f := f) hx hb hK hP 0 4 rfl rfl (k := i) rfl (by omega) (by omega) (v := v) (hf) dJ3_elementAt_2 ?_
  exact hr_a hQ hx hb hr hlk (Or.inl ⟨_, rfl⟩) (Or.inr ⟨_, rfl⟩) rfl dJ3_elementAt_3
theorem kJ3_size : hkV RJ3 yJ3_size cJ3_size 1 (some .int) 0 := ⟨q1273, q2759, q73, q1275, rfl, by decide +kernel⟩
set_option maxHeartbeats 4000000 in
theorem jJ3_size (l : Launch) (g : hG) (E : hEnv) (ho : jOk g E) (dq : Nat) (ea : Nat) (h : Nat) (t : Nat) (f : Nat → Option Nat) (n : Nat) (hh : h < 17) (ht : t < 17) (hn : (t + 17 - h) % 17 = n) : RM l yJ3_size cJ3_size 1 (some .int) 1 22 [.ref dq] g E [(dq, .inr (14, [.ref ea, .int (nI h), .int (nI t)])), (ea, .inl (g.2.2.1 4, 17, .inr (.inr (.inr (.inr f)))))] (some (.int (nI n))) := by
  refine RM.mk (by decide) (Nat.le_of_ble_eq_true rfl) ?_
  intro p e R s m args below meth c Q ls hX hP hE hS hl hQ
  obtain ⟨hx, hb, hr, hlk, hml, hown, hts, hRf, hRl⟩ := hX
  have hown : s.vm.findClass RJ3 = some m.cls := hown
  have hj := ho.2 _ _ _ hE
  have hK := hj.kn
  have hl : lv_has ls 1 [(0, .ref dq)] := hl
  refine lv_aload_n hx hb dJ3_size_0 rfl (lv_at hl 0 rfl) ?_
  refine va_get (D := gD g) (ci := 14) (v := .int (nI t)) (C := RJ3) (T := TJ3) (N := 3) hx hb hts in_J3 hown hK hP 0 rfl rfl 2 (by decide) (hts _ q243) (fun _ h9 => h9) rfl dJ3_size_1 ?_
  refine lv_aload_n hx hb dJ3_size_4 rfl (lv_at hl 0 rfl) ?_
  refine va_get (D := gD g) (ci := 14) (v := .int (nI h)) (C := RJ3) (T := TJ3) (N := 3) hx hb hts in_J3 hown hK hP 0 rfl rfl 1 (by decide) (hts _ q242) (fun _ h9 => h9) rfl dJ3_size_5 ?_
  refine lv_aload_n hx hb dJ3_size_8 rfl (lv_at hl 0 rfl) ?_
  refine va_get (D := gD g) (ci := 14) (v := .ref ea) (C := RJ3) (T := TJ3) (N := 3) hx hb hts in_J3 hown hK hP 0 rfl rfl 0 (by decide) (hts _ q239) (fun _ h9 => h9) rfl dJ3_size_9 ?_
  refine va_alen (v := 17) hx hb hK hP 1 4 rfl rfl rfl dJ3_size_12 ?_
  refine rcS (As := [.int (nI t), .int (nI h), .int 17]) (rest := []) (st1 := [.int (nI ((t + 17 - h) % 17))]) (jJ3_sub l g E ho t h ht hh) kJ3_sub q1276 hx hb hml hown hts hRf hRl ho.1.1 hE hS (hP.sub [] rfl) ⟨Nat.zero_le _, Nat.zero_le _⟩ hl ⟨rfl, rfl⟩ rfl rfl (Nat.le_of_ble_eq_true rfl) rfl dJ3_size_13 ?_
  exact hr_i hQ hx hb hr hlk rfl (congrArg (fun z => some (Value.int z)) (congrArg nI hn.symm)) dJ3_size_16
-- J3_isEmpty: by interface alone
set_option maxHeartbeats 4000000 in
theorem jJ3_isEmpty (l : Launch) (g : hG) (E : hEnv) (ho : jOk g E) (dq : Nat) (ea : Nat) (h : Nat) (t : Nat) (f : Nat → Option Nat) (n : Nat) (hh : h < 17) (ht : t < 17) (hn : (t + 17 - h) % 17 = n) : RM l yJ3_isEmpty cJ3_isEmpty 1 (some .boolean) 0 0 [.ref dq] g E [(dq, .inr (14, [.ref ea, .int (nI h), .int (nI t)]))] (some (.int (if n = 0 then 1 else 0))) := by
  refine RM.mk (by decide) (Nat.le_of_ble_eq_true rfl) ?_
  intro p e R s m args below meth c Q ls hX hP hE hS hl hQ
  obtain ⟨hx, hb, hr, hlk, hml, hown, hts, hRf, hRl⟩ := hX
  have hown : s.vm.findClass RJ3 = some m.cls := hown
  have hj := ho.2 _ _ _ hE
  have hK := hj.kn
  have hl : lv_has ls 1 [(0, .ref dq)] := hl
  refine lv_aload_n hx hb dJ3_isEmpty_0 rfl (lv_at hl 0 rfl) ?_
  refine va_get (D := gD g) (ci := 14) (v := .int (nI h)) (C := RJ3) (T := TJ3) (N := 3) hx hb hts in_J3 hown hK hP 0 rfl rfl 1 (by decide) (hts _ q242) (fun _ h9 => h9) rfl dJ3_isEmpty_1 ?_
  refine lv_aload_n hx hb dJ3_isEmpty_4 rfl (lv_at hl 0 rfl) ?_
  refine va_get (D := gD g) (ci := 14) (v := .int (nI t)) (C := RJ3) (T := TJ3) (N := 3) hx hb hts in_J3 hown hK hP 0 rfl rfl 2 (by decide) (hts _ q243) (fun _ h9 => h9) rfl dJ3_isEmpty_5 ?_
  refine lv_icmp_ne (tgt := 15) hx hb dJ3_isEmpty_8 (by decide) (fun c_1 => ?_) (fun c_1 => ?_)
  · refine lv_iconst (v := 0) hx hb dJ3_isEmpty_15 (by decide) ?_
    exact hr_i hQ hx hb hr hlk rfl (congrArg (fun z => some (Value.int z)) (if_neg (fun z => c_1 (congrArg nI (show h = t by omega))))) dJ3_isEmpty_16
  refine lv_iconst (v := 1) hx hb dJ3_isEmpty_11 (by decide) ?_
  refine lv_goto (tgt := 16) hx hb dJ3_isEmpty_12 (by decide) ?_
  exact hr_i hQ hx hb hr hlk rfl (congrArg (fun z => some (Value.int z)) (if_pos (by have z := (nI_eq (by omega) (by omega)).mp c_1; omega))) dJ3_isEmpty_16
theorem kJ3_pollFirst : hkV RJ3 yJ3_pollFirst cJ3_pollFirst 4 (some (.object "java/lang/Object")) 0 := ⟨q1289, q1290, q73, q1291, rfl, by decide +kernel⟩
set_option maxHeartbeats 4000000 in
theorem jJ3_pollFirst (l : Launch) (g : hG) (E : hEnv) (ho : jOk g E) (dq : Nat) (ea : Nat) (h : Nat) (t : Nat) (f : Nat → Option Nat) (v : Nat) (hh : h < 17) (ht : t < 17) (hf : f h = some v) : MM l yJ3_pollFirst cJ3_pollFirst 4 (some (.object "java/lang/Object")) 1 21 0 0 [.ref dq] g E [(dq, .inr (14, [.ref ea, .int (nI h), .int (nI t)])), (ea, .inl (g.2.2.1 4, 17, .inr (.inr (.inr (.inr f)))))] (S := Unit) (fun _ => (some (.ref v))) (fun _ => True) (fun _ => [(dq, .inr (14, [.ref ea, .int (nI ((h + 1) % 17)), .int (nI t)])), (ea, .inl (g.2.2.1 4, 17, .inr (.inr (.inr (.inr (va_up f h none))))))]) := by
  refine MM.mk (by decide) (Nat.le_of_ble_eq_true rfl) ?_
  intro p e R s m args below meth c Q A H locs ls hX hRc hRs hP hD hE hS hA hnm hl hQ
  obtain ⟨hx, hb, hr, hlk, hml, hown, hts, hRf, hRl⟩ := hX
  have hown : s.vm.findClass RJ3 = some m.cls := hown
  have hj := ho.2 _ _ _ hE
  have hK := hj.kn
  have hl : lv_has ls 4 [(0, .ref dq)] := hl
  refine lv_aload_n hx hb dJ3_pollFirst_0 rfl (lv_at hl 0 rfl) ?_
  refine va_get (D := gD g) (ci := 14) (v := .ref ea) (C := RJ3) (T := TJ3) (N := 3) hx hb hts in_J3 hown hK hP 0 rfl rfl 0 (by decide) (hts _ q239) (fun _ h9 => h9) rfl dJ3_pollFirst_1 ?_
  refine lv_dup hx hb dJ3_pollFirst_4 rfl ?_
  refine lv_astore_n (lv' := [(1, .ref ea), (0, .ref dq)]) hx hb dJ3_pollFirst_5 rfl hl (by decide) rfl (fun ls hl => ?_)
  refine lv_aload_n hx hb dJ3_pollFirst_6 rfl (lv_at hl 1 rfl) ?_
  refine va_get (D := gD g) (ci := 14) (v := .int (nI h)) (C := RJ3) (T := TJ3) (N := 3) hx hb hts in_J3 hown hK hP 0 rfl rfl 1 (by decide) (hts _ q242) (fun _ h9 => h9) rfl dJ3_pollFirst_7 ?_
  refine lv_dup hx hb dJ3_pollFirst_10 rfl ?_
  refine lv_istore_n (lv' := [(2, .int (nI h)), (1, .ref ea), (0, .ref dq)]) hx hb dJ3_pollFirst_11 rfl hl (by decide) rfl (fun ls hl => ?_)
  refine rcS (As := [.ref ea, .int (nI h)]) (rest := []) (st1 := [.ref v]) (jJ3_elementAt l g E ho ea h v f (by omega) hf) kJ3_elementAt q1292 hx hb hml hown hts hRf hRl ho.1.1 hE hS (hP.sub [1] rfl) ⟨Nat.le_trans (by decide) hRc, Nat.le_trans (by decide) hRs⟩ hl ⟨rfl, rfl⟩ rfl rfl (Nat.le_of_ble_eq_true rfl) rfl dJ3_pollFirst_12 ?_
  refine lv_astore_n (lv' := [(3, .ref v), (2, .int (nI h)), (1, .ref ea), (0, .ref dq)]) hx hb dJ3_pollFirst_15 rfl hl (by decide) rfl (fun ls hl => ?_)
  refine lv_aload_n hx hb dJ3_pollFirst_16 rfl (lv_at hl 0 rfl) ?_
  refine lv_ifnull hx hb dJ3_pollFirst_17 ?_
  refine lv_aload_n hx hb dJ3_pollFirst_20 rfl (lv_at hl 2 rfl) ?_
  refine lv_iload_n hx hb dJ3_pollFirst_21 rfl (lv_at hl 1 rfl) ?_
  refine lv_null hx hb dJ3_pollFirst_22 ?_
  refine h_astn (f := f) hx hb hK hP hD hS 1 4 rfl rfl (k := h) rfl (by omega) (by omega) dJ3_pollFirst_23 (fun H locs hP hD hS => ?_)
  have hP : va_P (gD g) Cl [(dq, .inr (14, [.ref ea, .int (nI h), .int (nI t)])), (ea, .inl (g.2.2.1 4, 17, .inr (.inr (.inr (.inr (va_up f h none))))))] H := hP
  have hD : va_D A [(dq, .inr (14, [.ref ea, .int (nI h), .int (nI t)])), (ea, .inl (g.2.2.1 4, 17, .inr (.inr (.inr (.inr (va_up f h none))))))] := hD
  refine lv_aload_n hx hb dJ3_pollFirst_24 rfl (lv_at hl 3 rfl) ?_
  refine lv_iload_n hx hb dJ3_pollFirst_25 rfl (lv_at hl 1 rfl) ?_
  refine lv_aload_n hx hb dJ3_pollFirst_26 rfl (lv_at hl 2 rfl) ?_
  refine va_alen (v := 17) hx hb hK hP 1 4 rfl rfl rfl dJ3_pollFirst_27 ?_
  refine rcS (As := [.int (nI h), .int 17]) (rest := [.ref dq]) (st1 := [.int (nI ((h + 1) % 17)), .ref dq]) (jJ3_inc l g E ho h (by omega)) kJ3_inc q1295 hx hb hml hown hts hRf hRl ho.1.1 hE hS (hP.sub [] rfl) ⟨Nat.le_trans (by decide) hRc, Nat.le_trans (by decide) hRs⟩ hl ⟨rfl, rfl⟩ rfl rfl (Nat.le_of_ble_eq_true rfl) rfl dJ3_pollFirst_28 ?_
  refine va_put (D := gD g) (ci := 14) (v := .int (nI ((h + 1) % 17))) (ty := .int) (C := RJ3) (T := TJ3) (N := 3) hx hb hts in_J3 tyJ3 tyJ3_ok nmJ3 hown hK hP hD hS 0 rfl rfl 1 (by decide) (hts _ q242) (fun _ h9 => h9) rfl (by decide +kernel) rfl rfl (Nat.le_of_ble_eq_true rfl) dJ3_pollFirst_31 (fun H locs hP hD hS => ?_)
  have hP : va_P (gD g) Cl [(dq, .inr (14, [.ref ea, .int (nI ((h + 1) % 17)), .int (nI t)])), (ea, .inl (g.2.2.1 4, 17, .inr (.inr (.inr (.inr (va_up f h none))))))] H := hP
  have hD : va_D A [(dq, .inr (14, [.ref ea, .int (nI ((h + 1) % 17)), .int (nI t)])), (ea, .inl (g.2.2.1 4, 17, .inr (.inr (.inr (.inr (va_up f h none))))))] := hD
  refine lv_aload_n hx hb dJ3_pollFirst_34 rfl (lv_at hl 0 rfl) ?_
  exact hm_a hQ hx hb hr hlk (Or.inl ⟨_, rfl⟩) (Or.inr ⟨_, rfl⟩) () rfl (trivial) hP hD hS (by decide) (by decide) dJ3_pollFirst_35
-- J3_removeFirst: by interface alone
set_option maxHeartbeats 4000000 in
theorem jJ3_removeFirst (l : Launch) (g : hG) (E : hEnv) (ho : jOk g E) (dq : Nat) (ea : Nat) (h : Nat) (t : Nat) (f : Nat → Option Nat) (v : Nat) (hh : h < 17) (ht : t < 17) (hf : f h = some v) : MM l yJ3_removeFirst cJ3_removeFirst 2 (some (.object "java/lang/Object")) 2 44 0 0 [.ref dq] g E [(dq, .inr (14, [.ref ea, .int (nI h), .int (nI t)])), (ea, .inl (g.2.2.1 4, 17, .inr (.inr (.inr (.inr f)))))] (S := Unit) (fun _ => (some (.ref v))) (fun _ => True) (fun _ => [(dq, .inr (14, [.ref ea, .int (nI ((h + 1) % 17)), .int (nI t)])), (ea, .inl (g.2.2.1 4, 17, .inr (.inr (.inr (.inr (va_up f h none))))))]) := by
  refine MM.mk (by decide) (Nat.le_of_ble_eq_true rfl) ?_
  intro p e R s m args below meth c Q A H locs ls hX hRc hRs hP hD hE hS hA hnm hl hQ
  obtain ⟨hx, hb, hr, hlk, hml, hown, hts, hRf, hRl⟩ := hX
  have hown : s.vm.findClass RJ3 = some m.cls := hown
  have hj := ho.2 _ _ _ hE
  have hK := hj.kn
  have hl : lv_has ls 2 [(0, .ref dq)] := hl
  refine lv_aload_n hx hb dJ3_removeFirst_0 rfl (lv_at hl 0 rfl) ?_
  have hrv9 := (va_recv hK hP (ci := 14) (q0 := 0) rfl rfl)
  have hP := sg_P2e [[(dq, .inr (14, [.ref ea, .int (nI h), .int (nI t)]))], [(ea, .inl (g.2.2.1 4, 17, .inr (.inr (.inr (.inr f)))))]] [[(dq, .inr (14, [.ref ea, .int (nI h), .int (nI t)]))], [(ea, .inl (g.2.2.1 4, 17, .inr (.inr (.inr (.inr f)))))]] [] ((dq, .inr (14, [.ref ea, .int (nI h), .int (nI t)])) :: ((ea, .inl (g.2.2.1 4, 17, .inr (.inr (.inr (.inr f))))) :: [])) [] rfl rfl [0, 1] rfl hP
  have hD := sg_D2e [[(dq, .inr (14, [.ref ea, .int (nI h), .int (nI t)]))], [(ea, .inl (g.2.2.1 4, 17, .inr (.inr (.inr (.inr f)))))]] [[(dq, .inr (14, [.ref ea, .int (nI h), .int (nI t)]))], [(ea, .inl (g.2.2.1 4, 17, .inr (.inr (.inr (.inr f)))))]] [] ((dq, .inr (14, [.ref ea, .int (nI h), .int (nI t)])) :: ((ea, .inl (g.2.2.1 4, 17, .inr (.inr (.inr (.inr f))))) :: [])) [] rfl rfl [0, 1] rfl (by decide) hD
  refine mcVA (As := []) (rest := []) (wr := []) (jJ3_pollFirst l g E ho dq ea h t f v hh ht hf) kJ3_pollFirst q1288 hx hb hml hown hts hRf hRl ho.1.1 hE hS hP hD hA ⟨Nat.le_trans (by decide) hRc, Nat.le_trans (by decide) hRs⟩ hrv9 hl ⟨rfl, rfl⟩ rfl rfl (Nat.le_of_ble_eq_true rfl) dJ3_removeFirst_1 (fun _ H locs _ hP hD hS _ _ => ?_)
  have hP : va_P (gD g) Cl [(dq, .inr (14, [.ref ea, .int (nI ((h + 1) % 17)), .int (nI t)])), (ea, .inl (g.2.2.1 4, 17, .inr (.inr (.inr (.inr (va_up f h none))))))] H := sg_P3e [] [[(dq, .inr (14, [.ref ea, .int (nI ((h + 1) % 17)), .int (nI t)]))], [(ea, .inl (g.2.2.1 4, 17, .inr (.inr (.inr (.inr (va_up f h none))))))]] [[(dq, .inr (14, [.ref ea, .int (nI ((h + 1) % 17)), .int (nI t)]))], [(ea, .inl (g.2.2.1 4, 17, .inr (.inr (.inr (.inr (va_up f h none))))))]] rfl rfl [0, 1] rfl hP
  have hD : va_D A [(dq, .inr (14, [.ref ea, .int (nI ((h + 1) % 17)), .int (nI t)])), (ea, .inl (g.2.2.1 4, 17, .inr (.inr (.inr (.inr (va_up f h none))))))] := sg_D3e [] [[(dq, .inr (14, [.ref ea, .int (nI ((h + 1) % 17)), .int (nI t)]))], [(ea, .inl (g.2.2.1 4, 17, .inr (.inr (.inr (.inr (va_up f h none))))))]] [[(dq, .inr (14, [.ref ea, .int (nI ((h + 1) % 17)), .int (nI t)]))], [(ea, .inl (g.2.2.1 4, 17, .inr (.inr (.inr (.inr (va_up f h none))))))]] rfl rfl [0, 1] rfl (by decide) hD
  refine lv_astore_n (lv' := [(1, .ref v), (0, .ref dq)]) hx hb dJ3_removeFirst_4 rfl hl (by decide) rfl (fun ls hl => ?_)
  refine lv_aload_n hx hb dJ3_removeFirst_5 rfl (lv_at hl 0 rfl) ?_
  refine lv_ifnonnull (tgt := 17) hx hb dJ3_removeFirst_6 (by decide) ?_
  refine lv_aload_n hx hb dJ3_removeFirst_17 rfl (lv_at hl 0 rfl) ?_
  exact hm_a hQ hx hb hr hlk (Or.inl ⟨_, rfl⟩) (Or.inr ⟨_, rfl⟩) () rfl (trivial) hP hD hS (by decide) (by decide) dJ3_removeFirst_18
theorem kJ3_pollLast : hkV RJ3 yJ3_pollLast cJ3_pollLast 4 (some (.object "java/lang/Object")) 0 := ⟨q2274, q2275, q73, q2276, rfl, by decide +kernel⟩
set_option maxHeartbeats 4000000 in
theorem jJ3_pollLast (l : Launch) (g : hG) (E : hEnv) (ho : jOk g E) (dq : Nat) (ea : Nat) (h : Nat) (t : Nat) (f : Nat → Option Nat) (v : Nat) (hh : h < 17) (ht : t < 17) (hf : f ((t + 16) % 17) = some v) : MM l yJ3_pollLast cJ3_pollLast 4 (some (.object "java/lang/Object")) 1 21 0 0 [.ref dq] g E [(dq, .inr (14, [.ref ea, .int (nI h), .int (nI t)])), (ea, .inl (g.2.2.1 4, 17, .inr (.inr (.inr (.inr f)))))] (S := Unit) (fun _ => (some (.ref v))) (fun _ => True) (fun _ => [(dq, .inr (14, [.ref ea, .int (nI h), .int (nI ((t + 16) % 17))])), (ea, .inl (g.2.2.1 4, 17, .inr (.inr (.inr (.inr (va_up f ((t + 16) % 17) none))))))]) := by
  refine MM.mk (by decide) (Nat.le_of_ble_eq_true rfl) ?_
  intro p e R s m args below meth c Q A H locs ls hX hRc hRs hP hD hE hS hA hnm hl hQ
  obtain ⟨hx, hb, hr, hlk, hml, hown, hts, hRf, hRl⟩ := hX
  have hown : s.vm.findClass RJ3 = some m.cls := hown
  have hj := ho.2 _ _ _ hE
  have hK := hj.kn
  have hl : lv_has ls 4 [(0, .ref dq)] := hl
  refine lv_aload_n hx hb dJ3_pollLast_0 rfl (lv_at hl 0 rfl) ?_
  refine va_get (D := gD g) (ci := 14) (v := .ref ea) (C := RJ3) (T := TJ3) (N := 3) hx hb hts in_J3 hown hK hP 0 rfl rfl 0 (by decide) (hts _ q239) (fun _ h9 => h9) rfl dJ3_pollLast_1 ?_
  refine lv_dup hx hb dJ3_pollLast_4 rfl ?_
  refine lv_astore_n (lv' := [(1, .ref ea), (0, .ref dq)]) hx hb dJ3_pollLast_5 rfl hl (by decide) rfl (fun ls hl => ?_)
  refine lv_aload_n hx hb dJ3_pollLast_6 rfl (lv_at hl 1 rfl) ?_
  refine va_get (D := gD g) (ci := 14) (v := .int (nI t)) (C := RJ3) (T := TJ3) (N := 3) hx hb hts in_J3 hown hK hP 0 rfl rfl 2 (by decide) (hts _ q243) (fun _ h9 => h9) rfl dJ3_pollLast_7 ?_
  refine lv_aload_n hx hb dJ3_pollLast_10 rfl (lv_at hl 0 rfl) ?_
  refine va_alen (v := 17) hx hb hK hP 1 4 rfl rfl rfl dJ3_pollLast_11 ?_
  refine rcS (As := [.int (nI t), .int 17]) (rest := [.ref ea]) (st1 := [.int (nI ((t + 16) % 17)), .ref ea]) (jJ3_dec l g E ho t (by omega)) kJ3_dec q2277 hx hb hml hown hts hRf hRl ho.1.1 hE hS (hP.sub [] rfl) ⟨Nat.le_trans (by decide) hRc, Nat.le_trans (by decide) hRs⟩ hl ⟨rfl, rfl⟩ rfl rfl (Nat.le_of_ble_eq_true rfl) rfl dJ3_pollLast_12 ?_
  refine lv_dup hx hb dJ3_pollLast_15 rfl ?_
  refine lv_istore_n (lv' := [(2, .int (nI ((t + 16) % 17))), (1, .ref ea), (0, .ref dq)]) hx hb dJ3_pollLast_16 rfl hl (by decide) rfl (fun ls hl => ?_)
  refine rcS (As := [.ref ea, .int (nI ((t + 16) % 17))]) (rest := []) (st1 := [.ref v]) (jJ3_elementAt l g E ho ea ((t + 16) % 17) v f (by omega) hf) kJ3_elementAt q1292 hx hb hml hown hts hRf hRl ho.1.1 hE hS (hP.sub [1] rfl) ⟨Nat.le_trans (by decide) hRc, Nat.le_trans (by decide) hRs⟩ hl ⟨rfl, rfl⟩ rfl rfl (Nat.le_of_ble_eq_true rfl) rfl dJ3_pollLast_17 ?_
  refine lv_astore_n (lv' := [(3, .ref v), (2, .int (nI ((t + 16) % 17))), (1, .ref ea), (0, .ref dq)]) hx hb dJ3_pollLast_20 rfl hl (by decide) rfl (fun ls hl => ?_)
  refine lv_aload_n hx hb dJ3_pollLast_21 rfl (lv_at hl 0 rfl) ?_
  refine lv_ifnull hx hb dJ3_pollLast_22 ?_
  refine lv_aload_n hx hb dJ3_pollLast_25 rfl (lv_at hl 2 rfl) ?_
  refine lv_aload_n hx hb dJ3_pollLast_26 rfl (lv_at hl 3 rfl) ?_
  refine lv_iload_n hx hb dJ3_pollLast_27 rfl (lv_at hl 1 rfl) ?_
  refine lv_dup_x1 hx hb dJ3_pollLast_28 rfl rfl ?_
  refine va_put (D := gD g) (ci := 14) (v := .int (nI ((t + 16) % 17))) (ty := .int) (C := RJ3) (T := TJ3) (N := 3) hx hb hts in_J3 tyJ3 tyJ3_ok nmJ3 hown hK hP hD hS 0 rfl rfl 2 (by decide) (hts _ q243) (fun _ h9 => h9) rfl (by decide +kernel) rfl rfl (Nat.le_of_ble_eq_true rfl) dJ3_pollLast_29 (fun H locs hP hD hS => ?_)
  have hP : va_P (gD g) Cl [(dq, .inr (14, [.ref ea, .int (nI h), .int (nI ((t + 16) % 17))])), (ea, .inl (g.2.2.1 4, 17, .inr (.inr (.inr (.inr f)))))] H := hP
  have hD : va_D A [(dq, .inr (14, [.ref ea, .int (nI h), .int (nI ((t + 16) % 17))])), (ea, .inl (g.2.2.1 4, 17, .inr (.inr (.inr (.inr f)))))] := hD
  refine lv_null hx hb dJ3_pollLast_32 ?_
  refine h_astn (f := f) hx hb hK hP hD hS 1 4 rfl rfl (k := ((t + 16) % 17)) rfl (by omega) (by omega) dJ3_pollLast_33 (fun H locs hP hD hS => ?_)
  have hP : va_P (gD g) Cl [(dq, .inr (14, [.ref ea, .int (nI h), .int (nI ((t + 16) % 17))])), (ea, .inl (g.2.2.1 4, 17, .inr (.inr (.inr (.inr (va_up f ((t + 16) % 17) none))))))] H := hP
  have hD : va_D A [(dq, .inr (14, [.ref ea, .int (nI h), .int (nI ((t + 16) % 17))])), (ea, .inl (g.2.2.1 4, 17, .inr (.inr (.inr (.inr (va_up f ((t + 16) % 17) none))))))] := hD
  refine lv_aload_n hx hb dJ3_pollLast_34 rfl (lv_at hl 0 rfl) ?_
  exact hm_a hQ hx hb hr hlk (Or.inl ⟨_, rfl⟩) (Or.inr ⟨_, rfl⟩) () rfl (trivial) hP hD hS (by decide) (by decide) dJ3_pollLast_35
-- J3_removeLast: by interface alone
set_option maxHeartbeats 4000000 in
theorem jJ3_removeLast (l : Launch) (g : hG) (E : hEnv) (ho : jOk g E) (dq : Nat) (ea : Nat) (h : Nat) (t : Nat) (f : Nat → Option Nat) (v : Nat) (hh : h < 17) (ht : t < 17) (hf : f ((t + 16) % 17) = some v) : MM l yJ3_removeLast cJ3_removeLast 2 (some (.object "java/lang/Object")) 2 44 0 0 [.ref dq] g E [(dq, .inr (14, [.ref ea, .int (nI h), .int (nI t)])), (ea, .inl (g.2.2.1 4, 17, .inr (.inr (.inr (.inr f)))))] (S := Unit) (fun _ => (some (.ref v))) (fun _ => True) (fun _ => [(dq, .inr (14, [.ref ea, .int (nI h), .int (nI ((t + 16) % 17))])), (ea, .inl (g.2.2.1 4, 17, .inr (.inr (.inr (.inr (va_up f ((t + 16) % 17) none))))))]) := by
  refine MM.mk (by decide) (Nat.le_of_ble_eq_true rfl) ?_
  intro p e R s m args below meth c Q A H locs ls hX hRc hRs hP hD hE hS hA hnm hl hQ
  obtain ⟨hx, hb, hr, hlk, hml, hown, hts, hRf, hRl⟩ := hX
  have hown : s.vm.findClass RJ3 = some m.cls := hown
  have hj := ho.2 _ _ _ hE
  have hK := hj.kn
  have hl : lv_has ls 2 [(0, .ref dq)] := hl
  refine lv_aload_n hx hb dJ3_removeLast_0 rfl (lv_at hl 0 rfl) ?_
  have hrv9 := (va_recv hK hP (ci := 14) (q0 := 0) rfl rfl)
  have hP := sg_P2e [[(dq, .inr (14, [.ref ea, .int (nI h), .int (nI t)]))], [(ea, .inl (g.2.2.1 4, 17, .inr (.inr (.inr (.inr f)))))]] [[(dq, .inr (14, [.ref ea, .int (nI h), .int (nI t)]))], [(ea, .inl (g.2.2.1 4, 17, .inr (.inr (.inr (.inr f)))))]] [] ((dq, .inr (14, [.ref ea, .int (nI h), .int (nI t)])) :: ((ea, .inl (g.2.2.1 4, 17, .inr (.inr (.inr (.inr f))))) :: [])) [] rfl rfl [0, 1] rfl hP
  have hD := sg_D2e [[(dq, .inr (14, [.ref ea, .int (nI h), .int (nI t)]))], [(ea, .inl (g.2.2.1 4, 17, .inr (.inr (.inr (.inr f)))))]] [[(dq, .inr (14, [.ref ea, .int (nI h), .int (nI t)]))], [(ea, .inl (g.2.2.1 4, 17, .inr (.inr (.inr (.inr f)))))]] [] ((dq, .inr (14, [.ref ea, .int (nI h), .int (nI t)])) :: ((ea, .inl (g.2.2.1 4, 17, .inr (.inr (.inr (.inr f))))) :: [])) [] rfl rfl [0, 1] rfl (by decide) hD
  refine mcVA (As := []) (rest := []) (wr := []) (jJ3_pollLast l g E ho dq ea h t f v hh ht hf) kJ3_pollLast q2273 hx hb hml hown hts hRf hRl ho.1.1 hE hS hP hD hA ⟨Nat.le_trans (by decide) hRc, Nat.le_trans (by decide) hRs⟩ hrv9 hl ⟨rfl, rfl⟩ rfl rfl (Nat.le_of_ble_eq_true rfl) dJ3_removeLast_1 (fun _ H locs _ hP hD hS _ _ => ?_)
  have hP : va_P (gD g) Cl [(dq, .inr (14, [.ref ea, .int (nI h), .int (nI ((t + 16) % 17))])), (ea, .inl (g.2.2.1 4, 17, .inr (.inr (.inr (.inr (va_up f ((t + 16) % 17) none))))))] H := sg_P3e [] [[(dq, .inr (14, [.ref ea, .int (nI h), .int (nI ((t + 16) % 17))]))], [(ea, .inl (g.2.2.1 4, 17, .inr (.inr (.inr (.inr (va_up f ((t + 16) % 17) none))))))]] [[(dq, .inr (14, [.ref ea, .int (nI h), .int (nI ((t + 16) % 17))]))], [(ea, .inl (g.2.2.1 4, 17, .inr (.inr (.inr (.inr (va_up f ((t + 16) % 17) none))))))]] rfl rfl [0, 1] rfl hP
  have hD : va_D A [(dq, .inr (14, [.ref ea, .int (nI h), .int (nI ((t + 16) % 17))])), (ea, .inl (g.2.2.1 4, 17, .inr (.inr (.inr (.inr (va_up f ((t + 16) % 17) none))))))] := sg_D3e [] [[(dq, .inr (14, [.ref ea, .int (nI h), .int (nI ((t + 16) % 17))]))], [(ea, .inl (g.2.2.1 4, 17, .inr (.inr (.inr (.inr (va_up f ((t + 16) % 17) none))))))]] [[(dq, .inr (14, [.ref ea, .int (nI h), .int (nI ((t + 16) % 17))]))], [(ea, .inl (g.2.2.1 4, 17, .inr (.inr (.inr (.inr (va_up f ((t + 16) % 17) none))))))]] rfl rfl [0, 1] rfl (by decide) hD
  refine lv_astore_n (lv' := [(1, .ref v), (0, .ref dq)]) hx hb dJ3_removeLast_4 rfl hl (by decide) rfl (fun ls hl => ?_)
  refine lv_aload_n hx hb dJ3_removeLast_5 rfl (lv_at hl 0 rfl) ?_
  refine lv_ifnonnull (tgt := 17) hx hb dJ3_removeLast_6 (by decide) ?_
  refine lv_aload_n hx hb dJ3_removeLast_17 rfl (lv_at hl 0 rfl) ?_
  exact hm_a hQ hx hb hr hlk (Or.inl ⟨_, rfl⟩) (Or.inr ⟨_, rfl⟩) () rfl (trivial) hP hD hS (by decide) (by decide) dJ3_removeLast_18
-- J3_addLast: by interface alone
set_option maxHeartbeats 4000000 in
theorem jJ3_addLast (l : Launch) (g : hG) (E : hEnv) (ho : jOk g E) (dq : Nat) (ea : Nat) (h : Nat) (t : Nat) (f : Nat → Option Nat) (v : Nat) (ci : Nat) (vv : List Value) (r : vw_C) (hh : h < 17) (ht : t < 17) (hne : ¬ h = ((t + 1) % 17)) (hci : Cl[ci]? = some r) (hca : Cond.castable r.1 "java/lang/Object" ∈ lw_tbl) : MM l yJ3_addLast cJ3_addLast 3 none 1 21 0 0 [.ref dq, .ref v] g E [(dq, .inr (14, [.ref ea, .int (nI h), .int (nI t)])), (ea, .inl (g.2.2.1 4, 17, .inr (.inr (.inr (.inr f))))), (v, .inr (ci, vv))] (S := Unit) (fun _ => none) (fun _ => True) (fun _ => [(dq, .inr (14, [.ref ea, .int (nI h), .int (nI ((t + 1) % 17))])), (ea, .inl (g.2.2.1 4, 17, .inr (.inr (.inr (.inr (va_up f t (some v))))))), (v, .inr (ci, vv))]) := by
  refine MM.mk (by decide) (Nat.le_of_ble_eq_true rfl) ?_
  intro p e R s m args below meth c Q A H locs ls hX hRc hRs hP hD hE hS hA hnm hl hQ
  obtain ⟨hx, hb, hr, hlk, hml, hown, hts, hRf, hRl⟩ := hX
  have hown : s.vm.findClass RJ3 = some m.cls := hown
  have hj := ho.2 _ _ _ hE
  have hK := hj.kn
  have hl : lv_has ls 3 [(0, .ref dq), (1, .ref v)] := hl
  refine lv_aload_n hx hb dJ3_addLast_0 rfl (lv_at hl 1 rfl) ?_
  refine lv_ifnonnull (tgt := 12) hx hb dJ3_addLast_1 (by decide) ?_
  refine lv_aload_n hx hb dJ3_addLast_12 rfl (lv_at hl 0 rfl) ?_
  refine va_get (D := gD g) (ci := 14) (v := .ref ea) (C := RJ3) (T := TJ3) (N := 3) hx hb hts in_J3 hown hK hP 0 rfl rfl 0 (by decide) (hts _ q239) (fun _ h9 => h9) rfl dJ3_addLast_13 ?_
  refine lv_astore_n (lv' := [(2, .ref ea), (0, .ref dq), (1, .ref v)]) hx hb dJ3_addLast_16 rfl hl (by decide) rfl (fun ls hl => ?_)
  refine lv_aload_n hx hb dJ3_addLast_17 rfl (lv_at hl 0 rfl) ?_
  refine lv_aload_n hx hb dJ3_addLast_18 rfl (lv_at hl 1 rfl) ?_
  refine va_get (D := gD g) (ci := 14) (v := .int (nI t)) (C := RJ3) (T := TJ3) (N := 3) hx hb hts in_J3 hown hK hP 0 rfl rfl 2 (by decide) (hts _ q243) (fun _ h9 => h9) rfl dJ3_addLast_19 ?_
  refine lv_aload_n hx hb dJ3_addLast_22 rfl (lv_at hl 2 rfl) ?_
  refine h_asto (f := f) hx hb hK hP hD hS 1 4 2 ci rfl rfl (hj.tw hca rfl) rfl hci (k := t) rfl (by omega) (by omega) dJ3_addLast_23 (fun H locs hP hD hS => ?_)
  have hP : va_P (gD g) Cl [(dq, .inr (14, [.ref ea, .int (nI h), .int (nI t)])), (ea, .inl (g.2.2.1 4, 17, .inr (.inr (.inr (.inr (va_up f t (some v))))))), (v, .inr (ci, vv))] H := hP
  have hD : va_D A [(dq, .inr (14, [.ref ea, .int (nI h), .int (nI t)])), (ea, .inl (g.2.2.1 4, 17, .inr (.inr (.inr (.inr (va_up f t (some v))))))), (v, .inr (ci, vv))] := hD
  refine lv_aload_n hx hb dJ3_addLast_24 rfl (lv_at hl 1 rfl) ?_
  refine va_get (D := gD g) (ci := 14) (v := .int (nI h)) (C := RJ3) (T := TJ3) (N := 3) hx hb hts in_J3 hown hK hP 0 rfl rfl 1 (by decide) (hts _ q242) (fun _ h9 => h9) rfl dJ3_addLast_25 ?_
  refine lv_aload_n hx hb dJ3_addLast_28 rfl (lv_at hl 1 rfl) ?_
  refine lv_aload_n hx hb dJ3_addLast_29 rfl (lv_at hl 1 rfl) ?_
  refine va_get (D := gD g) (ci := 14) (v := .int (nI t)) (C := RJ3) (T := TJ3) (N := 3) hx hb hts in_J3 hown hK hP 0 rfl rfl 2 (by decide) (hts _ q243) (fun _ h9 => h9) rfl dJ3_addLast_30 ?_
  refine lv_aload_n hx hb dJ3_addLast_33 rfl (lv_at hl 0 rfl) ?_
  refine va_alen (v := 17) hx hb hK hP 1 4 rfl rfl rfl dJ3_addLast_34 ?_
  refine rcS (As := [.int (nI t), .int 17]) (rest := [.ref dq, .int (nI h)]) (st1 := [.int (nI ((t + 1) % 17)), .ref dq, .int (nI h)]) (jJ3_inc l g E ho t (by omega)) kJ3_inc q1295 hx hb hml hown hts hRf hRl ho.1.1 hE hS (hP.sub [] rfl) ⟨Nat.le_trans (by decide) hRc, Nat.le_trans (by decide) hRs⟩ hl ⟨rfl, rfl⟩ rfl rfl (Nat.le_of_ble_eq_true rfl) rfl dJ3_addLast_35 ?_
  refine lv_dup_x1 hx hb dJ3_addLast_38 rfl rfl ?_
  refine va_put (D := gD g) (ci := 14) (v := .int (nI ((t + 1) % 17))) (ty := .int) (C := RJ3) (T := TJ3) (N := 3) hx hb hts in_J3 tyJ3 tyJ3_ok nmJ3 hown hK hP hD hS 0 rfl rfl 2 (by decide) (hts _ q243) (fun _ h9 => h9) rfl (by decide +kernel) rfl rfl (Nat.le_of_ble_eq_true rfl) dJ3_addLast_39 (fun H locs hP hD hS => ?_)
  have hP : va_P (gD g) Cl [(dq, .inr (14, [.ref ea, .int (nI h), .int (nI ((t + 1) % 17))])), (ea, .inl (g.2.2.1 4, 17, .inr (.inr (.inr (.inr (va_up f t (some v))))))), (v, .inr (ci, vv))] H := hP
  have hD : va_D A [(dq, .inr (14, [.ref ea, .int (nI h), .int (nI ((t + 1) % 17))])), (ea, .inl (g.2.2.1 4, 17, .inr (.inr (.inr (.inr (va_up f t (some v))))))), (v, .inr (ci, vv))] := hD
  refine lv_icmp_ne (tgt := 50) hx hb dJ3_addLast_42 (by decide) (fun c_1 => ?_) (fun c_1 => ?_)
  · exact hm_v hQ hx hb hr hlk () rfl (trivial) hP hD hS (by decide) (by decide) dJ3_addLast_50
  exact (hne ((nI_eq (by omega) (by omega)).mp c_1)).elim
theorem kJ3_circularClear : hkS yJ3_circularClear cJ3_circularClear 4 none 3 := ⟨q2296, q73, q2297, by decide +kernel⟩
set_option maxHeartbeats 4000000 in
theorem jJ3_circularClear (l : Launch) (g : hG) (E : hEnv) (ho : jOk g E) (ea : Nat) (h : Nat) (t : Nat) (f : Nat → Option Nat) (hh : h < 17) (ht : t < 17) : MM l yJ3_circularClear cJ3_circularClear 4 none 0 0 0 0 [.ref ea, .int (nI h), .int (nI t)] g E [(ea, .inl (g.2.2.1 4, 17, .inr (.inr (.inr (.inr f)))))] (S := Nat → Option Nat) (fun u => none) (fun u => True) (fun u => [(ea, .inl (g.2.2.1 4, 17, .inr (.inr (.inr (.inr u)))))]) := by
  refine MM.mk (by decide) (Nat.le_of_ble_eq_true rfl) ?_
  intro p e R s m args below meth c Q A H locs ls hX hRc hRs hP hD hE hS hA hnm hl hQ
  obtain ⟨hx, hb, hr, hlk, hml, hown, hts, hRf, hRl⟩ := hX
  have hown : s.vm.findClass RJ3 = some m.cls := hown
  have hj := ho.2 _ _ _ hE
  have hK := hj.kn
  have hl : lv_has ls 4 [(0, .ref ea), (1, .int (nI h)), (2, .int (nI t))] := hl
  refine lv_iload_n hx hb dJ3_circularClear_0 rfl (lv_at hl 1 rfl) ?_
  refine lv_iload_n hx hb dJ3_circularClear_1 rfl (lv_at hl 2 rfl) ?_
  refine lv_icmp_gt (tgt := 9) hx hb dJ3_circularClear_2 (by decide) (fun c_1 => ?_) (fun c_1 => ?_)
  · have hgt := (nI_ltI (a := t) (b := h) (by omega) (by omega)).mp c_1
    refine lv_aload_n hx hb dJ3_circularClear_9 rfl (lv_at hl 0 rfl) ?_
    refine va_alen (v := 17) hx hb hK hP 0 4 rfl rfl rfl dJ3_circularClear_10 ?_
    refine lv_istore_n (lv' := [(3, .int 17), (0, .ref ea), (1, .int (nI h)), (2, .int (nI t))]) hx hb dJ3_circularClear_11 rfl hl (by decide) rfl (fun ls hl => ?_)
    have loop_12 : ∀ (k : Nat) (i : Nat) (f1 : Nat → Option Nat), (i ≤ 17 ∧ 17 < i + k) → ∀ (H : Heap) (locs : List Loc), va_P (gD g) Cl [(ea, .inl (g.2.2.1 4, 17, .inr (.inr (.inr (.inr f1)))))] H → va_D A [(ea, .inl (g.2.2.1 4, 17, .inr (.inr (.inr (.inr f1)))))] → va_S A s.heap H locs → ∀ (ls : Array Slot), lv_has ls 4 [(0, .ref ea), (1, .int (nI i)), (2, .int (nI t)), (3, .int 17)] → W p l e R s m args below meth c H locs 0 0 Q (F0 m 12 ls []) := by
      intro k
      induction k with
      | zero =>
        intro i f1 hi H locs hP hD hS ls hl
        exact absurd hi (by omega)
      | succ k ih_12 =>
        intro i f1 hi H locs hP hD hS ls hl
        refine lv_iload_n hx hb dJ3_circularClear_12 rfl (lv_at hl 1 rfl) ?_
        refine lv_iload_n hx hb dJ3_circularClear_13 rfl (lv_at hl 3 rfl) ?_
        refine lv_icmp_ge (tgt := 27) hx hb dJ3_circularClear_14 (by decide) (fun c_2 => ?_) (fun c_2 => ?_)
        · refine lv_iload_n hx hb dJ3_circularClear_27 rfl (lv_at hl 3 rfl) ?_
          refine lv_iload_n hx hb dJ3_circularClear_28 rfl (lv_at hl 2 rfl) ?_
          refine lv_icmp_ne (tgt := 35) hx hb dJ3_circularClear_29 (by decide) (fun c_3 => ?_) (fun c_3 => ?_)
          · refine lv_iconst (v := 0) hx hb dJ3_circularClear_35 (by decide) ?_
            refine lv_istore_n (lv' := [(1, .int 0), (0, .ref ea), (2, .int (nI t)), (3, .int 17)]) hx hb dJ3_circularClear_36 rfl hl (by decide) rfl (fun ls hl => ?_)
            refine lv_iload_n hx hb dJ3_circularClear_37 rfl (lv_at hl 2 rfl) ?_
            refine lv_istore_n (lv' := [(3, .int (nI t)), (1, .int 0), (0, .ref ea), (2, .int (nI t))]) hx hb dJ3_circularClear_38 rfl hl (by decide) rfl (fun ls hl => ?_)
            refine lv_goto (tgt := 12) hx hb dJ3_circularClear_39 (by decide) ?_
            have loop_12 : ∀ (k : Nat) (i : Nat) (f1 : Nat → Option Nat), (i ≤ t ∧ t < i + k) → ∀ (H : Heap) (locs : List Loc), va_P (gD g) Cl [(ea, .inl (g.2.2.1 4, 17, .inr (.inr (.inr (.inr f1)))))] H → va_D A [(ea, .inl (g.2.2.1 4, 17, .inr (.inr (.inr (.inr f1)))))] → va_S A s.heap H locs → ∀ (ls : Array Slot), lv_has ls 4 [(0, .ref ea), (1, .int (nI i)), (2, .int (nI t)), (3, .int (nI t))] → W p l e R s m args below meth c H locs 0 0 Q (F0 m 12 ls []) := by
              intro k
              induction k with
              | zero =>
                intro i f1 hi H locs hP hD hS ls hl
                exact absurd hi (by omega)
              | succ k ih_12 =>
                intro i f1 hi H locs hP hD hS ls hl
                refine lv_iload_n hx hb dJ3_circularClear_12 rfl (lv_at hl 1 rfl) ?_
                refine lv_iload_n hx hb dJ3_circularClear_13 rfl (lv_at hl 3 rfl) ?_
                refine lv_icmp_ge (tgt := 27) hx hb dJ3_circularClear_14 (by decide) (fun c_4 => ?_) (fun c_4 => ?_)
                · refine lv_iload_n hx hb dJ3_circularClear_27 rfl (lv_at hl 3 rfl) ?_
                  refine lv_iload_n hx hb dJ3_circularClear_28 rfl (lv_at hl 2 rfl) ?_
                  refine lv_icmp_ne (tgt := 35) hx hb dJ3_circularClear_29 (by decide) (fun c_5 => ?_) (fun c_5 => ?_)
                  · exact (c_5 rfl).elim
                  refine lv_goto (tgt := 42) hx hb dJ3_circularClear_32 (by decide) ?_
                  exact hm_v hQ hx hb hr hlk f1 rfl (trivial) hP hD hS (by decide) (by decide) dJ3_circularClear_42
                have hlt : i < t := Nat.not_le.mp (fun z => c_4 ((nI_leI (a := t) (b := i) (by omega) (by omega)).mpr z))
                refine lv_aload_n hx hb dJ3_circularClear_17 rfl (lv_at hl 0 rfl) ?_
                refine lv_iload_n hx hb dJ3_circularClear_18 rfl (lv_at hl 1 rfl) ?_
                refine lv_null hx hb dJ3_circularClear_19 ?_
                refine h_astn (f := f1) hx hb hK hP hD hS 0 4 rfl rfl (k := i) rfl (by omega) (by omega) dJ3_circularClear_20 (fun H locs hP hD hS => ?_)
                have hP : va_P (gD g) Cl [(ea, .inl (g.2.2.1 4, 17, .inr (.inr (.inr (.inr (va_up f1 i none))))))] H := hP
                have hD : va_D A [(ea, .inl (g.2.2.1 4, 17, .inr (.inr (.inr (.inr (va_up f1 i none))))))] := hD
                refine lv_iinc (v := nI (i + 1)) (lv' := [(1, .int (nI (i + 1))), (0, .ref ea), (2, .int (nI t)), (3, .int (nI t))]) hx hb dJ3_circularClear_21 hl (k := 1) rfl (h_ninc (a := i) (k := 1) (rfl)) (by decide) rfl (fun ls hl => ?_)
                refine lv_goto (tgt := 12) hx hb dJ3_circularClear_24 (by decide) ?_
                exact ih_12 (i + 1) (va_up f1 i none) (by omega) H locs hP hD hS ls (lv_sub hl [1, 0, 2, 3] rfl)
            exact loop_12 (t + 1) 0 f1 (by omega) H locs hP hD hS ls (lv_sub hl [2, 1, 3, 0] rfl)
          exact (show False by have z := (nI_eq (a := 17) (b := t) (by decide) (by omega)).mp c_3; omega).elim
        have hlt : i < 17 := Nat.not_le.mp (fun z => c_2 ((nI_leI (a := 17) (b := i) (by omega) (by omega)).mpr z))
        refine lv_aload_n hx hb dJ3_circularClear_17 rfl (lv_at hl 0 rfl) ?_
        refine lv_iload_n hx hb dJ3_circularClear_18 rfl (lv_at hl 1 rfl) ?_
        refine lv_null hx hb dJ3_circularClear_19 ?_
        refine h_astn (f := f1) hx hb hK hP hD hS 0 4 rfl rfl (k := i) rfl (by omega) (by omega) dJ3_circularClear_20 (fun H locs hP hD hS => ?_)
        have hP : va_P (gD g) Cl [(ea, .inl (g.2.2.1 4, 17, .inr (.inr (.inr (.inr (va_up f1 i none))))))] H := hP
        have hD : va_D A [(ea, .inl (g.2.2.1 4, 17, .inr (.inr (.inr (.inr (va_up f1 i none))))))] := hD
        refine lv_iinc (v := nI (i + 1)) (lv' := [(1, .int (nI (i + 1))), (0, .ref ea), (2, .int (nI t)), (3, .int 17)]) hx hb dJ3_circularClear_21 hl (k := 1) rfl (h_ninc (a := i) (k := 1) (rfl)) (by decide) rfl (fun ls hl => ?_)
        refine lv_goto (tgt := 12) hx hb dJ3_circularClear_24 (by decide) ?_
        exact ih_12 (i + 1) (va_up f1 i none) (by omega) H locs hP hD hS ls (lv_sub hl [1, 0, 2, 3] rfl)
    exact loop_12 (17 + 1) h f (by omega) H locs hP hD hS ls (lv_sub hl [1, 2, 3, 0] rfl)
  have hle : h ≤ t := Nat.not_lt.mp (fun z => c_1 ((nI_ltI (by omega) (by omega)).mpr z))
  refine lv_iload_n hx hb dJ3_circularClear_5 rfl (lv_at hl 2 rfl) ?_
  refine lv_goto (tgt := 11) hx hb dJ3_circularClear_6 (by decide) ?_
  refine lv_istore_n (lv' := [(3, .int (nI t)), (0, .ref ea), (1, .int (nI h)), (2, .int (nI t))]) hx hb dJ3_circularClear_11 rfl hl (by decide) rfl (fun ls hl => ?_)
  have loop_12 : ∀ (k : Nat) (i : Nat) (f1 : Nat → Option Nat), (i ≤ t ∧ t < i + k) → ∀ (H : Heap) (locs : List Loc), va_P (gD g) Cl [(ea, .inl (g.2.2.1 4, 17, .inr (.inr (.inr (.inr f1)))))] H → va_D A [(ea, .inl (g.2.2.1 4, 17, .inr (.inr (.inr (.inr f1)))))] → va_S A s.heap H locs → ∀ (ls : Array Slot), lv_has ls 4 [(0, .ref ea), (1, .int (nI i)), (2, .int (nI t)), (3, .int (nI t))] → W p l e R s m args below meth c H locs 0 0 Q (F0 m 12 ls []) := by
    intro k
    induction k with
    | zero =>
      intro i f1 hi H locs hP hD hS ls hl
      exact absurd hi (by omega)
    | succ k ih_12 =>
      intro i f1 hi H locs hP hD hS ls hl
      refine lv_iload_n hx hb dJ3_circularClear_12 rfl (lv_at hl 1 rfl) ?_
      refine lv_iload_n hx hb dJ3_circularClear_13 rfl (lv_at hl 3 rfl) ?_
      refine lv_icmp_ge (tgt := 27) hx hb dJ3_circularClear_14 (by decide) (fun c_6 => ?_) (fun c_6 => ?_)
      · refine lv_iload_n hx hb dJ3_circularClear_27 rfl (lv_at hl 3 rfl) ?_
        refine lv_iload_n hx hb dJ3_circularClear_28 rfl (lv_at hl 2 rfl) ?_
        refine lv_icmp_ne (tgt := 35) hx hb dJ3_circularClear_29 (by decide) (fun c_7 => ?_) (fun c_7 => ?_)
        · exact (c_7 rfl).elim
        refine lv_goto (tgt := 42) hx hb dJ3_circularClear_32 (by decide) ?_
        exact hm_v hQ hx hb hr hlk f1 rfl (trivial) hP hD hS (by decide) (by decide) dJ3_circularClear_42
      have hlt : i < t := Nat.not_le.mp (fun z => c_6 ((nI_leI (a := t) (b := i) (by omega) (by omega)).mpr z))
      refine lv_aload_n hx hb dJ3_circularClear_17 rfl (lv_at hl 0 rfl) ?_
      refine lv_iload_n hx hb dJ3_circularClear_18 rfl (lv_at hl 1 rfl) ?_
      refine lv_null hx hb dJ3_circularClear_19 ?_
      refine h_astn (f := f1) hx hb hK hP hD hS 0 4 rfl rfl (k := i) rfl (by omega) (by omega) dJ3_circularClear_20 (fun H locs hP hD hS => ?_)
      have hP : va_P (gD g) Cl [(ea, .inl (g.2.2.1 4, 17, .inr (.inr (.inr (.inr (va_up f1 i none))))))] H := hP
      have hD : va_D A [(ea, .inl (g.2.2.1 4, 17, .inr (.inr (.inr (.inr (va_up f1 i none))))))] := hD
      refine lv_iinc (v := nI (i + 1)) (lv' := [(1, .int (nI (i + 1))), (0, .ref ea), (2, .int (nI t)), (3, .int (nI t))]) hx hb dJ3_circularClear_21 hl (k := 1) rfl (h_ninc (a := i) (k := 1) (rfl)) (by decide) rfl (fun ls hl => ?_)
      refine lv_goto (tgt := 12) hx hb dJ3_circularClear_24 (by decide) ?_
      exact ih_12 (i + 1) (va_up f1 i none) (by omega) H locs hP hD hS ls (lv_sub hl [1, 0, 2, 3] rfl)
  exact loop_12 (t + 1) h f (by omega) H locs hP hD hS ls (lv_sub hl [1, 2, 3, 0] rfl)
-- J3_clear: by interface alone
set_option maxHeartbeats 4000000 in
theorem jJ3_clear (l : Launch) (g : hG) (E : hEnv) (ho : jOk g E) (dq : Nat) (ea : Nat) (h : Nat) (t : Nat) (f : Nat → Option Nat) (hh : h < 17) (ht : t < 17) : MM l yJ3_clear cJ3_clear 1 none 1 23 0 0 [.ref dq] g E [(dq, .inr (14, [.ref ea, .int (nI h), .int (nI t)])), (ea, .inl (g.2.2.1 4, 17, .inr (.inr (.inr (.inr f)))))] (S := Nat → Option Nat) (fun u => none) (fun u => True) (fun u => [(dq, .inr (14, [.ref ea, .int (nI 0), .int (nI 0)])), (ea, .inl (g.2.2.1 4, 17, .inr (.inr (.inr (.inr u)))))]) := by
  refine MM.mk (by decide) (Nat.le_of_ble_eq_true rfl) ?_
  intro p e R s m args below meth c Q A H locs ls hX hRc hRs hP hD hE hS hA hnm hl hQ
  obtain ⟨hx, hb, hr, hlk, hml, hown, hts, hRf, hRl⟩ := hX
  have hown : s.vm.findClass RJ3 = some m.cls := hown
  have hj := ho.2 _ _ _ hE
  have hK := hj.kn
  have hl : lv_has ls 1 [(0, .ref dq)] := hl
  refine lv_aload_n hx hb dJ3_clear_0 rfl (lv_at hl 0 rfl) ?_
  refine va_get (D := gD g) (ci := 14) (v := .ref ea) (C := RJ3) (T := TJ3) (N := 3) hx hb hts in_J3 hown hK hP 0 rfl rfl 0 (by decide) (hts _ q239) (fun _ h9 => h9) rfl dJ3_clear_1 ?_
  refine lv_aload_n hx hb dJ3_clear_4 rfl (lv_at hl 0 rfl) ?_
  refine va_get (D := gD g) (ci := 14) (v := .int (nI h)) (C := RJ3) (T := TJ3) (N := 3) hx hb hts in_J3 hown hK hP 0 rfl rfl 1 (by decide) (hts _ q242) (fun _ h9 => h9) rfl dJ3_clear_5 ?_
  refine lv_aload_n hx hb dJ3_clear_8 rfl (lv_at hl 0 rfl) ?_
  refine va_get (D := gD g) (ci := 14) (v := .int (nI t)) (C := RJ3) (T := TJ3) (N := 3) hx hb hts in_J3 hown hK hP 0 rfl rfl 2 (by decide) (hts _ q243) (fun _ h9 => h9) rfl dJ3_clear_9 ?_
  have hP := sg_P2e [[(dq, .inr (14, [.ref ea, .int (nI h), .int (nI t)]))], [(ea, .inl (g.2.2.1 4, 17, .inr (.inr (.inr (.inr f)))))]] [[(ea, .inl (g.2.2.1 4, 17, .inr (.inr (.inr (.inr f)))))]] [[(dq, .inr (14, [.ref ea, .int (nI h), .int (nI t)]))]] ((ea, .inl (g.2.2.1 4, 17, .inr (.inr (.inr (.inr f))))) :: []) ((dq, .inr (14, [.ref ea, .int (nI h), .int (nI t)])) :: []) rfl rfl [1, 0] rfl hP
  have hD := sg_D2e [[(dq, .inr (14, [.ref ea, .int (nI h), .int (nI t)]))], [(ea, .inl (g.2.2.1 4, 17, .inr (.inr (.inr (.inr f)))))]] [[(ea, .inl (g.2.2.1 4, 17, .inr (.inr (.inr (.inr f)))))]] [[(dq, .inr (14, [.ref ea, .int (nI h), .int (nI t)]))]] ((ea, .inl (g.2.2.1 4, 17, .inr (.inr (.inr (.inr f))))) :: []) ((dq, .inr (14, [.ref ea, .int (nI h), .int (nI t)])) :: []) rfl rfl [1, 0] rfl (by decide) hD
  refine mcSA (As := [.ref ea, .int (nI h), .int (nI t)]) (rest := []) (wr := ((dq, .inr (14, [.ref ea, .int (nI h), .int (nI t)])) :: [])) (jJ3_circularClear l g E ho ea h t f hh ht) kJ3_circularClear q2295 hx hb hml hown hts hRf hRl ho.1.1 hE hS hP hD hA ⟨Nat.le_trans (by decide) hRc, Nat.le_trans (by decide) hRs⟩ hl ⟨rfl, rfl⟩ rfl rfl (Nat.le_of_ble_eq_true rfl) dJ3_clear_12 (fun u_1 H locs _ hP hD hS _ _ => ?_)
  have hP : va_P (gD g) Cl [(ea, .inl (g.2.2.1 4, 17, .inr (.inr (.inr (.inr u_1))))), (dq, .inr (14, [.ref ea, .int (nI h), .int (nI t)]))] H := sg_P3e [[(dq, .inr (14, [.ref ea, .int (nI h), .int (nI t)]))]] [[(ea, .inl (g.2.2.1 4, 17, .inr (.inr (.inr (.inr u_1)))))]] [[(ea, .inl (g.2.2.1 4, 17, .inr (.inr (.inr (.inr u_1)))))], [(dq, .inr (14, [.ref ea, .int (nI h), .int (nI t)]))]] rfl rfl [1, 0] rfl hP
  have hD : va_D A [(ea, .inl (g.2.2.1 4, 17, .inr (.inr (.inr (.inr u_1))))), (dq, .inr (14, [.ref ea, .int (nI h), .int (nI t)]))] := sg_D3e [[(dq, .inr (14, [.ref ea, .int (nI h), .int (nI t)]))]] [[(ea, .inl (g.2.2.1 4, 17, .inr (.inr (.inr (.inr u_1)))))]] [[(ea, .inl (g.2.2.1 4, 17, .inr (.inr (.inr (.inr u_1)))))], [(dq, .inr (14, [.ref ea, .int (nI h), .int (nI t)]))]] rfl rfl [1, 0] rfl (by decide) hD
  refine lv_aload_n hx hb dJ3_clear_15 rfl (lv_at hl 0 rfl) ?_
  refine lv_aload_n hx hb dJ3_clear_16 rfl (lv_at hl 0 rfl) ?_
  refine lv_iconst (v := 0) hx hb dJ3_clear_17 (by decide) ?_
  refine lv_dup_x1 hx hb dJ3_clear_18 rfl rfl ?_
  refine va_put (D := gD g) (ci := 14) (v := .int 0) (ty := .int) (C := RJ3) (T := TJ3) (N := 3) hx hb hts in_J3 tyJ3 tyJ3_ok nmJ3 hown hK hP hD hS 1 rfl rfl 2 (by decide) (hts _ q243) (fun _ h9 => h9) rfl (by decide +kernel) rfl rfl (Nat.le_of_ble_eq_true rfl) dJ3_clear_19 (fun H locs hP hD hS => ?_)
  have hP : va_P (gD g) Cl [(ea, .inl (g.2.2.1 4, 17, .inr (.inr (.inr (.inr u_1))))), (dq, .inr (14, [.ref ea, .int (nI h), .int 0]))] H := hP
  have hD : va_D A [(ea, .inl (g.2.2.1 4, 17, .inr (.inr (.inr (.inr u_1))))), (dq, .inr (14, [.ref ea, .int (nI h), .int 0]))] := hD
  refine va_put (D := gD g) (ci := 14) (v := .int 0) (ty := .int) (C := RJ3) (T := TJ3) (N := 3) hx hb hts in_J3 tyJ3 tyJ3_ok nmJ3 hown hK hP hD hS 1 rfl rfl 1 (by decide) (hts _ q242) (fun _ h9 => h9) rfl (by decide +kernel) rfl rfl (Nat.le_of_ble_eq_true rfl) dJ3_clear_22 (fun H locs hP hD hS => ?_)
  have hP : va_P (gD g) Cl [(ea, .inl (g.2.2.1 4, 17, .inr (.inr (.inr (.inr u_1))))), (dq, .inr (14, [.ref ea, .int 0, .int 0]))] H := hP
  have hD : va_D A [(ea, .inl (g.2.2.1 4, 17, .inr (.inr (.inr (.inr u_1))))), (dq, .inr (14, [.ref ea, .int 0, .int 0]))] := hD
  have hP : va_P (gD g) Cl [(dq, .inr (14, [.ref ea, .int 0, .int 0])), (ea, .inl (g.2.2.1 4, 17, .inr (.inr (.inr (.inr u_1)))))] H := sg_P [[(ea, .inl (g.2.2.1 4, 17, .inr (.inr (.inr (.inr u_1)))))], [(dq, .inr (14, [.ref ea, .int 0, .int 0]))]] [[(dq, .inr (14, [.ref ea, .int 0, .int 0]))], [(ea, .inl (g.2.2.1 4, 17, .inr (.inr (.inr (.inr u_1)))))]] [1, 0] rfl hP
  have hD : va_D A [(dq, .inr (14, [.ref ea, .int 0, .int 0])), (ea, .inl (g.2.2.1 4, 17, .inr (.inr (.inr (.inr u_1)))))] := sg_D [[(ea, .inl (g.2.2.1 4, 17, .inr (.inr (.inr (.inr u_1)))))], [(dq, .inr (14, [.ref ea, .int 0, .int 0]))]] [[(dq, .inr (14, [.ref ea, .int 0, .int 0]))], [(ea, .inl (g.2.2.1 4, 17, .inr (.inr (.inr (.inr u_1)))))]] [1, 0] rfl (by decide) hD
  exact hm_v hQ hx hb hr hlk u_1 rfl (trivial) hP hD hS (by decide) (by decide) dJ3_clear_25
theorem kX1_requireIndex : hkS yX1_requireIndex cX1_requireIndex 1 none 1 := ⟨q1500, q67, q1501, by decide +kernel⟩
set_option maxHeartbeats 4000000 in
theorem jX1_requireIndex (l : Launch) (g : hG) (E : hEnv) (ho : jOk g E) (hst : l.stackTraces = false) (P : Prop) [Decidable P] : XM l yX1_requireIndex cX1_requireIndex 1 none 7 90 1 6 [.int (if P then 1 else 0)] g E [] (S := Unit) (fun _ => none) (fun _ => P) (fun _ => []) (SX := Unit) (fun En u => En = "java/lang/IndexOutOfBoundsException" ∧ ¬ P) (fun u q => []) := by
  refine XM.mk (by decide) (Nat.le_of_ble_eq_true rfl) ?_
  intro p e R s m args below meth c Q A H locs ls hX hRc hRs hP hD hE hS hA hnm hl hnt hQ
  obtain ⟨hx, hb, hr, hlk, hml, hown, hts, hRf, hRl⟩ := hX
  subst hQ
  have hown : s.vm.findClass RX1 = some m.cls := hown
  have hj := ho.2 _ _ _ hE
  have hK := hj.kn
  have hl : lv_has ls 1 [(0, .int (if P then 1 else 0))] := hl
  refine lv_iload_n hx hb dX1_requireIndex_0 rfl (lv_at hl 0 rfl) ?_
  refine h_ifne_b (tgt := 12) hx hb dX1_requireIndex_1 (by decide) (fun c_1 => ?_) (fun c_1 => ?_)
  · exact vx_ret (hm_v rfl hx hb hr hlk () rfl (c_1) hP hD hS (by decide) (by decide) dX1_requireIndex_12)
  exact hx_new (names := ["java/lang/RuntimeException", "java/lang/Exception"]) hx hb hst hown ⟨by decide +kernel, by decide +kernel⟩ hts q1502 q101 (thr_J23 hts (fun w h1 h2 => hj.tw h1 h2) q1511) hj hS hml hl dX1_requireIndex_4 dX1_requireIndex_7 dX1_requireIndex_8 dX1_requireIndex_11 (fun x hx9 => (hnt x hx9).elim) (Nat.lt_of_lt_of_le (by decide) hRf) (Nat.le_trans (by decide) hRl) hRc hRs hlk () (⟨rfl, c_1⟩) hP hD rfl (by decide) (by decide)
theorem kX1_require : hkS yX1_require cX1_require 1 none 1 := ⟨q1555, q67, q1556, by decide +kernel⟩
set_option maxHeartbeats 4000000 in
theorem jX1_require (l : Launch) (g : hG) (E : hEnv) (ho : jOk g E) (hst : l.stackTraces = false) (P : Prop) [Decidable P] : XM l yX1_require cX1_require 1 none 7 90 1 6 [.int (if P then 1 else 0)] g E [] (S := Unit) (fun _ => none) (fun _ => P) (fun _ => []) (SX := Unit) (fun En u => En = "java/lang/IllegalArgumentException" ∧ ¬ P) (fun u q => []) := by
  refine XM.mk (by decide) (Nat.le_of_ble_eq_true rfl) ?_
  intro p e R s m args below meth c Q A H locs ls hX hRc hRs hP hD hE hS hA hnm hl hnt hQ
  obtain ⟨hx, hb, hr, hlk, hml, hown, hts, hRf, hRl⟩ := hX
  subst hQ
  have hown : s.vm.findClass RX1 = some m.cls := hown
  have hj := ho.2 _ _ _ hE
  have hK := hj.kn
  have hl : lv_has ls 1 [(0, .int (if P then 1 else 0))] := hl
  refine lv_iload_n hx hb dX1_require_0 rfl (lv_at hl 0 rfl) ?_
  refine h_ifne_b (tgt := 12) hx hb dX1_require_1 (by decide) (fun c_1 => ?_) (fun c_1 => ?_)
  · exact vx_ret (hm_v rfl hx hb hr hlk () rfl (c_1) hP hD hS (by decide) (by decide) dX1_require_12)
  exact hx_new (names := ["java/lang/RuntimeException", "java/lang/Exception"]) hx hb hst hown ⟨by decide +kernel, by decide +kernel⟩ hts q1519 q94 (thr_J17 hts (fun w h1 h2 => hj.tw h1 h2) q1520) hj hS hml hl dX1_require_4 dX1_require_7 dX1_require_8 dX1_require_11 (fun x hx9 => (hnt x hx9).elim) (Nat.lt_of_lt_of_le (by decide) hRf) (Nat.le_trans (by decide) hRl) hRc hRs hlk () (⟨rfl, c_1⟩) hP hD rfl (by decide) (by decide)
theorem kX1_requireState : hkS yX1_requireState cX1_requireState 1 none 1 := ⟨q2008, q67, q2009, by decide +kernel⟩
set_option maxHeartbeats 4000000 in
theorem jX1_requireState (l : Launch) (g : hG) (E : hEnv) (ho : jOk g E) (hst : l.stackTraces = false) (P : Prop) [Decidable P] : XM l yX1_requireState cX1_requireState 1 none 7 90 1 6 [.int (if P then 1 else 0)] g E [] (S := Unit) (fun _ => none) (fun _ => P) (fun _ => []) (SX := Unit) (fun En u => En = "java/lang/IllegalStateException" ∧ ¬ P) (fun u q => []) := by
  refine XM.mk (by decide) (Nat.le_of_ble_eq_true rfl) ?_
  intro p e R s m args below meth c Q A H locs ls hX hRc hRs hP hD hE hS hA hnm hl hnt hQ
  obtain ⟨hx, hb, hr, hlk, hml, hown, hts, hRf, hRl⟩ := hX
  subst hQ
  have hown : s.vm.findClass RX1 = some m.cls := hown
  have hj := ho.2 _ _ _ hE
  have hK := hj.kn
  have hl : lv_has ls 1 [(0, .int (if P then 1 else 0))] := hl
  refine lv_iload_n hx hb dX1_requireState_0 rfl (lv_at hl 0 rfl) ?_
  refine h_ifne_b (tgt := 12) hx hb dX1_requireState_1 (by decide) (fun c_1 => ?_) (fun c_1 => ?_)
  · exact vx_ret (hm_v rfl hx hb hr hlk () rfl (c_1) hP hD hS (by decide) (by decide) dX1_requireState_12)
  exact hx_new (names := ["java/lang/RuntimeException", "java/lang/Exception"]) hx hb hst hown ⟨by decide +kernel, by decide +kernel⟩ hts q2010 q99 (thr_J21 hts (fun w h1 h2 => hj.tw h1 h2) q2011) hj hS hml hl dX1_requireState_4 dX1_requireState_7 dX1_requireState_8 dX1_requireState_11 (fun x hx9 => (hnt x hx9).elim) (Nat.lt_of_lt_of_le (by decide) hRf) (Nat.le_trans (by decide) hRl) hRc hRs hlk () (⟨rfl, c_1⟩) hP hD rfl (by decide) (by decide)
theorem kX1_requireElement : hkS yX1_requireElement cX1_requireElement 1 none 1 := ⟨q1581, q67, q1582, by decide +kernel⟩
set_option maxHeartbeats 4000000 in
theorem jX1_requireElement (l : Launch) (g : hG) (E : hEnv) (ho : jOk g E) (hst : l.stackTraces = false) (P : Prop) [Decidable P] : XM l yX1_requireElement cX1_requireElement 1 none 7 90 1 6 [.int (if P then 1 else 0)] g E [] (S := Unit) (fun _ => none) (fun _ => P) (fun _ => []) (SX := Unit) (fun En u => En = "java/util/NoSuchElementException" ∧ ¬ P) (fun u q => []) := by
  refine XM.mk (by decide) (Nat.le_of_ble_eq_true rfl) ?_
  intro p e R s m args below meth c Q A H locs ls hX hRc hRs hP hD hE hS hA hnm hl hnt hQ
  obtain ⟨hx, hb, hr, hlk, hml, hown, hts, hRf, hRl⟩ := hX
  subst hQ
  have hown : s.vm.findClass RX1 = some m.cls := hown
  have hj := ho.2 _ _ _ hE
  have hK := hj.kn
  have hl : lv_has ls 1 [(0, .int (if P then 1 else 0))] := hl
  refine lv_iload_n hx hb dX1_requireElement_0 rfl (lv_at hl 0 rfl) ?_
  refine h_ifne_b (tgt := 12) hx hb dX1_requireElement_1 (by decide) (fun c_1 => ?_) (fun c_1 => ?_)
  · exact vx_ret (hm_v rfl hx hb hr hlk () rfl (c_1) hP hD hS (by decide) (by decide) dX1_requireElement_12)
  exact hx_new (names := ["java/lang/RuntimeException", "java/lang/Exception"]) hx hb hst hown ⟨by decide +kernel, by decide +kernel⟩ hts q1583 q98 (thr_J20 hts (fun w h1 h2 => hj.tw h1 h2) q1584) hj hS hml hl dX1_requireElement_4 dX1_requireElement_7 dX1_requireElement_8 dX1_requireElement_11 (fun x hx9 => (hnt x hx9).elim) (Nat.lt_of_lt_of_le (by decide) hRf) (Nat.le_trans (by decide) hRl) hRc hRs hlk () (⟨rfl, c_1⟩) hP hD rfl (by decide) (by decide)
