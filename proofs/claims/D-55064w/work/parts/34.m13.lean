/-! THE REFERENCE: orders of a text -/
set_option maxRecDepth 100000
/-! AN ORDER OF A TEXT, as a function: whether it stands, where it ends, how many orders, the latest number, the orders -/
theorem fwF_len (T : Nat → Int32) (b e : Nat) : ∀ d w : Nat, w + d ≤ 8 → fwF T b e d w = -1 ∨ 4 ≤ e - b
  | 0, _, _ => Or.inl rfl
  | d + 1, w, h => by
    unfold fwF
    split
    · next q =>
      refine Or.inr ?_
      have h2 : ∀ w : Nat, w < 8 → 4 ≤ stN (60 + w) := by decide +kernel
      have := h2 w (by omega)
      have := q.1
      omega
    · exact fwF_len T b e d (w + 1) (by omega)
theorem rdW_len (T : Nat → Int32) (n b : Nat) : ∀ f h : Nat, (rdW T n b f h).1 = -1 ∨ 4 + b ≤ (rdW T n b f h).2
  | 0, h => Or.inl rfl
  | f + 1, h => by
    unfold rdW
    split
    · split
      · exact rdW_len T n b f (h + 1)
      · next q2 =>
        rcases fwF_len T b (h + 1) 8 0 (by omega) with z | z
        · exact absurd z q2
        · exact Or.inr (by show 4 + b ≤ h + 1; omega)
    · exact Or.inl rfl
theorem dgN_in (T : Nat → Int32) (n h : Nat) (hh : h ≤ n) : ∀ d, h + dgN T n h d ≤ n
  | 0 => hh
  | d + 1 => by
    unfold dgN
    split
    · next q => have := sgn_dg q.2; omega
    · exact dgN_in T n h hh d
def dig1 (w : Int32) : Nat := if w = 1 then 3 else if w = 2 then 3 else 1
def dig2 (w : Int32) : Nat := if w = 2 then 1 else if w = 4 then 1 else 3
theorem dig1_le (w : Int32) : dig1 w ≤ 3 := by
  unfold dig1
  split
  · decide
  · split <;> decide
theorem dig2_le (w : Int32) : dig2 w ≤ 3 := by
  unfold dig2
  split
  · decide
  · split <;> decide
theorem h_dig1 (w : Int32) : (if w = 1 then 3 else if w = 2 then 3 else 1 : Int32) = nI (dig1 w) := by
  unfold dig1
  split
  · rfl
  · split <;> rfl
theorem h_dig2 (w : Int32) : (if w = 2 then 1 else if w = 4 then 1 else 3 : Int32) = nI (dig2 w) := by
  unfold dig2
  split
  · rfl
  · split <;> rfl
abbrev txR : Type := Int32 × Nat × Nat × Int32 × (Nat → Int32)
abbrev txI (I : Nat → Int32) (q : txR) : Nat → Int32 := upd (upd (upd I 8 (nI q.2.1)) 9 (nI q.2.2.1)) 10 q.2.2.2.1
abbrev txF (F : Nat → Nat → Int32) (q : txR) : Nat → Nat → Int32 := va_up F 5 q.2.2.2.2
def ordC (T : Nat → Int32) (n : Nat) (w : Int32) (h om : Nat) (td : Int32) (O : Nat → Int32) : txR :=
  if w < 6 then (if sgn T n h = sgo w then (if 0 < dgN T n (h + 1) (dig2 w) then (1, h + 1 + dgN T n (h + 1) (dig2 w), om + 1, toldK T (h + 1) (dgN T n (h + 1) (dig2 w)), upd (upd (upd O (3 * om) w) (3 * om + 1) td) (3 * om + 2) (toldK T (h + 1) (dgN T n (h + 1) (dig2 w)))) else (0, h + 1 + dgN T n (h + 1) (dig2 w), om + 1, toldK T (h + 1) (dgN T n (h + 1) (dig2 w)), upd (upd O (3 * om) w) (3 * om + 1) td)) else (0, h, om + 1, td, upd (upd O (3 * om) w) (3 * om + 1) td))
  else (1, h, om + 1, td, upd (upd O (3 * om) w) (3 * om + 1) td)
def ordB (T : Nat → Int32) (n : Nat) (w : Int32) (h om : Nat) (O : Nat → Int32) : txR := if 0 < dgN T n h (dig1 w) then ordC T n w (h + dgN T n h (dig1 w)) om (toldK T h (dgN T n h (dig1 w))) O else (0, h + dgN T n h (dig1 w), om, toldK T h (dgN T n h (dig1 w)), O)
def ordR (T : Nat → Int32) (n h om : Nat) (td : Int32) (O : Nat → Int32) : txR := if (rdW T n h 8 h).1 < 0 then (0, (rdW T n h 8 h).2, om, td, O) else ordB T n (rdW T n h 8 h).1 (rdW T n h 8 h).2 om O

theorem mX4_isNumberG (l : Launch) (g : hG) (E : hEnv) (ho : mOk g E) (h0 : Nat) (a : Nat → Nat) (I : Nat → Int32) (F : Nat → Nat → Int32) (d : Nat) (tp : Nat) (hr0 : Nat) (T : Nat → Int32) (c1 : Nat) (t1 : Int32) (hI7 : I 7 = nI tp) (ht60 : tp ≤ 60) (hI8 : I 8 = nI hr0) (hh60 : hr0 ≤ 60) (hT : F 4 = T) (hd3 : d ≤ 3) (hc1 : dgN T tp hr0 d = c1) (ht1 : toldK T hr0 c1 = t1) : MM l yX4_isNumber cX4_isNumber 3 (some .boolean) 1 22 0 0 [.ref h0, .int (nI d)] g E (mW g h0 a I F) (S := Unit) (fun _ => (some (.int (if 0 < c1 then 1 else 0)))) (fun _ => True) (fun _ => mW g h0 a (upd (upd I 8 (nI (hr0 + c1))) 10 t1) F) := by
  have h := mX4_isNumber l g E ho h0 a I F d tp hr0 T hI7 ht60 hI8 hh60 hT hd3
  subst hc1
  subst ht1
  exact h
theorem mX4_isSignY (l : Launch) (g : hG) (E : hEnv) (ho : mOk g E) (h0 : Nat) (a : Nat → Nat) (I : Nat → Int32) (F : Nat → Nat → Int32) (x : Int32) (tp : Nat) (hr0 : Nat) (T : Nat → Int32) (hI7 : I 7 = nI tp) (ht60 : tp ≤ 60) (hI8 : I 8 = nI hr0) (hh60 : hr0 ≤ 60) (hT : F 4 = T) (hsg : sgn T tp hr0 = x) : MM l yX4_isSign cX4_isSign 3 (some .boolean) 1 20 0 0 [.ref h0, .int x] g E (mW g h0 a I F) (S := Unit) (fun _ => (some (.int 1))) (fun _ => True) (fun _ => mW g h0 a (upd I 8 (nI (hr0 + 1))) F) := by
  have h := mX4_isSign l g E ho h0 a I F x tp hr0 T hI7 ht60 hI8 hh60 hT
  rw [show stp T tp hr0 x = hr0 + 1 from if_pos hsg, if_pos hsg] at h
  exact h
theorem mX4_isSignN (l : Launch) (g : hG) (E : hEnv) (ho : mOk g E) (h0 : Nat) (a : Nat → Nat) (I : Nat → Int32) (F : Nat → Nat → Int32) (x : Int32) (tp : Nat) (hr0 : Nat) (T : Nat → Int32) (hI7 : I 7 = nI tp) (ht60 : tp ≤ 60) (hI8 : I 8 = nI hr0) (hh60 : hr0 ≤ 60) (hT : F 4 = T) (hsg : ¬ sgn T tp hr0 = x) : MM l yX4_isSign cX4_isSign 3 (some .boolean) 1 20 0 0 [.ref h0, .int x] g E (mW g h0 a I F) (S := Unit) (fun _ => (some (.int 0))) (fun _ => True) (fun _ => mW g h0 a (upd I 8 (nI hr0)) F) := by
  have h := mX4_isSign l g E ho h0 a I F x tp hr0 T hI7 ht60 hI8 hh60 hT
  rw [show stp T tp hr0 x = hr0 from if_neg hsg, if_neg hsg] at h
  exact h
theorem mX4_readsWordN (l : Launch) (g : hG) (E : hEnv) (ho : jOk g E) (h0 : Nat) (a : Nat → Nat) (I : Nat → Int32) (F : Nat → Nat → Int32) (tp : Nat) (hr0 : Nat) (T : Nat → Int32) (h1 : Nat) (hI7 : I 7 = nI tp) (ht60 : tp ≤ 60) (hI8 : I 8 = nI hr0) (hh60 : hr0 ≤ 60) (hT : F 4 = T) (hrd : rdW T tp hr0 8 hr0 = (-1, h1)) : MM l yX4_readsWord cX4_readsWord 4 (some .int) 5 109 0 0 [.ref h0] g E (mW g h0 a I F) (S := Unit) (fun _ => (some (.int (-1)))) (fun _ => True) (fun _ => mW g h0 a (upd I 8 (nI h1)) F) := by
  have h := mX4_readsWord l g E ho h0 a I F tp hr0 T hI7 ht60 hI8 hh60 hT
  rw [hrd] at h
  exact h
theorem mX4_readsWordY (l : Launch) (g : hG) (E : hEnv) (ho : jOk g E) (h0 : Nat) (a : Nat → Nat) (I : Nat → Int32) (F : Nat → Nat → Int32) (tp : Nat) (hr0 : Nat) (T : Nat → Int32) (w : Nat) (h1 : Nat) (hI7 : I 7 = nI tp) (ht60 : tp ≤ 60) (hI8 : I 8 = nI hr0) (hh60 : hr0 ≤ 60) (hT : F 4 = T) (hrd : rdW T tp hr0 8 hr0 = (nI w, h1)) : MM l yX4_readsWord cX4_readsWord 4 (some .int) 5 109 0 0 [.ref h0] g E (mW g h0 a I F) (S := Unit) (fun _ => (some (.int (nI w)))) (fun _ => True) (fun _ => mW g h0 a (upd I 8 (nI h1)) F) := by
  have h := mX4_readsWord l g E ho h0 a I F tp hr0 T hI7 ht60 hI8 hh60 hT
  rw [hrd] at h
  exact h
theorem h_sgo (x : Int32) : ¬ (-1 : Int32) = sgo x := by
  unfold sgo
  repeat' (first | decide | split)

theorem kX4_isOrder : hkV RX4 yX4_isOrder cX4_isOrder 3 (some .boolean) 0 := ⟨q2644, qs52, q78, q2645, rfl, by decide +kernel⟩
set_option maxHeartbeats 4000000 in
theorem mX4_isOrder (l : Launch) (g : hG) (E : hEnv) (ho : jOk g E) (h0 : Nat) (a : Nat → Nat) (I : Nat → Int32) (F : Nat → Nat → Int32) (tp : Nat) (hr0 : Nat) (T : Nat → Int32) (om : Nat) (hI7 : I 7 = nI tp) (ht60 : tp ≤ 60) (hI8 : I 8 = nI hr0) (hh60 : hr0 ≤ 60) (hT : F 4 = T) (hht : hr0 ≤ tp) (hI9 : I 9 = nI om) (hom6 : 6 * om ≤ hr0) : MM l yX4_isOrder cX4_isOrder 3 (some .boolean) 6 132 0 0 [.ref h0] g E (mW g h0 a I F) (S := Unit) (fun _ => (some (.int ((ordR T tp hr0 om (I 10) (F 5)).1)))) (fun _ => True) (fun _ => mW g h0 a (txI I (ordR T tp hr0 om (I 10) (F 5))) (txF F (ordR T tp hr0 om (I 10) (F 5)))) := by
  refine MM.mk (by decide) (Nat.le_of_ble_eq_true rfl) ?_
  intro p e R s m args below meth c Q A H locs ls hX hRc hRs hP hD hE hS hA hnm hl hQ
  obtain ⟨hx, hb, hr, hlk, hml, hown, hts, hRf, hRl⟩ := hX
  have hown : s.vm.findClass RX4 = some m.cls := hown
  have hj := ho.2 _ _ _ hE
  have hK := hj.kn
  have hl : lv_has ls 3 [(0, .ref h0)] := hl
  subst hT
  have e0 : upd (upd (upd I 8 (nI hr0)) 9 (nI om)) 10 (I 10) = I := by rw [h_usame hI8, h_usame hI9, h_usame rfl]
  rw [← e0, ← hup_id F 5] at hP hD
  have hP : va_P (gD g) Cl (mW g h0 a (upd (upd (upd I 8 (nI hr0)) 9 (nI om)) 10 (I 10)) (va_up F 5 (F 5))) H := hP
  have hD : va_D A (mW g h0 a (upd (upd (upd I 8 (nI hr0)) 9 (nI om)) 10 (I 10)) (va_up F 5 (F 5))) := hD
  refine lv_aload_n hx hb dX4_isOrder_0 rfl (lv_at hl 0 rfl) ?_
  obtain ⟨⟨r, h1⟩, hrd⟩ : ∃ r, rdW (F 4) tp hr0 8 hr0 = r := ⟨_, rfl⟩
  have hri := rdW_ix (F 4) tp hr0 8 hr0
  have hrl := rdW_len (F 4) tp hr0 8 hr0
  rw [hrd] at hri hrl
  obtain ⟨hr1, hr2, hr3⟩ := hri
  have htp1 : h1 ≤ tp := hr3 hht
  rcases hr1 with hre | ⟨w, hw8, hre⟩
  · obtain rfl : r = -1 := hre
    refine mcV (As := []) (rest := []) (wr := []) (mX4_readsWordN l g E ho h0 a (upd (upd (upd I 8 (nI hr0)) 9 (nI om)) 10 (I 10)) (va_up F 5 (F 5)) tp hr0 (F 4) h1 hI7 ht60 rfl (by omega) rfl hrd) kX4_readsWord q2646 hx hb hml hown hts hRf hRl ho.1.1 hE hS hP hD hA [0, 1, 2, 3, 4, 5, 6, 7, 8] [] rfl (by decide) rfl (by decide) (by decide) ⟨Nat.zero_le _, Nat.zero_le _⟩ (va_recv hK hP (ci := 0) (q0 := 0) rfl rfl) hl ⟨rfl, rfl⟩ rfl rfl (Nat.le_of_ble_eq_true rfl) dX4_isOrder_1 (fun _ H locs _ hP hD hS _ _ => ?_)
    have hP : va_P (gD g) Cl (mW g h0 a (upd (upd (upd I 8 (nI h1)) 9 (nI om)) 10 (I 10)) (va_up F 5 (F 5))) H := hP
    have hD : va_D A (mW g h0 a (upd (upd (upd I 8 (nI h1)) 9 (nI om)) 10 (I 10)) (va_up F 5 (F 5))) := hD
    refine lv_istore_n (lv' := [(1, .int (-1)), (0, .ref h0)]) hx hb dX4_isOrder_4 rfl hl (by decide) rfl (fun ls hl => ?_)
    refine lv_iload_n hx hb dX4_isOrder_5 rfl (lv_at hl 0 rfl) ?_
    refine lv_if_lt (tgt := 31) hx hb dX4_isOrder_6 (by decide) (fun _ => ?_) (fun c => absurd c (by decide))
    refine lv_iconst (v := 0) hx hb dX4_isOrder_31 (by decide) ?_
    have hop : ordR (F 4) tp hr0 om (I 10) (F 5) = (0, h1, om, I 10, (F 5)) := by simp only [ordR, ordB, ordC, hrd, eq_true (by decide : (-1 : Int32) < 0), if_true, if_false, not_true_eq_false, not_false_eq_true, ite_true, ite_false, reduceIte, Nat.add_zero, Nat.add_sub_cancel]
    have hW1 : (mW g h0 a (upd (upd (upd I 8 (nI h1)) 9 (nI om)) 10 (I 10)) (va_up F 5 (F 5))) = mW g h0 a (txI I (ordR (F 4) tp hr0 om (I 10) (F 5))) (txF F (ordR (F 4) tp hr0 om (I 10) (F 5))) := by
      rw [hop]
      try rfl
    rw [hW1] at hP hD
    exact hm_i hQ hx hb hr hlk rfl () (by rw [hop]) trivial hP hD hS (by decide) (by decide) dX4_isOrder_32
  · obtain rfl : r = nI w := hre
    have hlen : 4 + hr0 ≤ h1 := hrl.resolve_left (nI_m1 (by omega))
    refine mcV (As := []) (rest := []) (wr := []) (mX4_readsWordY l g E ho h0 a (upd (upd (upd I 8 (nI hr0)) 9 (nI om)) 10 (I 10)) (va_up F 5 (F 5)) tp hr0 (F 4) w h1 hI7 ht60 rfl (by omega) rfl hrd) kX4_readsWord q2646 hx hb hml hown hts hRf hRl ho.1.1 hE hS hP hD hA [0, 1, 2, 3, 4, 5, 6, 7, 8] [] rfl (by decide) rfl (by decide) (by decide) ⟨Nat.zero_le _, Nat.zero_le _⟩ (va_recv hK hP (ci := 0) (q0 := 0) rfl rfl) hl ⟨rfl, rfl⟩ rfl rfl (Nat.le_of_ble_eq_true rfl) dX4_isOrder_1 (fun _ H locs _ hP hD hS _ _ => ?_)
    have hP : va_P (gD g) Cl (mW g h0 a (upd (upd (upd I 8 (nI h1)) 9 (nI om)) 10 (I 10)) (va_up F 5 (F 5))) H := hP
    have hD : va_D A (mW g h0 a (upd (upd (upd I 8 (nI h1)) 9 (nI om)) 10 (I 10)) (va_up F 5 (F 5))) := hD
    refine lv_istore_n (lv' := [(1, .int (nI w)), (0, .ref h0)]) hx hb dX4_isOrder_4 rfl hl (by decide) rfl (fun ls hl => ?_)
    refine lv_iload_n hx hb dX4_isOrder_5 rfl (lv_at hl 0 rfl) ?_
    refine lv_if_lt (tgt := 31) hx hb dX4_isOrder_6 (by decide) (fun c_1 => ?_) (fun c_1 => ?_)
    · exact (nI_pos (n := w) (by omega) c_1).elim
    refine lv_aload_n hx hb dX4_isOrder_9 rfl (lv_at hl 1 rfl) ?_
    refine lv_iload_n hx hb dX4_isOrder_10 rfl (lv_at hl 0 rfl) ?_
    refine lv_iconst (v := 1) hx hb dX4_isOrder_11 (by decide) ?_
    refine h_join (J := 25) (v := if (nI w) = 1 then 3 else (if (nI w) = 2 then 3 else 1)) (rest := [.ref h0]) ?_ ?_
    rotate_left
    · intro hJ
      refine lv_icmp_eq (tgt := 20) hx hb dX4_isOrder_12 (by decide) (fun c_2 => ?_) (fun c_2 => ?_)
      · refine lv_iconst (v := 3) hx hb dX4_isOrder_20 (by decide) ?_
        refine lv_goto (tgt := 25) hx hb dX4_isOrder_21 (by decide) ?_
        exact h_topi (if_pos c_2).symm hJ
      refine lv_iload_n hx hb dX4_isOrder_15 rfl (lv_at hl 0 rfl) ?_
      refine lv_iconst (v := 2) hx hb dX4_isOrder_16 (by decide) ?_
      refine h_join (J := 25) (v := if (nI w) = 2 then 3 else 1) (rest := [.ref h0]) ?_ ?_
      rotate_left
      · intro hJ
        refine lv_icmp_ne (tgt := 24) hx hb dX4_isOrder_17 (by decide) (fun c_3 => ?_) (fun c_3 => ?_)
        · refine lv_iconst (v := 1) hx hb dX4_isOrder_24 (by decide) ?_
          exact h_topi (if_neg c_3).symm hJ
        refine lv_iconst (v := 3) hx hb dX4_isOrder_20 (by decide) ?_
        refine lv_goto (tgt := 25) hx hb dX4_isOrder_21 (by decide) ?_
        exact h_topi (if_pos c_3).symm hJ
      exact h_topi (if_neg c_2).symm hJ
    obtain ⟨d1, hd1e⟩ : ∃ d1, dig1 (nI w) = d1 := ⟨_, rfl⟩
    have hd1 : d1 ≤ 3 := hd1e ▸ dig1_le (nI w)
    obtain ⟨c1, hc1⟩ : ∃ c1, dgN (F 4) tp h1 d1 = c1 := ⟨_, rfl⟩
    obtain ⟨t1, ht1⟩ : ∃ t1, toldK (F 4) h1 c1 = t1 := ⟨_, rfl⟩
    have hin : h1 + c1 ≤ tp := hc1 ▸ dgN_in (F 4) tp h1 htp1 d1
    refine h_topi (v := nI d1) ((h_dig1 _).trans (congrArg nI hd1e)) ?_
    refine mcV (As := [.int (nI d1)]) (rest := []) (wr := []) (mX4_isNumberG l g E ho.1 h0 a (upd (upd (upd I 8 (nI h1)) 9 (nI om)) 10 (I 10)) (va_up F 5 (F 5)) d1 tp h1 (F 4) c1 t1 hI7 ht60 rfl (by omega) rfl hd1 hc1 ht1) kX4_isNumber q2656 hx hb hml hown hts hRf hRl ho.1.1 hE hS hP hD hA [0, 1, 2, 3, 4, 5, 6, 7, 8] [] rfl (by decide) rfl (by decide) (by decide) ⟨Nat.zero_le _, Nat.zero_le _⟩ (va_recv hK hP (ci := 0) (q0 := 0) rfl rfl) hl ⟨rfl, rfl⟩ rfl rfl (Nat.le_of_ble_eq_true rfl) dX4_isOrder_25 (fun _ H locs _ hP hD hS _ _ => ?_)
    have hP : va_P (gD g) Cl (mW g h0 a (upd (upd (upd I 8 (nI (h1 + c1))) 9 (nI om)) 10 t1) (va_up F 5 (F 5))) H := hP
    have hD : va_D A (mW g h0 a (upd (upd (upd I 8 (nI (h1 + c1))) 9 (nI om)) 10 t1) (va_up F 5 (F 5))) := hD
    refine h_ifne_b (tgt := 33) hx hb dX4_isOrder_28 (by decide) (fun c_4 => ?_) (fun c_4 => ?_)
    · have hom : om ≤ 9 := by omega
      refine lv_iconst (v := 3) hx hb dX4_isOrder_33 (by decide) ?_
      refine lv_aload_n hx hb dX4_isOrder_34 rfl (lv_at hl 1 rfl) ?_
      refine va_get (D := gD g) (ci := 0) (v := .int (nI om)) (C := RX4) (T := TX4) (N := 21) hx hb hts in_X4 hown hK hP 0 rfl rfl 16 (by decide) (hts _ q2330) (fun _ h9 => h9) rfl dX4_isOrder_35 ?_
      refine lv_imul hx hb dX4_isOrder_38 ?_
      refine h_topi (v := nI (3 * om)) (h_nmul (a := 3) (b := om) (rfl) (rfl)) ?_
      refine lv_istore_n (lv' := [(2, .int (nI (3 * om))), (1, .int (nI w)), (0, .ref h0)]) hx hb dX4_isOrder_39 rfl hl (by decide) rfl (fun ls hl => ?_)
      refine lv_aload_n hx hb dX4_isOrder_40 rfl (lv_at hl 2 rfl) ?_
      refine va_get (D := gD g) (ci := 0) (v := .ref (a 6)) (C := RX4) (T := TX4) (N := 21) hx hb hts in_X4 hown hK hP 0 rfl rfl 13 (by decide) (hts _ q2327) (fun _ h9 => h9) rfl dX4_isOrder_41 ?_
      refine lv_iload_n hx hb dX4_isOrder_44 rfl (lv_at hl 0 rfl) ?_
      refine lv_iload_n hx hb dX4_isOrder_45 rfl (lv_at hl 1 rfl) ?_
      refine h_iast (f := (F 5)) hx hb hK hP hD hS 6 0 rfl rfl (3 * om) rfl (by omega) (by decide) dX4_isOrder_46 (fun H locs hP hD hS => ?_)
      have hP : va_P (gD g) Cl (mW g h0 a (upd (upd (upd I 8 (nI (h1 + c1))) 9 (nI om)) 10 t1) (va_up F 5 (upd (F 5) (3 * om) (nI w)))) H := hP
      have hD : va_D A (mW g h0 a (upd (upd (upd I 8 (nI (h1 + c1))) 9 (nI om)) 10 t1) (va_up F 5 (upd (F 5) (3 * om) (nI w)))) := hD
      refine lv_aload_n hx hb dX4_isOrder_47 rfl (lv_at hl 2 rfl) ?_
      refine va_get (D := gD g) (ci := 0) (v := .ref (a 6)) (C := RX4) (T := TX4) (N := 21) hx hb hts in_X4 hown hK hP 0 rfl rfl 13 (by decide) (hts _ q2327) (fun _ h9 => h9) rfl dX4_isOrder_48 ?_
      refine lv_iload_n hx hb dX4_isOrder_51 rfl (lv_at hl 0 rfl) ?_
      refine lv_iconst (v := 1) hx hb dX4_isOrder_52 (by decide) ?_
      refine lv_iadd hx hb dX4_isOrder_53 ?_
      refine h_topi (v := nI (3 * om + 1)) (h_nadd (a := 3 * om) (b := 1) (rfl) (rfl)) ?_
      refine lv_aload_n hx hb dX4_isOrder_54 rfl (lv_at hl 2 rfl) ?_
      refine va_get (D := gD g) (ci := 0) (v := .int t1) (C := RX4) (T := TX4) (N := 21) hx hb hts in_X4 hown hK hP 0 rfl rfl 17 (by decide) (hts _ q2331) (fun _ h9 => h9) rfl dX4_isOrder_55 ?_
      refine h_iast (f := (upd (F 5) (3 * om) (nI w))) hx hb hK hP hD hS 6 0 rfl rfl (3 * om + 1) rfl (by omega) (by decide) dX4_isOrder_58 (fun H locs hP hD hS => ?_)
      have hP : va_P (gD g) Cl (mW g h0 a (upd (upd (upd I 8 (nI (h1 + c1))) 9 (nI om)) 10 t1) (va_up F 5 (upd (upd (F 5) (3 * om) (nI w)) (3 * om + 1) t1))) H := hP
      have hD : va_D A (mW g h0 a (upd (upd (upd I 8 (nI (h1 + c1))) 9 (nI om)) 10 t1) (va_up F 5 (upd (upd (F 5) (3 * om) (nI w)) (3 * om + 1) t1))) := hD
      refine lv_aload_n hx hb dX4_isOrder_59 rfl (lv_at hl 2 rfl) ?_
      refine lv_dup hx hb dX4_isOrder_60 rfl ?_
      refine va_get (D := gD g) (ci := 0) (v := .int (nI om)) (C := RX4) (T := TX4) (N := 21) hx hb hts in_X4 hown hK hP 0 rfl rfl 16 (by decide) (hts _ q2330) (fun _ h9 => h9) rfl dX4_isOrder_61 ?_
      refine lv_iconst (v := 1) hx hb dX4_isOrder_64 (by decide) ?_
      refine lv_iadd hx hb dX4_isOrder_65 ?_
      refine h_topi (v := nI (om + 1)) (h_nadd (a := om) (b := 1) (rfl) (rfl)) ?_
      refine va_put (D := gD g) (ci := 0) (v := .int (nI (om + 1))) (ty := .int) (C := RX4) (T := TX4) (N := 21) hx hb hts in_X4 tyX4 tyX4_ok nmX4 hown hK hP hD hS 0 rfl rfl 16 (by decide) (hts _ q2330) (fun _ h9 => h9) rfl (by decide +kernel) rfl rfl (Nat.le_of_ble_eq_true rfl) dX4_isOrder_66 (fun H locs hP hD hS => ?_)
      have hP : va_P (gD g) Cl (mW g h0 a (upd (upd (upd I 8 (nI (h1 + c1))) 10 t1) 9 (nI (om + 1))) (va_up F 5 (upd (upd (F 5) (3 * om) (nI w)) (3 * om + 1) t1))) H := hP
      have hD : va_D A (mW g h0 a (upd (upd (upd I 8 (nI (h1 + c1))) 10 t1) 9 (nI (om + 1))) (va_up F 5 (upd (upd (F 5) (3 * om) (nI w)) (3 * om + 1) t1))) := hD
      refine lv_iload_n hx hb dX4_isOrder_69 rfl (lv_at hl 1 rfl) ?_
      refine lv_bipush (v := 6) hx hb dX4_isOrder_70 (by decide) ?_
      refine lv_icmp_lt (tgt := 77) hx hb dX4_isOrder_72 (by decide) (fun c_5 => ?_) (fun c_5 => ?_)
      · by_cases hsg : sgn (F 4) tp (h1 + c1) = sgo (nI w)
        · have hsl : h1 + c1 < tp := by
            rcases Nat.lt_or_ge (h1 + c1) tp with z | z
            · exact z
            · exfalso
              unfold sgn at hsg
              rw [if_neg (by omega)] at hsg
              exact h_sgo _ hsg
          refine lv_aload_n hx hb dX4_isOrder_77 rfl (lv_at hl 2 rfl) ?_
          refine lv_iload_n hx hb dX4_isOrder_78 rfl (lv_at hl 1 rfl) ?_
          refine rcS (As := [.int (nI w)]) (rest := [.ref h0]) (st1 := [.int (sgo (nI w)), .ref h0]) (mX4_signOf l g E ho.1 (nI w)) kX4_signOf q2664 hx hb hml hown hts hRf hRl ho.1.1 hE hS (hP.sub [] rfl) ⟨Nat.zero_le _, Nat.zero_le _⟩ hl ⟨rfl, rfl⟩ rfl rfl (Nat.le_of_ble_eq_true rfl) rfl dX4_isOrder_79 ?_
          refine mcV (As := [.int (sgo (nI w))]) (rest := []) (wr := []) (mX4_isSignY l g E ho.1 h0 a (upd (upd (upd I 8 (nI (h1 + c1))) 10 t1) 9 (nI (om + 1))) (va_up F 5 (upd (upd (F 5) (3 * om) (nI w)) (3 * om + 1) t1)) (sgo (nI w)) tp (h1 + c1) (F 4) hI7 ht60 rfl (by omega) rfl hsg) kX4_isSign q2667 hx hb hml hown hts hRf hRl ho.1.1 hE hS hP hD hA [0, 1, 2, 3, 4, 5, 6, 7, 8] [] rfl (by decide) rfl (by decide) (by decide) ⟨Nat.zero_le _, Nat.zero_le _⟩ (va_recv hK hP (ci := 0) (q0 := 0) rfl rfl) hl ⟨rfl, rfl⟩ rfl rfl (Nat.le_of_ble_eq_true rfl) dX4_isOrder_82 (fun _ H locs _ hP hD hS _ _ => ?_)
          have hP : va_P (gD g) Cl (mW g h0 a (upd (upd (upd I 8 (nI (h1 + c1 + 1))) 10 t1) 9 (nI (om + 1))) (va_up F 5 (upd (upd (F 5) (3 * om) (nI w)) (3 * om + 1) t1))) H := hP
          have hD : va_D A (mW g h0 a (upd (upd (upd I 8 (nI (h1 + c1 + 1))) 10 t1) 9 (nI (om + 1))) (va_up F 5 (upd (upd (F 5) (3 * om) (nI w)) (3 * om + 1) t1))) := hD
          refine lv_if_eq (tgt := 110) hx hb dX4_isOrder_85 (by decide) (fun c => absurd c (by decide)) (fun _ => ?_)
          refine lv_aload_n hx hb dX4_isOrder_88 rfl (lv_at hl 2 rfl) ?_
          refine lv_iload_n hx hb dX4_isOrder_89 rfl (lv_at hl 1 rfl) ?_
          refine lv_iconst (v := 2) hx hb dX4_isOrder_90 (by decide) ?_
          refine h_join (J := 104) (v := if (nI w) = 2 then 1 else (if (nI w) = 4 then 1 else 3)) (rest := [.ref h0]) ?_ ?_
          rotate_left
          · intro hJ
            refine lv_icmp_eq (tgt := 99) hx hb dX4_isOrder_91 (by decide) (fun c_6 => ?_) (fun c_6 => ?_)
            · refine lv_iconst (v := 1) hx hb dX4_isOrder_99 (by decide) ?_
              refine lv_goto (tgt := 104) hx hb dX4_isOrder_100 (by decide) ?_
              exact h_topi (if_pos c_6).symm hJ
            refine lv_iload_n hx hb dX4_isOrder_94 rfl (lv_at hl 1 rfl) ?_
            refine lv_iconst (v := 4) hx hb dX4_isOrder_95 (by decide) ?_
            refine h_join (J := 104) (v := if (nI w) = 4 then 1 else 3) (rest := [.ref h0]) ?_ ?_
            rotate_left
            · intro hJ
              refine lv_icmp_ne (tgt := 103) hx hb dX4_isOrder_96 (by decide) (fun c_7 => ?_) (fun c_7 => ?_)
              · refine lv_iconst (v := 3) hx hb dX4_isOrder_103 (by decide) ?_
                exact h_topi (if_neg c_7).symm hJ
              refine lv_iconst (v := 1) hx hb dX4_isOrder_99 (by decide) ?_
              refine lv_goto (tgt := 104) hx hb dX4_isOrder_100 (by decide) ?_
              exact h_topi (if_pos c_7).symm hJ
            exact h_topi (if_neg c_6).symm hJ
          obtain ⟨d2, hd2e⟩ : ∃ d2, dig2 (nI w) = d2 := ⟨_, rfl⟩
          have hd2 : d2 ≤ 3 := hd2e ▸ dig2_le (nI w)
          obtain ⟨c2, hc2⟩ : ∃ c2, dgN (F 4) tp (h1 + c1 + 1) d2 = c2 := ⟨_, rfl⟩
          obtain ⟨t2, ht2⟩ : ∃ t2, toldK (F 4) (h1 + c1 + 1) c2 = t2 := ⟨_, rfl⟩
          refine h_topi (v := nI d2) ((h_dig2 _).trans (congrArg nI hd2e)) ?_
          refine mcV (As := [.int (nI d2)]) (rest := []) (wr := []) (mX4_isNumberG l g E ho.1 h0 a (upd (upd (upd I 8 (nI (h1 + c1 + 1))) 10 t1) 9 (nI (om + 1))) (va_up F 5 (upd (upd (F 5) (3 * om) (nI w)) (3 * om + 1) t1)) d2 tp (h1 + c1 + 1) (F 4) c2 t2 hI7 ht60 rfl (by omega) rfl hd2 hc2 ht2) kX4_isNumber q2656 hx hb hml hown hts hRf hRl ho.1.1 hE hS hP hD hA [0, 1, 2, 3, 4, 5, 6, 7, 8] [] rfl (by decide) rfl (by decide) (by decide) ⟨Nat.zero_le _, Nat.zero_le _⟩ (va_recv hK hP (ci := 0) (q0 := 0) rfl rfl) hl ⟨rfl, rfl⟩ rfl rfl (Nat.le_of_ble_eq_true rfl) dX4_isOrder_104 (fun _ H locs _ hP hD hS _ _ => ?_)
          have hP : va_P (gD g) Cl (mW g h0 a (upd (upd (upd I 8 (nI (h1 + c1 + 1 + c2))) 10 t2) 9 (nI (om + 1))) (va_up F 5 (upd (upd (F 5) (3 * om) (nI w)) (3 * om + 1) t1))) H := hP
          have hD : va_D A (mW g h0 a (upd (upd (upd I 8 (nI (h1 + c1 + 1 + c2))) 10 t2) 9 (nI (om + 1))) (va_up F 5 (upd (upd (F 5) (3 * om) (nI w)) (3 * om + 1) t1))) := hD
          refine h_ifne_b (tgt := 112) hx hb dX4_isOrder_107 (by decide) (fun c_8 => ?_) (fun c_8 => ?_)
          · refine lv_aload_n hx hb dX4_isOrder_112 rfl (lv_at hl 2 rfl) ?_
            refine va_get (D := gD g) (ci := 0) (v := .ref (a 6)) (C := RX4) (T := TX4) (N := 21) hx hb hts in_X4 hown hK hP 0 rfl rfl 13 (by decide) (hts _ q2327) (fun _ h9 => h9) rfl dX4_isOrder_113 ?_
            refine lv_iload_n hx hb dX4_isOrder_116 rfl (lv_at hl 0 rfl) ?_
            refine lv_iconst (v := 2) hx hb dX4_isOrder_117 (by decide) ?_
            refine lv_iadd hx hb dX4_isOrder_118 ?_
            refine h_topi (v := nI (3 * om + 2)) (h_nadd (a := 3 * om) (b := 2) (rfl) (rfl)) ?_
            refine lv_aload_n hx hb dX4_isOrder_119 rfl (lv_at hl 2 rfl) ?_
            refine va_get (D := gD g) (ci := 0) (v := .int t2) (C := RX4) (T := TX4) (N := 21) hx hb hts in_X4 hown hK hP 0 rfl rfl 17 (by decide) (hts _ q2331) (fun _ h9 => h9) rfl dX4_isOrder_120 ?_
            refine h_iast (f := (upd (upd (F 5) (3 * om) (nI w)) (3 * om + 1) t1)) hx hb hK hP hD hS 6 0 rfl rfl (3 * om + 2) rfl (by omega) (by decide) dX4_isOrder_123 (fun H locs hP hD hS => ?_)
            have hP : va_P (gD g) Cl (mW g h0 a (upd (upd (upd I 8 (nI (h1 + c1 + 1 + c2))) 10 t2) 9 (nI (om + 1))) (va_up F 5 (upd (upd (upd (F 5) (3 * om) (nI w)) (3 * om + 1) t1) (3 * om + 2) t2))) H := hP
            have hD : va_D A (mW g h0 a (upd (upd (upd I 8 (nI (h1 + c1 + 1 + c2))) 10 t2) 9 (nI (om + 1))) (va_up F 5 (upd (upd (upd (F 5) (3 * om) (nI w)) (3 * om + 1) t1) (3 * om + 2) t2))) := hD
            refine lv_iconst (v := 1) hx hb dX4_isOrder_124 (by decide) ?_
            have hop : ordR (F 4) tp hr0 om (I 10) (F 5) = (1, h1 + c1 + 1 + c2, om + 1, t2, (upd (upd (upd (F 5) (3 * om) (nI w)) (3 * om + 1) t1) (3 * om + 2) t2)) := by simp only [ordR, ordB, ordC, hrd, eq_false (nI_pos (n := w) (by omega) : ¬ nI w < 0), hd1e, hc1, ht1, eq_true hsg, hd2e, hc2, ht2, eq_false c_1, eq_true (Int32.not_lt.mp c_1), eq_true c_4, eq_true c_5, eq_false (Int32.not_le.mpr c_5), eq_true c_8, if_true, if_false, not_true_eq_false, not_false_eq_true, ite_true, ite_false, reduceIte, Nat.add_zero, Nat.add_sub_cancel]
            have hW1 : (mW g h0 a (upd (upd (upd I 8 (nI (h1 + c1 + 1 + c2))) 10 t2) 9 (nI (om + 1))) (va_up F 5 (upd (upd (upd (F 5) (3 * om) (nI w)) (3 * om + 1) t1) (3 * om + 2) t2))) = mW g h0 a (txI I (ordR (F 4) tp hr0 om (I 10) (F 5))) (txF F (ordR (F 4) tp hr0 om (I 10) (F 5))) := by
              rw [hop]
              try rfl
            rw [hW1] at hP hD
            exact hm_i hQ hx hb hr hlk rfl () (by rw [hop]) trivial hP hD hS (by decide) (by decide) dX4_isOrder_125
          refine lv_iconst (v := 0) hx hb dX4_isOrder_110 (by decide) ?_
          have hop : ordR (F 4) tp hr0 om (I 10) (F 5) = (0, h1 + c1 + 1 + c2, om + 1, t2, (upd (upd (F 5) (3 * om) (nI w)) (3 * om + 1) t1)) := by simp only [ordR, ordB, ordC, hrd, eq_false (nI_pos (n := w) (by omega) : ¬ nI w < 0), hd1e, hc1, ht1, eq_true hsg, hd2e, hc2, ht2, eq_false c_1, eq_true (Int32.not_lt.mp c_1), eq_true c_4, eq_true c_5, eq_false (Int32.not_le.mpr c_5), eq_false c_8, if_true, if_false, not_true_eq_false, not_false_eq_true, ite_true, ite_false, reduceIte, Nat.add_zero, Nat.add_sub_cancel]
          have hW1 : (mW g h0 a (upd (upd (upd I 8 (nI (h1 + c1 + 1 + c2))) 10 t2) 9 (nI (om + 1))) (va_up F 5 (upd (upd (F 5) (3 * om) (nI w)) (3 * om + 1) t1))) = mW g h0 a (txI I (ordR (F 4) tp hr0 om (I 10) (F 5))) (txF F (ordR (F 4) tp hr0 om (I 10) (F 5))) := by
            rw [hop]
            try rfl
          rw [hW1] at hP hD
          exact hm_i hQ hx hb hr hlk rfl () (by rw [hop]) trivial hP hD hS (by decide) (by decide) dX4_isOrder_111
        · skip
          refine lv_aload_n hx hb dX4_isOrder_77 rfl (lv_at hl 2 rfl) ?_
          refine lv_iload_n hx hb dX4_isOrder_78 rfl (lv_at hl 1 rfl) ?_
          refine rcS (As := [.int (nI w)]) (rest := [.ref h0]) (st1 := [.int (sgo (nI w)), .ref h0]) (mX4_signOf l g E ho.1 (nI w)) kX4_signOf q2664 hx hb hml hown hts hRf hRl ho.1.1 hE hS (hP.sub [] rfl) ⟨Nat.zero_le _, Nat.zero_le _⟩ hl ⟨rfl, rfl⟩ rfl rfl (Nat.le_of_ble_eq_true rfl) rfl dX4_isOrder_79 ?_
          refine mcV (As := [.int (sgo (nI w))]) (rest := []) (wr := []) (mX4_isSignN l g E ho.1 h0 a (upd (upd (upd I 8 (nI (h1 + c1))) 10 t1) 9 (nI (om + 1))) (va_up F 5 (upd (upd (F 5) (3 * om) (nI w)) (3 * om + 1) t1)) (sgo (nI w)) tp (h1 + c1) (F 4) hI7 ht60 rfl (by omega) rfl hsg) kX4_isSign q2667 hx hb hml hown hts hRf hRl ho.1.1 hE hS hP hD hA [0, 1, 2, 3, 4, 5, 6, 7, 8] [] rfl (by decide) rfl (by decide) (by decide) ⟨Nat.zero_le _, Nat.zero_le _⟩ (va_recv hK hP (ci := 0) (q0 := 0) rfl rfl) hl ⟨rfl, rfl⟩ rfl rfl (Nat.le_of_ble_eq_true rfl) dX4_isOrder_82 (fun _ H locs _ hP hD hS _ _ => ?_)
          have hP : va_P (gD g) Cl (mW g h0 a (upd (upd (upd I 8 (nI (h1 + c1))) 10 t1) 9 (nI (om + 1))) (va_up F 5 (upd (upd (F 5) (3 * om) (nI w)) (3 * om + 1) t1))) H := hP
          have hD : va_D A (mW g h0 a (upd (upd (upd I 8 (nI (h1 + c1))) 10 t1) 9 (nI (om + 1))) (va_up F 5 (upd (upd (F 5) (3 * om) (nI w)) (3 * om + 1) t1))) := hD
          refine lv_if_eq (tgt := 110) hx hb dX4_isOrder_85 (by decide) (fun _ => ?_) (fun c => absurd c (by decide))
          refine lv_iconst (v := 0) hx hb dX4_isOrder_110 (by decide) ?_
          have hop : ordR (F 4) tp hr0 om (I 10) (F 5) = (0, h1 + c1, om + 1, t1, (upd (upd (F 5) (3 * om) (nI w)) (3 * om + 1) t1)) := by simp only [ordR, ordB, ordC, hrd, eq_false (nI_pos (n := w) (by omega) : ¬ nI w < 0), hd1e, hc1, ht1, eq_false hsg, eq_false c_1, eq_true (Int32.not_lt.mp c_1), eq_true c_4, eq_true c_5, eq_false (Int32.not_le.mpr c_5), if_true, if_false, not_true_eq_false, not_false_eq_true, ite_true, ite_false, reduceIte, Nat.add_zero, Nat.add_sub_cancel]
          have hW1 : (mW g h0 a (upd (upd (upd I 8 (nI (h1 + c1))) 10 t1) 9 (nI (om + 1))) (va_up F 5 (upd (upd (F 5) (3 * om) (nI w)) (3 * om + 1) t1))) = mW g h0 a (txI I (ordR (F 4) tp hr0 om (I 10) (F 5))) (txF F (ordR (F 4) tp hr0 om (I 10) (F 5))) := by
            rw [hop]
            try rfl
          rw [hW1] at hP hD
          exact hm_i hQ hx hb hr hlk rfl () (by rw [hop]) trivial hP hD hS (by decide) (by decide) dX4_isOrder_111
      refine lv_iconst (v := 1) hx hb dX4_isOrder_75 (by decide) ?_
      have hop : ordR (F 4) tp hr0 om (I 10) (F 5) = (1, h1 + c1, om + 1, t1, (upd (upd (F 5) (3 * om) (nI w)) (3 * om + 1) t1)) := by simp only [ordR, ordB, ordC, hrd, eq_false (nI_pos (n := w) (by omega) : ¬ nI w < 0), hd1e, hc1, ht1, eq_false c_1, eq_true (Int32.not_lt.mp c_1), eq_true c_4, eq_false c_5, eq_true (Int32.not_lt.mp c_5), if_true, if_false, not_true_eq_false, not_false_eq_true, ite_true, ite_false, reduceIte, Nat.add_zero, Nat.add_sub_cancel]
      have hW1 : (mW g h0 a (upd (upd (upd I 8 (nI (h1 + c1))) 10 t1) 9 (nI (om + 1))) (va_up F 5 (upd (upd (F 5) (3 * om) (nI w)) (3 * om + 1) t1))) = mW g h0 a (txI I (ordR (F 4) tp hr0 om (I 10) (F 5))) (txF F (ordR (F 4) tp hr0 om (I 10) (F 5))) := by
        rw [hop]
        try rfl
      rw [hW1] at hP hD
      exact hm_i hQ hx hb hr hlk rfl () (by rw [hop]) trivial hP hD hS (by decide) (by decide) dX4_isOrder_76
    refine lv_iconst (v := 0) hx hb dX4_isOrder_31 (by decide) ?_
    have hop : ordR (F 4) tp hr0 om (I 10) (F 5) = (0, h1 + c1, om, t1, (F 5)) := by simp only [ordR, ordB, ordC, hrd, eq_false (nI_pos (n := w) (by omega) : ¬ nI w < 0), hd1e, hc1, ht1, eq_false c_1, eq_true (Int32.not_lt.mp c_1), eq_false c_4, if_true, if_false, not_true_eq_false, not_false_eq_true, ite_true, ite_false, reduceIte, Nat.add_zero, Nat.add_sub_cancel]
    have hW1 : (mW g h0 a (upd (upd (upd I 8 (nI (h1 + c1))) 9 (nI om)) 10 t1) (va_up F 5 (F 5))) = mW g h0 a (txI I (ordR (F 4) tp hr0 om (I 10) (F 5))) (txF F (ordR (F 4) tp hr0 om (I 10) (F 5))) := by
      rw [hop]
      try rfl
    rw [hW1] at hP hD
    exact hm_i hQ hx hb hr hlk rfl () (by rw [hop]) trivial hP hD hS (by decide) (by decide) dX4_isOrder_32
