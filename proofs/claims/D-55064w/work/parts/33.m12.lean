/-! THE REFERENCE: words -/
set_option maxRecDepth 100000
/-! WORDS, as functions on the tape -/
theorem stN_le : ∀ j : Nat, j < 68 → stN j ≤ 30 := by decide +kernel
theorem stN_wd : ∀ w : Nat, w < 8 → stN (60 + w) ≤ 6 := by decide +kernel
/-- the word wd begins with what stands from b to e -/
abbrev begP (T : Nat → Int32) (wd b e : Nat) : Prop := e - b ≤ stN (60 + wd) ∧ ∀ k : Nat, k < e - b → T (b + k) = stF (60 + wd) k &&& 255
def anyB (T : Nat → Int32) (b e : Nat) : Nat → Bool
  | 0 => false
  | w + 1 => anyB T b e w || decide (begP T w b e)
theorem anyB_le (T : Nat → Int32) (b e : Nat) : ∀ n : Nat, n ≤ 8 → anyB T b e n = true → e - b ≤ 6
  | 0, _, h => Bool.noConfusion h
  | n + 1, hn, h => by
    unfold anyB at h
    rcases Bool.or_eq_true _ _ ▸ h with q | q
    · exact anyB_le T b e n (by omega) q
    · have := of_decide_eq_true q
      have h2 := stN_wd n (by omega)
      have h3 := this.1
      omega
theorem h_ior (x : Bool) (P : Prop) [Decidable P] : ((if x = true then 1 else 0 : Int32) ||| (if P then 1 else 0)) = if (x || decide P) = true then 1 else 0 := by
  cases x <;> by_cases h : P <;> simp [h]
/-- the first of d words from w on that stands from b to e -/
def fwF (T : Nat → Int32) (b e : Nat) : Nat → Nat → Int32
  | 0, _ => -1
  | d + 1, w => if e - b = stN (60 + w) ∧ begP T w b e then nI w else fwF T b e d (w + 1)
theorem fwF_ix (T : Nat → Int32) (b e : Nat) : ∀ d w : Nat, w + d ≤ 8 → fwF T b e d w = -1 ∨ ∃ j : Nat, j < 8 ∧ fwF T b e d w = nI j
  | 0, _, _ => Or.inl rfl
  | d + 1, w, h => by
    unfold fwF
    split
    · exact Or.inr ⟨w, by omega, rfl⟩
    · exact fwF_ix T b e d (w + 1) (by omega)
/-- the word that stands from b on; h is read so far -/
def rdW (T : Nat → Int32) (n b : Nat) : Nat → Nat → Int32 × Nat
  | 0, h => (-1, h)
  | f + 1, h => if h < n ∧ anyB T b (h + 1) 8 = true then (if fwF T b (h + 1) 8 0 = -1 then rdW T n b f (h + 1) else (fwF T b (h + 1) 8 0, h + 1)) else (-1, h)
theorem rdW_ix (T : Nat → Int32) (n b : Nat) : ∀ f h : Nat, ((rdW T n b f h).1 = -1 ∨ ∃ j : Nat, j < 8 ∧ (rdW T n b f h).1 = nI j) ∧ h ≤ (rdW T n b f h).2 ∧ (h ≤ n → (rdW T n b f h).2 ≤ n)
  | 0, h => ⟨Or.inl rfl, Nat.le_refl _, fun q => q⟩
  | f + 1, h => by
    unfold rdW
    split
    · next q =>
      split
      · have := rdW_ix T n b f (h + 1)
        exact ⟨this.1, by omega, fun _ => this.2.2 (by omega)⟩
      · next q2 => exact ⟨fwF_ix T b (h + 1) 8 0 (by omega), by omega, fun _ => by omega⟩
    · exact ⟨Or.inl rfl, Nat.le_refl _, fun q => q⟩

theorem kX4_isBegun : hkV RX4 yX4_isBegun cX4_isBegun 5 (some .boolean) 3 := ⟨q2652, qs54, q78, q2653, rfl, by decide +kernel⟩
set_option maxHeartbeats 4000000 in
theorem mX4_isBegun (l : Launch) (g : hG) (E : hEnv) (ho : jOk g E) (h0 : Nat) (a : Nat → Nat) (I : Nat → Int32) (F : Nat → Nat → Int32) (wd : Nat) (bg : Nat) (en : Nat) (hwd : wd < 8) (hbg : bg ≤ en) (hen : en ≤ 60) : RM l yX4_isBegun cX4_isBegun 5 (some .boolean) 4 85 [.ref h0, .ref (gA g (60 + wd)), .int (nI bg), .int (nI en)] g E (mW g h0 a I F) (some (.int (if begP (F 4) wd bg en then 1 else 0))) := by
  refine RM.mk (by decide) (Nat.le_of_ble_eq_true rfl) ?_
  intro p e R s m args below meth c Q ls hX hP hE hS hl hQ
  obtain ⟨hx, hb, hr, hlk, hml, hown, hts, hRf, hRl⟩ := hX
  have hown : s.vm.findClass RX4 = some m.cls := hown
  have hj := ho.2 _ _ _ hE
  have hK := hj.kn
  have hl : lv_has ls 5 [(0, .ref h0), (1, .ref (gA g (60 + wd))), (2, .int (nI bg)), (3, .int (nI en))] := hl
  have hw := (hj.st (60 + wd) (by omega)).at hS
  refine lv_iload_n hx hb dX4_isBegun_0 rfl (lv_at hl 3 rfl) ?_
  refine lv_iload_n hx hb dX4_isBegun_1 rfl (lv_at hl 2 rfl) ?_
  refine lv_isub hx hb dX4_isBegun_2 ?_
  refine h_topi (v := nI (en - bg)) (h_nsub (a := en) (b := bg) (rfl) (rfl) (by omega)) ?_
  refine lv_aload_n hx hb dX4_isBegun_3 rfl (lv_at hl 1 rfl) ?_
  refine rcV (As := []) (rest := [.int (nI (en - bg))]) (st1 := [.int (nI (stN (60 + wd))), .int (nI (en - bg))]) (jJ6_length0 l g E ho (gA g (60 + wd)) (gA g (100 + (60 + wd))) ((stHL.getD (60 + wd) (0, 0)).1) ((stHL.getD (60 + wd) (0, 0)).2) (stN (60 + wd)) (stF (60 + wd)) (by have := stN_le (60 + wd) (by omega); omega)) kJ6_length q2654 hx hb hml hown hts hRf hRl ho.1.1 hE hS (hw.sub [0, 1] rfl) (va_recv hK hw (ci := 16) (q0 := 0) rfl rfl) ⟨Nat.zero_le _, Nat.zero_le _⟩ hl ⟨rfl, rfl⟩ rfl rfl (Nat.le_of_ble_eq_true rfl) rfl dX4_isBegun_4 ?_
  refine lv_icmp_le (tgt := 12) hx hb dX4_isBegun_7 (by decide) (fun c_1 => ?_) (fun c_1 => ?_)
  · have hle : en - bg ≤ stN (60 + wd) := by
      rcases Nat.lt_or_ge (stN (60 + wd)) (en - bg) with z | z
      · exact absurd c_1 (nI_ge (a := stN (60 + wd)) (b := en - bg) z (by omega))
      · exact z
    refine lv_iload_n hx hb dX4_isBegun_12 rfl (lv_at hl 2 rfl) ?_
    refine lv_istore (lv' := [(4, .int (nI bg)), (0, .ref h0), (1, .ref (gA g (60 + wd))), (2, .int (nI bg)), (3, .int (nI en))]) hx hb dX4_isBegun_13 hl (by decide) rfl (fun ls hl => ?_)
    have loop_15 : ∀ (k : Nat) (i : Nat), (en - bg < i + k ∧ i ≤ en - bg ∧ ∀ q : Nat, q < i → F 4 (bg + q) = stF (60 + wd) q &&& 255) → ∀ (ls : Array Slot), lv_has ls 5 [(4, .int (nI (bg + i))), (0, .ref h0), (1, .ref (gA g (60 + wd))), (2, .int (nI bg)), (3, .int (nI en))] → W p l e R s m args below meth c s.heap [] 0 0 Q (F0 m 15 ls []) := by
      intro k
      induction k with
      | zero =>
        intro i hi  ls hl
        exact absurd hi.1 (by omega)
      | succ k ih_15 =>
        intro i hi  ls hl
        obtain ⟨hi1, hi2, hi3⟩ := hi
        refine lv_iload hx hb dX4_isBegun_15 (lv_at hl 0 rfl) ?_
        refine lv_iload_n hx hb dX4_isBegun_17 rfl (lv_at hl 4 rfl) ?_
        refine lv_icmp_ge (tgt := 47) hx hb dX4_isBegun_18 (by decide) (fun c_2 => ?_) (fun c_2 => ?_)
        · have hiq : i = en - bg := by
            rcases Nat.lt_or_ge i (en - bg) with z | z
            · exact absurd c_2 (nI_ge (a := bg + i) (b := en) (by omega) (by omega))
            · omega
          have hbe : begP (F 4) wd bg en := ⟨hle, by rw [← hiq]; exact hi3⟩
          refine lv_iconst (v := 1) hx hb dX4_isBegun_47 (by decide) ?_
          exact hr_i hQ hx hb hr hlk rfl (by first | rw [if_pos hbe] | rw [if_neg hbe]) dX4_isBegun_48
        have hlt : i < en - bg := by
          rcases Nat.lt_or_ge i (en - bg) with z | z
          · exact z
          · exact absurd (nI_le (a := en) (b := bg + i) (by omega) (by omega)) c_2
        refine lv_aload_n hx hb dX4_isBegun_21 rfl (lv_at hl 1 rfl) ?_
        refine va_get (D := gD g) (ci := 0) (v := .ref (a 5)) (C := RX4) (T := TX4) (N := 21) hx hb hts in_X4 hown hK hP 0 rfl rfl 12 (by decide) (hts _ q2326) (fun _ h9 => h9) rfl dX4_isBegun_22 ?_
        refine lv_iload hx hb dX4_isBegun_25 (lv_at hl 0 rfl) ?_
        refine h_iald (f := (F 4)) hx hb hK hP 5 0 rfl rfl (bg + i) rfl (by omega) (by decide) dX4_isBegun_27 ?_
        refine lv_aload_n hx hb dX4_isBegun_28 rfl (lv_at hl 2 rfl) ?_
        refine lv_iload hx hb dX4_isBegun_29 (lv_at hl 0 rfl) ?_
        refine lv_iload_n hx hb dX4_isBegun_31 rfl (lv_at hl 3 rfl) ?_
        refine lv_isub hx hb dX4_isBegun_32 ?_
        refine h_topi (v := nI ((bg + i) - bg)) (h_nsub (a := bg + i) (b := bg) (rfl) (rfl) (by omega)) ?_
        refine h_topi (v := nI i) (congrArg nI (by omega)) ?_
        refine rcV (As := [.int (nI i)]) (rest := [.int (F 4 (bg + i))]) (st1 := [.int ((stF (60 + wd)) i &&& 255), .int (F 4 (bg + i))]) (jJ6_charAt0 l g E ho (gA g (60 + wd)) (gA g (100 + (60 + wd))) ((stHL.getD (60 + wd) (0, 0)).1) ((stHL.getD (60 + wd) (0, 0)).2) (stN (60 + wd)) (stF (60 + wd)) i (by omega) (by have := stN_le (60 + wd) (by omega); omega)) kJ6_charAt q2655 hx hb hml hown hts hRf hRl ho.1.1 hE hS (hw.sub [0, 1] rfl) (va_recv hK hw (ci := 16) (q0 := 0) rfl rfl) ⟨Nat.zero_le _, Nat.zero_le _⟩ hl ⟨rfl, rfl⟩ rfl rfl (Nat.le_of_ble_eq_true rfl) rfl dX4_isBegun_33 ?_
        refine lv_icmp_eq (tgt := 41) hx hb dX4_isBegun_36 (by decide) (fun c_3 => ?_) (fun c_3 => ?_)
        · refine lv_iinc (v := nI (bg + i + 1)) (lv' := [(4, .int (nI (bg + i + 1))), (0, .ref h0), (1, .ref (gA g (60 + wd))), (2, .int (nI bg)), (3, .int (nI en))]) hx hb dX4_isBegun_41 hl (k := 0) rfl (h_ninc (a := bg + i) (k := 1) (rfl)) (by decide) rfl (fun ls hl => ?_)
          refine lv_goto (tgt := 15) hx hb dX4_isBegun_44 (by decide) ?_
          exact ih_15 (i + 1) ⟨by omega, by omega, fun q hq => (Nat.lt_or_ge q i).elim (fun z => hi3 q z) (fun z => by rw [show q = i from (by omega)]; exact c_3)⟩  ls (lv_sub hl [0, 1, 2, 3, 4] rfl)
        have hbe : ¬ begP (F 4) wd bg en := fun z => c_3 (z.2 i hlt)
        refine lv_iconst (v := 0) hx hb dX4_isBegun_39 (by decide) ?_
        exact hr_i hQ hx hb hr hlk rfl (by first | rw [if_pos hbe] | rw [if_neg hbe]) dX4_isBegun_40
    exact loop_15 (en - bg + 1) 0 ⟨by omega, by omega, fun q hq => absurd hq (Nat.not_lt_zero _)⟩  ls (lv_sub hl [0, 1, 2, 3, 4] rfl)
  have hbe : ¬ begP (F 4) wd bg en := fun z => absurd (nI_le (a := en - bg) (b := stN (60 + wd)) z.1 (by have := stN_le (60 + wd) (by omega); omega)) c_1
  refine lv_iconst (v := 0) hx hb dX4_isBegun_10 (by decide) ?_
  exact hr_i hQ hx hb hr hlk rfl (by first | rw [if_pos hbe] | rw [if_neg hbe]) dX4_isBegun_11
theorem kX4_readsWord : hkV RX4 yX4_readsWord cX4_readsWord 4 (some .int) 0 := ⟨q2648, qs53, q78, q2649, rfl, by decide +kernel⟩
set_option maxHeartbeats 4000000 in
theorem mX4_readsWord (l : Launch) (g : hG) (E : hEnv) (ho : jOk g E) (h0 : Nat) (a : Nat → Nat) (I : Nat → Int32) (F : Nat → Nat → Int32) (tp : Nat) (hr0 : Nat) (T : Nat → Int32) (hI7 : I 7 = nI tp) (ht60 : tp ≤ 60) (hI8 : I 8 = nI hr0) (hh60 : hr0 ≤ 60) (hT : F 4 = T) : MM l yX4_readsWord cX4_readsWord 4 (some .int) 5 109 0 0 [.ref h0] g E (mW g h0 a I F) (S := Unit) (fun _ => (some (.int ((rdW T tp hr0 8 hr0).1)))) (fun _ => True) (fun _ => mW g h0 a (upd I 8 (nI (rdW T tp hr0 8 hr0).2)) F) := by
  refine MM.mk (by decide) (Nat.le_of_ble_eq_true rfl) ?_
  intro p e R s m args below meth c Q A H locs ls hX hRc hRs hP hD hE hS hA hnm hl hQ
  obtain ⟨hx, hb, hr, hlk, hml, hown, hts, hRf, hRl⟩ := hX
  have hown : s.vm.findClass RX4 = some m.cls := hown
  have hj := ho.2 _ _ _ hE
  have hK := hj.kn
  have hl : lv_has ls 4 [(0, .ref h0)] := hl
  subst hT
  refine lv_aload_n hx hb dX4_readsWord_0 rfl (lv_at hl 0 rfl) ?_
  refine va_get (D := gD g) (ci := 0) (v := .int (I 8)) (C := RX4) (T := TX4) (N := 21) hx hb hts in_X4 hown hK hP 0 rfl rfl 15 (by decide) (hts _ q2329) (fun _ h9 => h9) rfl dX4_readsWord_1 ?_
  refine h_topi (v := nI hr0) (hI8) ?_
  refine lv_istore_n (lv' := [(1, .int (nI hr0)), (0, .ref h0)]) hx hb dX4_readsWord_4 rfl hl (by decide) rfl (fun ls hl => ?_)
  refine lv_iconst (v := 1) hx hb dX4_readsWord_5 (by decide) ?_
  refine lv_istore_n (lv' := [(2, .int 1), (1, .int (nI hr0)), (0, .ref h0)]) hx hb dX4_readsWord_6 rfl hl (by decide) rfl (fun ls hl => ?_)
  have loop_7 : ∀ (k : Nat) (h : Nat) (x0 : Int32), (h = hr0 + 8 - k ∧ k ≤ 8 ∧ h ≤ hr0 + 6 ∧ h ≤ 60 ∧ rdW (F 4) tp hr0 8 hr0 = rdW (F 4) tp hr0 k h ∧ x0 = 1) → ∀ (H : Heap) (locs : List Loc), va_P (gD g) Cl (mW g h0 a (upd I 8 (nI h)) F) H → va_D A (mW g h0 a (upd I 8 (nI h)) F) → va_S A s.heap H locs → ∀ (ls : Array Slot), lv_has ls 4 [(2, .int x0), (0, .ref h0), (1, .int (nI hr0))] → W p l e R s m args below meth c H locs 0 0 Q (F0 m 7 ls []) := by
    intro k
    induction k with
    | zero =>
      intro h x0 hi H locs hP hD hS ls hl
      exact absurd hi.1 (by omega)
    | succ k ih_7 =>
      intro h x0 hi H locs hP hD hS ls hl
      obtain ⟨hi1, hi2, hi3, hi4, hi5, hi6⟩ := hi
      refine lv_iload_n hx hb dX4_readsWord_7 rfl (lv_at hl 0 rfl) ?_
      refine lv_if_eq (tgt := 141) hx hb dX4_readsWord_8 (by decide) (fun c_1 => ?_) (fun c_1 => ?_)
      · exact (show False from absurd (hi6.symm.trans c_1) (by decide)).elim
      refine lv_iconst (v := 0) hx hb dX4_readsWord_11 (by decide) ?_
      refine lv_istore_n (lv' := [(2, .int 0), (0, .ref h0), (1, .int (nI hr0))]) hx hb dX4_readsWord_12 rfl hl (by decide) rfl (fun ls hl => ?_)
      by_cases hht : h < tp
      · refine lv_iconst (v := 0) hx hb dX4_readsWord_13 (by decide) ?_
        refine lv_istore_n (lv' := [(3, .int 0), (2, .int 0), (0, .ref h0), (1, .int (nI hr0))]) hx hb dX4_readsWord_14 rfl hl (by decide) rfl (fun ls hl => ?_)
        have loop_15 : ∀ (k : Nat) (v : Nat), (8 < v + k ∧ v ≤ 8) → ∀ (H : Heap) (locs : List Loc), va_P (gD g) Cl (mW g h0 a (upd I 8 (nI h)) F) H → va_D A (mW g h0 a (upd I 8 (nI h)) F) → va_S A s.heap H locs → ∀ (ls : Array Slot), lv_has ls 4 [(3, .int (nI v)), (2, .int (if anyB (F 4) hr0 (h + 1) v = true then 1 else 0)), (0, .ref h0), (1, .int (nI hr0))] → W p l e R s m args below meth c H locs 0 0 Q (F0 m 15 ls []) := by
          intro k
          induction k with
          | zero =>
            intro v hv H locs hP hD hS ls hl
            exact absurd hv.1 (by omega)
          | succ k ih_15 =>
            intro v hv H locs hP hD hS ls hl
            obtain ⟨hv1, hv2⟩ := hv
            refine lv_iload_n hx hb dX4_readsWord_15 rfl (lv_at hl 0 rfl) ?_
            refine lv_aload_n hx hb dX4_readsWord_16 rfl (lv_at hl 2 rfl) ?_
            refine va_get (D := gD g) (ci := 0) (v := .ref (a 4)) (C := RX4) (T := TX4) (N := 21) hx hb hts in_X4 hown hK hP 0 rfl rfl 11 (by decide) (hts _ q2325) (fun _ h9 => h9) rfl dX4_readsWord_17 ?_
            refine va_alen (v := 8) hx hb hK hP 8 5 rfl rfl rfl dX4_readsWord_20 ?_
            refine lv_icmp_ge (tgt := 61) hx hb dX4_readsWord_21 (by decide) (fun c_2 => ?_) (fun c_2 => ?_)
            · have hv8 : v = 8 := by
                rcases Nat.lt_or_ge v 8 with z | z
                · exact absurd c_2 (nI_ge (a := v) (b := 8) z (by decide))
                · omega
              subst hv8
              refine lv_aload_n hx hb dX4_readsWord_61 rfl (lv_at hl 2 rfl) ?_
              refine lv_dup hx hb dX4_readsWord_62 rfl ?_
              refine va_get (D := gD g) (ci := 0) (v := .int (nI h)) (C := RX4) (T := TX4) (N := 21) hx hb hts in_X4 hown hK hP 0 rfl rfl 15 (by decide) (hts _ q2329) (fun _ h9 => h9) rfl dX4_readsWord_63 ?_
              refine lv_iload_n hx hb dX4_readsWord_66 rfl (lv_at hl 1 rfl) ?_
              refine h_ifeq_b (tgt := 74) hx hb dX4_readsWord_67 (by decide) (fun c_3 => ?_) (fun c_3 => ?_)
              · have hrd : rdW (F 4) tp hr0 8 hr0 = (-1, h) := by rw [hi5]; exact if_neg (fun z => c_3 z.2)
                refine lv_iconst (v := 0) hx hb dX4_readsWord_74 (by decide) ?_
                refine lv_iadd hx hb dX4_readsWord_75 ?_
                refine h_topi (v := nI h) (h_nadd (a := h) (b := 0) (rfl) (rfl)) ?_
                refine va_put (D := gD g) (ci := 0) (v := .int (nI h)) (ty := .int) (C := RX4) (T := TX4) (N := 21) hx hb hts in_X4 tyX4 tyX4_ok nmX4 hown hK hP hD hS 0 rfl rfl 15 (by decide) (hts _ q2329) (fun _ h9 => h9) rfl (by decide +kernel) rfl rfl (Nat.le_of_ble_eq_true rfl) dX4_readsWord_76 (fun H locs hP hD hS => ?_)
                have hP : va_P (gD g) Cl (mW g h0 a (upd I 8 (nI h)) F) H := hP
                have hD : va_D A (mW g h0 a (upd I 8 (nI h)) F) := hD
                refine lv_iconst (v := 0) hx hb dX4_readsWord_79 (by decide) ?_
                refine lv_istore_n (lv' := [(3, .int 0), (2, .int (if anyB (F 4) hr0 (h + 1) 8 = true then 1 else 0)), (0, .ref h0), (1, .int (nI hr0))]) hx hb dX4_readsWord_80 rfl hl (by decide) rfl (fun ls hl => ?_)
                refine lv_iload_n hx hb dX4_readsWord_81 rfl (lv_at hl 0 rfl) ?_
                refine lv_aload_n hx hb dX4_readsWord_82 rfl (lv_at hl 2 rfl) ?_
                refine va_get (D := gD g) (ci := 0) (v := .ref (a 4)) (C := RX4) (T := TX4) (N := 21) hx hb hts in_X4 hown hK hP 0 rfl rfl 11 (by decide) (hts _ q2325) (fun _ h9 => h9) rfl dX4_readsWord_83 ?_
                refine va_alen (v := 8) hx hb hK hP 8 5 rfl rfl rfl dX4_readsWord_86 ?_
                refine lv_icmp_ge (tgt := 138) hx hb dX4_readsWord_87 (by decide) (fun c => absurd c (by decide)) (fun _ => ?_)
                refine lv_iload_n hx hb dX4_readsWord_90 rfl (lv_at hl 1 rfl) ?_
                refine h_ifeq_b (tgt := 138) hx hb dX4_readsWord_91 (by decide) (fun _ => ?_) (fun c => absurd c c_3)
                refine lv_goto (tgt := 7) hx hb dX4_readsWord_138 (by decide) ?_
                refine lv_iload_n hx hb dX4_readsWord_7 rfl (lv_at hl 1 rfl) ?_
                refine h_ifeq_b (tgt := 141) hx hb dX4_readsWord_8 (by decide) (fun _ => ?_) (fun c => absurd c c_3)
                refine lv_iconst (v := (-1)) hx hb dX4_readsWord_141 (by decide) ?_
                have hW1 : (mW g h0 a (upd I 8 (nI h)) F) = mW g h0 a (upd I 8 (nI (rdW (F 4) tp hr0 8 hr0).2)) F := by rw [hrd]
                rw [hW1] at hP hD
                exact hm_i hQ hx hb hr hlk rfl () (by rw [hrd]) trivial hP hD hS (by decide) (by decide) dX4_readsWord_142
              have hany : anyB (F 4) hr0 (h + 1) 8 = true := c_3
              have hal := anyB_le (F 4) hr0 (h + 1) 8 (by omega) hany
              refine lv_iconst (v := 1) hx hb dX4_readsWord_70 (by decide) ?_
              refine lv_goto (tgt := 75) hx hb dX4_readsWord_71 (by decide) ?_
              refine lv_iadd hx hb dX4_readsWord_75 ?_
              refine h_topi (v := nI (h + 1)) (h_nadd (a := h) (b := 1) (rfl) (rfl)) ?_
              refine va_put (D := gD g) (ci := 0) (v := .int (nI (h + 1))) (ty := .int) (C := RX4) (T := TX4) (N := 21) hx hb hts in_X4 tyX4 tyX4_ok nmX4 hown hK hP hD hS 0 rfl rfl 15 (by decide) (hts _ q2329) (fun _ h9 => h9) rfl (by decide +kernel) rfl rfl (Nat.le_of_ble_eq_true rfl) dX4_readsWord_76 (fun H locs hP hD hS => ?_)
              have hP : va_P (gD g) Cl (mW g h0 a (upd I 8 (nI (h + 1))) F) H := hP
              have hD : va_D A (mW g h0 a (upd I 8 (nI (h + 1))) F) := hD
              refine lv_iconst (v := 0) hx hb dX4_readsWord_79 (by decide) ?_
              refine lv_istore_n (lv' := [(3, .int 0), (2, .int (if anyB (F 4) hr0 (h + 1) 8 = true then 1 else 0)), (0, .ref h0), (1, .int (nI hr0))]) hx hb dX4_readsWord_80 rfl hl (by decide) rfl (fun ls hl => ?_)
              have loop_81 : ∀ (k : Nat) (u : Nat), (8 < u + k ∧ u ≤ 8 ∧ fwF (F 4) hr0 (h + 1) 8 0 = fwF (F 4) hr0 (h + 1) (8 - u) u) → ∀ (H : Heap) (locs : List Loc), va_P (gD g) Cl (mW g h0 a (upd I 8 (nI (h + 1))) F) H → va_D A (mW g h0 a (upd I 8 (nI (h + 1))) F) → va_S A s.heap H locs → ∀ (ls : Array Slot), lv_has ls 4 [(3, .int (nI u)), (2, .int (if anyB (F 4) hr0 (h + 1) 8 = true then 1 else 0)), (0, .ref h0), (1, .int (nI hr0))] → W p l e R s m args below meth c H locs 0 0 Q (F0 m 81 ls []) := by
                intro k
                induction k with
                | zero =>
                  intro u hu H locs hP hD hS ls hl
                  exact absurd hu.1 (by omega)
                | succ k ih_81 =>
                  intro u hu H locs hP hD hS ls hl
                  obtain ⟨hu1, hu2, hu3⟩ := hu
                  refine lv_iload_n hx hb dX4_readsWord_81 rfl (lv_at hl 0 rfl) ?_
                  refine lv_aload_n hx hb dX4_readsWord_82 rfl (lv_at hl 2 rfl) ?_
                  refine va_get (D := gD g) (ci := 0) (v := .ref (a 4)) (C := RX4) (T := TX4) (N := 21) hx hb hts in_X4 hown hK hP 0 rfl rfl 11 (by decide) (hts _ q2325) (fun _ h9 => h9) rfl dX4_readsWord_83 ?_
                  refine va_alen (v := 8) hx hb hK hP 8 5 rfl rfl rfl dX4_readsWord_86 ?_
                  refine lv_icmp_ge (tgt := 138) hx hb dX4_readsWord_87 (by decide) (fun c_5 => ?_) (fun c_5 => ?_)
                  · have hu8 : u = 8 := by
                      rcases Nat.lt_or_ge u 8 with z | z
                      · exact absurd c_5 (nI_ge (a := u) (b := 8) z (by decide))
                      · omega
                    have hfw : fwF (F 4) hr0 (h + 1) 8 0 = -1 := by rw [hu3, hu8]; rfl
                    refine lv_goto (tgt := 7) hx hb dX4_readsWord_138 (by decide) ?_
                    exact ih_7 (h + 1) (if anyB (F 4) hr0 (h + 1) 8 = true then 1 else 0) ⟨by omega, by omega, by omega, by omega, by rw [hi5]; exact (if_pos ⟨hht, hany⟩).trans (if_pos hfw), if_pos hany⟩ H locs hP hD hS ls (lv_sub hl [1, 2, 3] rfl)
                  have hltu : u < 8 := by
                    rcases Nat.lt_or_ge u 8 with z | z
                    · exact z
                    · exact absurd (nI_le (a := 8) (b := u) z (by omega)) c_5
                  obtain ⟨d, hd⟩ : ∃ d, 8 - u = d + 1 := ⟨8 - u - 1, by omega⟩
                  have hd2 : 8 - (u + 1) = d := by omega
                  refine lv_iload_n hx hb dX4_readsWord_90 rfl (lv_at hl 1 rfl) ?_
                  refine h_ifeq_b (tgt := 138) hx hb dX4_readsWord_91 (by decide) (fun c => absurd c_3 c) (fun _ => ?_)
                  refine lv_aload_n hx hb dX4_readsWord_94 rfl (lv_at hl 2 rfl) ?_
                  refine va_get (D := gD g) (ci := 0) (v := .int (nI (h + 1))) (C := RX4) (T := TX4) (N := 21) hx hb hts in_X4 hown hK hP 0 rfl rfl 15 (by decide) (hts _ q2329) (fun _ h9 => h9) rfl dX4_readsWord_95 ?_
                  refine lv_iload_n hx hb dX4_readsWord_98 rfl (lv_at hl 3 rfl) ?_
                  refine lv_isub hx hb dX4_readsWord_99 ?_
                  refine h_topi (v := nI ((h + 1) - hr0)) (h_nsub (a := h + 1) (b := hr0) (rfl) (rfl) (by omega)) ?_
                  refine lv_aload_n hx hb dX4_readsWord_100 rfl (lv_at hl 2 rfl) ?_
                  refine va_get (D := gD g) (ci := 0) (v := .ref (a 4)) (C := RX4) (T := TX4) (N := 21) hx hb hts in_X4 hown hK hP 0 rfl rfl 11 (by decide) (hts _ q2325) (fun _ h9 => h9) rfl dX4_readsWord_101 ?_
                  refine lv_iload_n hx hb dX4_readsWord_104 rfl (lv_at hl 0 rfl) ?_
                  refine va_aldq hx hb hK hP 8 5 rfl rfl (pk_in u 8 (by omega) rfl (by decide)) dX4_readsWord_105 ?_
                  rw [nI_clamp (n := u) (by omega)]
                  skip
                  refine rcV (As := []) (rest := [.int (nI ((h + 1) - hr0))]) (st1 := [.int (nI (stN (60 + u))), .int (nI ((h + 1) - hr0))]) (jJ6_length0 l g E ho (gA g (60 + u)) (gA g (100 + (60 + u))) ((stHL.getD (60 + u) (0, 0)).1) ((stHL.getD (60 + u) (0, 0)).2) (stN (60 + u)) (stF (60 + u)) (by have := stN_le (60 + u) (by omega); omega)) kJ6_length q2654 hx hb hml hown hts hRf hRl ho.1.1 hE hS (((hj.st (60 + u) (by omega)).at hS).sub [0, 1] rfl) (va_recv hK ((hj.st (60 + u) (by omega)).at hS) (ci := 16) (q0 := 0) rfl rfl) ⟨Nat.zero_le _, Nat.zero_le _⟩ hl ⟨rfl, rfl⟩ rfl rfl (Nat.le_of_ble_eq_true rfl) rfl dX4_readsWord_106 ?_
                  refine lv_icmp_ne (tgt := 132) hx hb dX4_readsWord_109 (by decide) (fun c_6 => ?_) (fun c_6 => ?_)
                  · refine lv_iinc (v := nI (u + 1)) (lv' := [(3, .int (nI (u + 1))), (2, .int (if anyB (F 4) hr0 (h + 1) 8 = true then 1 else 0)), (0, .ref h0), (1, .int (nI hr0))]) hx hb dX4_readsWord_132 hl (k := 0) rfl (h_ninc (a := u) (k := 1) (rfl)) (by decide) rfl (fun ls hl => ?_)
                    refine lv_goto (tgt := 81) hx hb dX4_readsWord_135 (by decide) ?_
                    exact ih_81 (u + 1) ⟨by omega, by omega, by rw [hu3, hd, hd2]; exact if_neg (fun z => c_6 (congrArg nI z.1))⟩ H locs hP hD hS ls (lv_sub hl [0, 1, 2, 3] rfl)
                  have hlen : (h + 1) - hr0 = stN (60 + u) := (nI_eq (by omega) (by have := stN_le (60 + u) (by omega); omega)).mp c_6
                  refine lv_aload_n hx hb dX4_readsWord_112 rfl (lv_at hl 2 rfl) ?_
                  refine lv_aload_n hx hb dX4_readsWord_113 rfl (lv_at hl 2 rfl) ?_
                  refine va_get (D := gD g) (ci := 0) (v := .ref (a 4)) (C := RX4) (T := TX4) (N := 21) hx hb hts in_X4 hown hK hP 0 rfl rfl 11 (by decide) (hts _ q2325) (fun _ h9 => h9) rfl dX4_readsWord_114 ?_
                  refine lv_iload_n hx hb dX4_readsWord_117 rfl (lv_at hl 0 rfl) ?_
                  refine va_aldq hx hb hK hP 8 5 rfl rfl (pk_in u 8 (by omega) rfl (by decide)) dX4_readsWord_118 ?_
                  rw [nI_clamp (n := u) (by omega)]
                  skip
                  refine lv_iload_n hx hb dX4_readsWord_119 rfl (lv_at hl 3 rfl) ?_
                  refine lv_aload_n hx hb dX4_readsWord_120 rfl (lv_at hl 2 rfl) ?_
                  refine va_get (D := gD g) (ci := 0) (v := .int (nI (h + 1))) (C := RX4) (T := TX4) (N := 21) hx hb hts in_X4 hown hK hP 0 rfl rfl 15 (by decide) (hts _ q2329) (fun _ h9 => h9) rfl dX4_readsWord_121 ?_
                  refine rcV (As := [.ref (gA g (60 + u)), .int (nI hr0), .int (nI (h + 1))]) (rest := []) (st1 := [.int (if begP (F 4) u hr0 (h + 1) then 1 else 0)]) (mX4_isBegun l g E ho h0 a (upd I 8 (nI (h + 1))) F u hr0 (h + 1) (by omega) (by omega) (by omega)) kX4_isBegun q2650 hx hb hml hown hts hRf hRl ho.1.1 hE hS hP (va_recv hK hP (ci := 0) (q0 := 0) rfl rfl) ⟨Nat.zero_le _, Nat.zero_le _⟩ hl ⟨rfl, rfl⟩ rfl rfl (Nat.le_of_ble_eq_true rfl) rfl dX4_readsWord_124 ?_
                  refine h_ifeq_b (tgt := 132) hx hb dX4_readsWord_127 (by decide) (fun c_7 => ?_) (fun c_7 => ?_)
                  · refine lv_iinc (v := nI (u + 1)) (lv' := [(3, .int (nI (u + 1))), (2, .int (if anyB (F 4) hr0 (h + 1) 8 = true then 1 else 0)), (0, .ref h0), (1, .int (nI hr0))]) hx hb dX4_readsWord_132 hl (k := 0) rfl (h_ninc (a := u) (k := 1) (rfl)) (by decide) rfl (fun ls hl => ?_)
                    refine lv_goto (tgt := 81) hx hb dX4_readsWord_135 (by decide) ?_
                    exact ih_81 (u + 1) ⟨by omega, by omega, by rw [hu3, hd, hd2]; exact if_neg (fun z => c_7 z.2)⟩ H locs hP hD hS ls (lv_sub hl [0, 1, 2, 3] rfl)
                  have hfw : fwF (F 4) hr0 (h + 1) 8 0 = nI u := by rw [hu3, hd]; exact if_pos ⟨hlen, c_7⟩
                  have hrd : rdW (F 4) tp hr0 8 hr0 = (nI u, h + 1) := by rw [hi5]; exact (if_pos ⟨hht, hany⟩).trans ((if_neg (by rw [hfw]; exact nI_m1 (by omega))).trans (by rw [hfw]))
                  refine lv_iload_n hx hb dX4_readsWord_130 rfl (lv_at hl 0 rfl) ?_
                  have hW1 : (mW g h0 a (upd I 8 (nI (h + 1))) F) = mW g h0 a (upd I 8 (nI (rdW (F 4) tp hr0 8 hr0).2)) F := by rw [hrd]
                  rw [hW1] at hP hD
                  exact hm_i hQ hx hb hr hlk rfl () (by rw [hrd]) trivial hP hD hS (by decide) (by decide) dX4_readsWord_131
              exact loop_81 9 0 ⟨by omega, by omega, rfl⟩ H locs hP hD hS ls (lv_sub hl [0, 1, 2, 3] rfl)
            have hlt : v < 8 := by
              rcases Nat.lt_or_ge v 8 with z | z
              · exact z
              · exact absurd (nI_le (a := 8) (b := v) z (by omega)) c_2
            refine lv_aload_n hx hb dX4_readsWord_24 rfl (lv_at hl 2 rfl) ?_
            refine va_get (D := gD g) (ci := 0) (v := .int (nI h)) (C := RX4) (T := TX4) (N := 21) hx hb hts in_X4 hown hK hP 0 rfl rfl 15 (by decide) (hts _ q2329) (fun _ h9 => h9) rfl dX4_readsWord_25 ?_
            refine lv_aload_n hx hb dX4_readsWord_28 rfl (lv_at hl 2 rfl) ?_
            refine va_get (D := gD g) (ci := 0) (v := .int (I 7)) (C := RX4) (T := TX4) (N := 21) hx hb hts in_X4 hown hK hP 0 rfl rfl 14 (by decide) (hts _ q2328) (fun _ h9 => h9) rfl dX4_readsWord_29 ?_
            refine h_topi (v := nI tp) (hI7) ?_
            refine lv_icmp_ge (tgt := 61) hx hb dX4_readsWord_32 (by decide) (fun c_8 => ?_) (fun c_8 => ?_)
            · exact (nI_ge (a := h) (b := tp) hht (by omega) c_8).elim
            refine lv_iload_n hx hb dX4_readsWord_35 rfl (lv_at hl 1 rfl) ?_
            refine lv_aload_n hx hb dX4_readsWord_36 rfl (lv_at hl 2 rfl) ?_
            refine lv_aload_n hx hb dX4_readsWord_37 rfl (lv_at hl 2 rfl) ?_
            refine va_get (D := gD g) (ci := 0) (v := .ref (a 4)) (C := RX4) (T := TX4) (N := 21) hx hb hts in_X4 hown hK hP 0 rfl rfl 11 (by decide) (hts _ q2325) (fun _ h9 => h9) rfl dX4_readsWord_38 ?_
            refine lv_iload_n hx hb dX4_readsWord_41 rfl (lv_at hl 0 rfl) ?_
            refine va_aldq hx hb hK hP 8 5 rfl rfl (pk_in v 8 (by omega) rfl (by decide)) dX4_readsWord_42 ?_
            rw [nI_clamp (n := v) (by omega)]
            skip
            refine lv_iload_n hx hb dX4_readsWord_43 rfl (lv_at hl 3 rfl) ?_
            refine lv_aload_n hx hb dX4_readsWord_44 rfl (lv_at hl 2 rfl) ?_
            refine va_get (D := gD g) (ci := 0) (v := .int (nI h)) (C := RX4) (T := TX4) (N := 21) hx hb hts in_X4 hown hK hP 0 rfl rfl 15 (by decide) (hts _ q2329) (fun _ h9 => h9) rfl dX4_readsWord_45 ?_
            refine lv_iconst (v := 1) hx hb dX4_readsWord_48 (by decide) ?_
            refine lv_iadd hx hb dX4_readsWord_49 ?_
            refine h_topi (v := nI (h + 1)) (h_nadd (a := h) (b := 1) (rfl) (rfl)) ?_
            refine rcV (As := [.ref (gA g (60 + v)), .int (nI hr0), .int (nI (h + 1))]) (rest := [.int (if anyB (F 4) hr0 (h + 1) v = true then 1 else 0)]) (st1 := [.int (if begP (F 4) v hr0 (h + 1) then 1 else 0), .int (if anyB (F 4) hr0 (h + 1) v = true then 1 else 0)]) (mX4_isBegun l g E ho h0 a (upd I 8 (nI h)) F v hr0 (h + 1) (by omega) (by omega) (by omega)) kX4_isBegun q2650 hx hb hml hown hts hRf hRl ho.1.1 hE hS hP (va_recv hK hP (ci := 0) (q0 := 0) rfl rfl) ⟨Nat.zero_le _, Nat.zero_le _⟩ hl ⟨rfl, rfl⟩ rfl rfl (Nat.le_of_ble_eq_true rfl) rfl dX4_readsWord_50 ?_
            refine lv_ior hx hb dX4_readsWord_53 ?_
            refine h_topi (v := if anyB (F 4) hr0 (h + 1) (v + 1) = true then 1 else 0) (h_ior _ _) ?_
            refine lv_istore_n (lv' := [(2, .int (if anyB (F 4) hr0 (h + 1) (v + 1) = true then 1 else 0)), (3, .int (nI v)), (0, .ref h0), (1, .int (nI hr0))]) hx hb dX4_readsWord_54 rfl hl (by decide) rfl (fun ls hl => ?_)
            refine lv_iinc (v := nI (v + 1)) (lv' := [(3, .int (nI (v + 1))), (2, .int (if anyB (F 4) hr0 (h + 1) (v + 1) = true then 1 else 0)), (0, .ref h0), (1, .int (nI hr0))]) hx hb dX4_readsWord_55 hl (k := 1) rfl (h_ninc (a := v) (k := 1) (rfl)) (by decide) rfl (fun ls hl => ?_)
            refine lv_goto (tgt := 15) hx hb dX4_readsWord_58 (by decide) ?_
            exact ih_15 (v + 1) (by omega) H locs hP hD hS ls (lv_sub hl [0, 1, 2, 3] rfl)
        exact loop_15 9 0 (by omega) H locs hP hD hS ls (lv_sub hl [0, 1, 2, 3] rfl)
      have hrd : rdW (F 4) tp hr0 8 hr0 = (-1, h) := by rw [hi5]; exact if_neg (fun z => hht z.1)
      refine lv_iconst (v := 0) hx hb dX4_readsWord_13 (by decide) ?_
      refine lv_istore_n (lv' := [(3, .int 0), (2, .int 0), (0, .ref h0), (1, .int (nI hr0))]) hx hb dX4_readsWord_14 rfl hl (by decide) rfl (fun ls hl => ?_)
      refine lv_iload_n hx hb dX4_readsWord_15 rfl (lv_at hl 0 rfl) ?_
      refine lv_aload_n hx hb dX4_readsWord_16 rfl (lv_at hl 2 rfl) ?_
      refine va_get (D := gD g) (ci := 0) (v := .ref (a 4)) (C := RX4) (T := TX4) (N := 21) hx hb hts in_X4 hown hK hP 0 rfl rfl 11 (by decide) (hts _ q2325) (fun _ h9 => h9) rfl dX4_readsWord_17 ?_
      refine va_alen (v := 8) hx hb hK hP 8 5 rfl rfl rfl dX4_readsWord_20 ?_
      refine lv_icmp_ge (tgt := 61) hx hb dX4_readsWord_21 (by decide) (fun c => absurd c (by decide)) (fun _ => ?_)
      refine lv_aload_n hx hb dX4_readsWord_24 rfl (lv_at hl 2 rfl) ?_
      refine va_get (D := gD g) (ci := 0) (v := .int (nI h)) (C := RX4) (T := TX4) (N := 21) hx hb hts in_X4 hown hK hP 0 rfl rfl 15 (by decide) (hts _ q2329) (fun _ h9 => h9) rfl dX4_readsWord_25 ?_
      refine lv_aload_n hx hb dX4_readsWord_28 rfl (lv_at hl 2 rfl) ?_
      refine va_get (D := gD g) (ci := 0) (v := .int (I 7)) (C := RX4) (T := TX4) (N := 21) hx hb hts in_X4 hown hK hP 0 rfl rfl 14 (by decide) (hts _ q2328) (fun _ h9 => h9) rfl dX4_readsWord_29 ?_
      refine h_topi (v := nI tp) (hI7) ?_
      refine lv_icmp_ge (tgt := 61) hx hb dX4_readsWord_32 (by decide) (fun c_10 => ?_) (fun c_10 => ?_)
      · refine lv_aload_n hx hb dX4_readsWord_61 rfl (lv_at hl 2 rfl) ?_
        refine lv_dup hx hb dX4_readsWord_62 rfl ?_
        refine va_get (D := gD g) (ci := 0) (v := .int (nI h)) (C := RX4) (T := TX4) (N := 21) hx hb hts in_X4 hown hK hP 0 rfl rfl 15 (by decide) (hts _ q2329) (fun _ h9 => h9) rfl dX4_readsWord_63 ?_
        refine lv_iload_n hx hb dX4_readsWord_66 rfl (lv_at hl 1 rfl) ?_
        refine lv_if_eq (tgt := 74) hx hb dX4_readsWord_67 (by decide) (fun _ => ?_) (fun c => absurd c (by decide))
        refine lv_iconst (v := 0) hx hb dX4_readsWord_74 (by decide) ?_
        refine lv_iadd hx hb dX4_readsWord_75 ?_
        refine h_topi (v := nI h) (h_nadd (a := h) (b := 0) (rfl) (rfl)) ?_
        refine va_put (D := gD g) (ci := 0) (v := .int (nI h)) (ty := .int) (C := RX4) (T := TX4) (N := 21) hx hb hts in_X4 tyX4 tyX4_ok nmX4 hown hK hP hD hS 0 rfl rfl 15 (by decide) (hts _ q2329) (fun _ h9 => h9) rfl (by decide +kernel) rfl rfl (Nat.le_of_ble_eq_true rfl) dX4_readsWord_76 (fun H locs hP hD hS => ?_)
        have hP : va_P (gD g) Cl (mW g h0 a (upd I 8 (nI h)) F) H := hP
        have hD : va_D A (mW g h0 a (upd I 8 (nI h)) F) := hD
        refine lv_iconst (v := 0) hx hb dX4_readsWord_79 (by decide) ?_
        refine lv_istore_n (lv' := [(3, .int 0), (2, .int 0), (0, .ref h0), (1, .int (nI hr0))]) hx hb dX4_readsWord_80 rfl hl (by decide) rfl (fun ls hl => ?_)
        refine lv_iload_n hx hb dX4_readsWord_81 rfl (lv_at hl 0 rfl) ?_
        refine lv_aload_n hx hb dX4_readsWord_82 rfl (lv_at hl 2 rfl) ?_
        refine va_get (D := gD g) (ci := 0) (v := .ref (a 4)) (C := RX4) (T := TX4) (N := 21) hx hb hts in_X4 hown hK hP 0 rfl rfl 11 (by decide) (hts _ q2325) (fun _ h9 => h9) rfl dX4_readsWord_83 ?_
        refine va_alen (v := 8) hx hb hK hP 8 5 rfl rfl rfl dX4_readsWord_86 ?_
        refine lv_icmp_ge (tgt := 138) hx hb dX4_readsWord_87 (by decide) (fun c => absurd c (by decide)) (fun _ => ?_)
        refine lv_iload_n hx hb dX4_readsWord_90 rfl (lv_at hl 1 rfl) ?_
        refine lv_if_eq (tgt := 138) hx hb dX4_readsWord_91 (by decide) (fun _ => ?_) (fun c => absurd c (by decide))
        refine lv_goto (tgt := 7) hx hb dX4_readsWord_138 (by decide) ?_
        refine lv_iload_n hx hb dX4_readsWord_7 rfl (lv_at hl 1 rfl) ?_
        refine lv_if_eq (tgt := 141) hx hb dX4_readsWord_8 (by decide) (fun _ => ?_) (fun c => absurd c (by decide))
        refine lv_iconst (v := (-1)) hx hb dX4_readsWord_141 (by decide) ?_
        have hW1 : (mW g h0 a (upd I 8 (nI h)) F) = mW g h0 a (upd I 8 (nI (rdW (F 4) tp hr0 8 hr0).2)) F := by rw [hrd]
        rw [hW1] at hP hD
        exact hm_i hQ hx hb hr hlk rfl () (by rw [hrd]) trivial hP hD hS (by decide) (by decide) dX4_readsWord_142
      exact (c_10 (nI_le (a := tp) (b := h) (by omega) (by omega))).elim
  rw [← (h_usame hI8 : upd I 8 (nI hr0) = I)] at hP hD
  exact loop_7 8 hr0 1 ⟨by omega, by omega, by omega, by omega, rfl, rfl⟩ H locs hP hD hS ls (lv_sub hl [0, 2, 1] rfl)
