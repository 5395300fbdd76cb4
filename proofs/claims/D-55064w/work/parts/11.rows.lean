/-! ROWS of my own: small naturals, one row an array's place, booleans -/
set_option maxRecDepth 100000
abbrev inR (v lo hi : Int32) : Prop := ¬ v < lo ∧ ¬ hi < v
theorem h_nadd {x y : Int32} {a b : Nat} (hx : x = nI a) (hy : y = nI b) : x + y = nI (a + b) := by rw [hx, hy, nI_add]
theorem h_nmul {x y : Int32} {a b : Nat} (hx : x = nI a) (hy : y = nI b) : x * y = nI (a * b) := by rw [hx, hy, pk_mul]
theorem h_nsub {x y : Int32} {a b : Nat} (hx : x = nI a) (hy : y = nI b) (h : b ≤ a) : x - y = nI (a - b) := by rw [hx, hy, pk_sub h]
theorem h_ndiv {x y : Int32} {a b : Nat} (hx : x = nI a) (hy : y = nI b) (ha : a < 2 ^ 31) (h0 : 0 < b) (hb : b < 2 ^ 31) : x / y = nI (a / b) := by rw [hx, hy, pk_div ha h0 hb]
theorem h_nrem {x y : Int32} {a b : Nat} (hx : x = nI a) (hy : y = nI b) (ha : a < 2 ^ 31) (h0 : 0 < b) (hb : b < 2 ^ 31) : x - x / y * y = nI (a % b) := by rw [hx, hy, pk_rem ha h0 hb]
theorem h_ninc {x : Int32} {a k : Nat} (hx : x = nI a) : x + Int32.ofInt (k : Int) = nI (a + k) := by
  rw [hx, ← nI_add]
  rfl
theorem h_ndec {x : Int32} {a : Nat} (hx : x = nI a) (h : 0 < a) : x + Int32.ofInt (-1) = nI (a - 1) := by
  obtain ⟨b, rfl⟩ : ∃ b, a = b + 1 := ⟨a - 1, by omega⟩
  rw [hx, Nat.add_sub_cancel]
  exact pk_m1 b
section HROW
variable {p : Program} {l : Launch} {e : Env} {R : Room} {s : State} {m : MethodId} {args : Array Value} {below : List Frame} {meth : Method} {c : Code} {H : Heap} {locs : List Loc} {cells slots : Nat} {Q : State → Prop}
variable {cc : ByteArray} {pc : Nat} {ls : Array Slot} {rest st0 st1 : List Value} {g : hG} {A : Nat → Prop} {ws : va_W} {H0 : Heap} {a : Nat} {D : va_G} {cl : List vw_C} {tys : List (ClassId × FieldType)}
theorem h_topi {v x : Int32} (e1 : x = v) (k : W p l e R s m args below meth c H locs cells slots Q (F0 m pc ls (.int v :: rest))) : W p l e R s m args below meth c H locs cells slots Q (F0 m pc ls (.int x :: rest)) := by
  subst e1; exact k
theorem h_ifne_b {P : Prop} [Decidable P] {off : Int} {tgt : Nat} (hx : p.tables.exec = Jvm.exec) (hb : c.code = cc) (hdg : decode cc pc = .ok (.ifCond .ne off, 3)) (ht : (pc : Int) + off = (tgt : Int)) (kt : P → W p l e R s m args below meth c H locs cells slots Q (F0 m tgt ls rest)) (kf : ¬ P → W p l e R s m args below meth c H locs cells slots Q (F0 m (pc + 3) ls rest)) : W p l e R s m args below meth c H locs cells slots Q (F0 m pc ls (.int (if P then 1 else 0) :: rest)) := by
  by_cases h : P
  · rw [if_pos h]; exact lv_if_ne hx hb hdg ht (fun _ => kt h) (fun c => absurd c (by decide))
  · rw [if_neg h]; exact lv_if_ne hx hb hdg ht (fun c => absurd rfl c) (fun _ => kf h)
theorem h_ifeq_b {P : Prop} [Decidable P] {off : Int} {tgt : Nat} (hx : p.tables.exec = Jvm.exec) (hb : c.code = cc) (hdg : decode cc pc = .ok (.ifCond .eq off, 3)) (ht : (pc : Int) + off = (tgt : Int)) (kt : ¬ P → W p l e R s m args below meth c H locs cells slots Q (F0 m tgt ls rest)) (kf : P → W p l e R s m args below meth c H locs cells slots Q (F0 m (pc + 3) ls rest)) : W p l e R s m args below meth c H locs cells slots Q (F0 m pc ls (.int (if P then 1 else 0) :: rest)) := by
  by_cases h : P
  · rw [if_pos h]; exact lv_if_eq hx hb hdg ht (fun c => absurd c (by decide)) (fun _ => kf h)
  · rw [if_neg h]; exact lv_if_eq hx hb hdg ht (fun _ => kt h) (fun c => absurd rfl c)
theorem h_iald (hx : p.tables.exec = Jvm.exec) (hb : c.code = cc) (hK : va_K D cl tys s) (hP : va_P D cl ws H) (q0 t0 : Nat) {cA : ClassId} {n : Nat} {f : Nat → Int32} (ha : ws[q0]? = some (a, .inl (cA, n, .inl f))) (ht : tys[t0]? = some (cA, .int)) {i : Int32} (k : Nat) (hi : i = nI k) (hk : k < n) (hN : n < 2 ^ 31) (hdg : decode cc pc = .ok (.iaload, 1))
    (kk : W p l e R s m args below meth c H locs cells slots Q (F0 m (pc + 1) ls (.int (f k) :: rest))) : W p l e R s m args below meth c H locs cells slots Q (F0 m pc ls (.int i :: .ref a :: rest)) := by
  refine va_iald hx hb hK hP q0 t0 ha ht (pk_in k n hk hi hN) hdg ?_
  rw [pk_cl k hi (Nat.lt_trans hk hN)]
  exact kk
theorem h_iast (hx : p.tables.exec = Jvm.exec) (hb : c.code = cc) (hK : va_K D cl tys s) (hP : va_P D cl ws H) (hD : va_D A ws) (hS : va_S A H0 H locs) (q0 t0 : Nat) {cA : ClassId} {n : Nat} {f : Nat → Int32} (ha : ws[q0]? = some (a, .inl (cA, n, .inl f))) (ht : tys[t0]? = some (cA, .int)) {i x : Int32} (k : Nat) (hi : i = nI k) (hk : k < n) (hN : n < 2 ^ 31) (hdg : decode cc pc = .ok (.iastore, 1))
    (kk : ∀ (H1 : Heap) (locs1 : List Loc), va_P D cl (ws.set q0 (a, .inl (cA, n, .inl (upd f k x)))) H1 → va_D A (ws.set q0 (a, .inl (cA, n, .inl (upd f k x)))) → va_S A H0 H1 locs1 → W p l e R s m args below meth c H1 locs1 cells slots Q (F0 m (pc + 1) ls rest)) : W p l e R s m args below meth c H locs cells slots Q (F0 m pc ls (.int x :: .int i :: .ref a :: rest)) := by
  refine va_iast hx hb hK hP hD hS q0 t0 ha ht (pk_in k n hk hi hN) hdg ?_
  rw [pk_cl k hi (Nat.lt_trans hk hN)]
  exact kk
/-- a value computed by either arm, met again behind both -/
theorem h_join {J : Nat} {v : Int32} (k1 : W p l e R s m args below meth c H locs cells slots Q (F0 m J ls (.int v :: rest))) (k2 : W p l e R s m args below meth c H locs cells slots Q (F0 m J ls (.int v :: rest)) → W p l e R s m args below meth c H locs cells slots Q (F0 m pc ls st0)) : W p l e R s m args below meth c H locs cells slots Q (F0 m pc ls st0) := k2 k1
theorem h_tsw {dflt lo hi : Int} {offs : Array Int} {len : Nat} {x : Int32} {off k : Int} {tgt : Nat} (hx : p.tables.exec = Jvm.exec) (hb : c.code = cc) (hdg : decode cc pc = .ok (.tableswitch dflt lo hi offs, len)) (hk : x.toInt = k) (h1 : lo ≤ k) (h2 : k ≤ hi) (ho : offs[(k - lo).toNat]? = some off) (ht : (pc : Int) + off = (tgt : Int))
    (kk : W p l e R s m args below meth c H locs cells slots Q (F0 m tgt ls rest)) : W p l e R s m args below meth c H locs cells slots Q (F0 m pc ls (.int x :: rest)) :=
  lv_tableIn hx hb hdg (by omega) (by omega) (by rw [hk]; exact ho) ht kk
theorem h_lsw {dflt : Int} {ps : Array (Int × Int)} {len : Nat} {x : Int32} {k off : Int} {tgt : Nat} (hx : p.tables.exec = Jvm.exec) (hb : c.code = cc) (hdg : decode cc pc = .ok (.lookupswitch dflt ps, len)) (hk : x.toInt = k) (hp : (ps.toList.zip (ps.toList.drop 1)).all (fun (a, next) => a.1 < next.1) = true) (ho : Op.lookupswitch.offset ps.toList dflt k = off) (ht : (pc : Int) + off = (tgt : Int))
    (kk : W p l e R s m args below meth c H locs cells slots Q (F0 m tgt ls rest)) : W p l e R s m args below meth c H locs cells slots Q (F0 m pc ls (.int x :: rest)) :=
  lv_lookup hx hb hdg hp (by rw [hk]; exact ho) ht kk
end HROW
theorem h_ne {x y : Int32} (h : ¬ x = y) : x.toInt ≠ y.toInt := fun q => h (Int32.toInt_inj.mp q)
/-- a place among k -/
theorem inR_ix {x y : Int32} {k : Nat} (h : inR x 0 (y - 1)) (hy : y = nI k) (hk : k < 2 ^ 30) : ∃ j : Nat, j < k ∧ x = nI j := by
  obtain ⟨h1, h2⟩ := h
  subst hy
  have e1 : (nI k - nI 1).toInt = (k : Int) - 1 := pk_sub_toInt hk (by decide)
  have g1 : ¬ x.toInt < 0 := fun q => h1 (Int32.lt_iff_toInt_lt.mpr q)
  have g2 : ¬ (k : Int) - 1 < x.toInt := fun q => h2 (Int32.lt_iff_toInt_lt.mpr (by rw [show nI k - 1 = nI k - nI 1 from rfl, e1]; exact q))
  refine ⟨x.toInt.toNat, by omega, Int32.toInt_inj.mp ?_⟩
  rw [nI_toInt (by omega)]
  omega
theorem inR_n {k j : Nat} (hj : j < k) (hk : k < 2 ^ 30) : inR (nI j) 0 (nI k - 1) := by
  have e1 : (nI k - nI 1).toInt = (k : Int) - 1 := pk_sub_toInt hk (by decide)
  refine ⟨nI_pos (by omega), fun q => ?_⟩
  have q2 := Int32.lt_iff_toInt_lt.mp q
  rw [show nI k - 1 = nI k - nI 1 from rfl, e1, nI_toInt (by omega)] at q2
  omega
/-- a place in a range of small numbers -/
theorem inR_lit {x lo hi : Int32} {a b : Nat} (h : inR x lo hi) (ha : lo = nI a) (hb : hi = nI b) (hk : a < 2 ^ 31) (hk2 : b < 2 ^ 31) : ∃ j : Nat, a ≤ j ∧ j ≤ b ∧ x = nI j := by
  obtain ⟨h1, h2⟩ := h
  subst ha; subst hb
  have g1 : ¬ x.toInt < a := fun q => h1 (Int32.lt_iff_toInt_lt.mpr (by rw [nI_toInt hk]; exact q))
  have g2 : ¬ (b : Int) < x.toInt := fun q => h2 (Int32.lt_iff_toInt_lt.mpr (by rw [nI_toInt hk2]; exact q))
  refine ⟨x.toInt.toNat, by omega, by omega, Int32.toInt_inj.mp ?_⟩
  rw [nI_toInt (by omega)]
  omega
section HROW2
variable {p : Program} {l : Launch} {e : Env} {R : Room} {s : State} {m : MethodId} {args : Array Value} {below : List Frame} {meth : Method} {c : Code} {H : Heap} {locs : List Loc} {cells slots : Nat} {Q : State → Prop}
variable {cc : ByteArray} {pc : Nat} {ls : Array Slot} {rest st0 st1 : List Value}
theorem h_lswd {dflt : Int} {ps : Array (Int × Int)} {len : Nat} {x : Int32} {tgt : Nat} (hx : p.tables.exec = Jvm.exec) (hb : c.code = cc) (hdg : decode cc pc = .ok (.lookupswitch dflt ps, len)) (hp : (ps.toList.zip (ps.toList.drop 1)).all (fun (a, next) => a.1 < next.1) = true) (ho : Op.lookupswitch.offset ps.toList dflt x.toInt = dflt) (ht : (pc : Int) + dflt = (tgt : Int))
    (kk : W p l e R s m args below meth c H locs cells slots Q (F0 m tgt ls rest)) : W p l e R s m args below meth c H locs cells slots Q (F0 m pc ls (.int x :: rest)) :=
  lv_lookup hx hb hdg hp ho ht kk
end HROW2
