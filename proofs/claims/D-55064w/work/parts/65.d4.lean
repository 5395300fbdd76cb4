/-! LISTS as parts of worlds -/
set_option maxRecDepth 100000
theorem RM.imp {l : Launch} {y : MethodName} {cc : ByteArray} {L : Nat} {ret : Option FieldType} {fr lo fr' lo' : Nat} {av : List Value} {g : hG} {E : hEnv} {ws ws' : va_W} {v : Option Value} (hM : RM l y cc L ret fr lo av g E ws v) (h1 : fr ≤ fr') (h2 : lo ≤ lo') (hP : ∀ H, va_P (gD g) Cl ws' H → va_P (gD g) Cl ws H) : RM l y cc L ret fr' lo' av g E ws' v := by
  intro p e ha hc hk s m args below hfr happ hPp _
  obtain ⟨q0, q2, q4⟩ := hPp
  obtain ⟨a1, a2, a3, a4, a5, a6, a7, a8⟩ := (Spec.appliesLoose_iff hfr).mp happ
  exact hM p e ha hc hk s m args below hfr ((Spec.appliesLoose_iff hfr).mpr ⟨a1, a2, a3, a4, a5, a6, im_room (r' := ({ frames := fr', cells := 0, slots := 0, locals := lo' } : Room)) h1 h2 (Nat.le_refl _) (Nat.le_refl _) a7, a8⟩) ⟨q0, hP _ q2, q4⟩ trivial
/-- what the callee doesn't reach stays -/
theorem MM.frame {l : Launch} {y : MethodName} {cc : ByteArray} {L : Nat} {ret : Option FieldType} {fr lo mc ms : Nat} {av : List Value} {g : hG} {E : hEnv} {ws : va_W} {S : Type} {vf : S → Option Value} {post : S → Prop} {W1 : S → va_W} (hg : hGo E) (hM : MM l y cc L ret fr lo mc ms av g E ws vf post W1) (R : va_W) : MM l y cc L ret fr lo mc ms av g E (ws ++ R) vf post (fun u => R ++ W1 u) := by
  intro sz p e ha hc hk s m args below hfr happ hPp _
  obtain ⟨q0, q1, q2, q3, q4⟩ := hPp
  have hsub : ∀ q ∈ ws, ∃ q' ∈ ws ++ R, q'.1 = q.1 := fun q hq => ⟨q, List.mem_append_left _ hq, rfl⟩
  obtain ⟨n, o, b1, b2, b3, ⟨⟨u, c1, c2, c3, c4⟩, c5⟩, Ls, c6, c7⟩ := hM sz p e ha hc hk s m args below hfr happ ⟨q0, q1, ap_Pc q2, (va_D_app.mp q3).1, hg.2 (va_A (ws ++ R) sz) (va_A ws sz) s s s.heap s.heap (State.WarmedH.refl s) (fun _ _ _ => rfl) (im_A hsub sz) q4⟩ trivial
  have hD0 : va_D (va_A (ws ++ R) sz) (ws ++ R) := q3.self
  subst q1
  have hj := va_join (A0 := va_A (ws ++ R) s.heap.size) (D := gD g) (cl := Cl) (wc := ws) (wr := R) (w1 := W1 u) q2 hD0 _ _ (ap_C ws R) (ap_R ws R) (nd_rangeR R.length ws.length) (ap_dis R.length ws.length) c5.2 (im_A hsub s.heap.size) c3 c4
  exact ⟨n, o, b1, b2, b3, ⟨⟨u, c1, c2, hj.1, hj.2⟩, im_F (im_A hsub _) c5⟩, Ls, c6, fun q hq => im_A hsub _ _ (c7 q hq)⟩

set_option maxHeartbeats 4000000 in
theorem jJ2_addS (l : Launch) (g : hG) (E : hEnv) (ho : jOk g E) (L : Nat) (mo : Int32) (ea : Nat) (cp : Nat) (n : Nat) (ci : Nat) (el : Nat → Nat) (vs : Nat → List Value) (r : vw_C) (v : Nat) (vv : List Value) (hok : lsOk g ea cp n) (hn : n < 23) (hci : Cl[ci]? = some r) (hca : Cond.castable r.1 "java/lang/Object" ∈ lw_tbl) : MM l yJ2_add cJ2_add 2 (some .boolean) 6 140 1 33 [.ref L, .ref v] g E ((L, .inr (13, [.int mo, .ref ea, .int (nI n)])) :: ((v, .inr (ci, vv)) :: (arW g ea cp (elF n el) ++ (elW ci n el vs ++ [])))) (S := Nat × Nat) (fun u => (some (.int 1))) (fun u => lsOk g u.1 u.2 (n + 1)) (fun u => ((L, .inr (13, [.int (mo + 1), .ref u.1, .int (nI (n + 1))])) :: ((v, .inr (ci, vv)) :: (arW g u.1 u.2 (elF (n + 1) (va_up el n v)) ++ (elW ci n el vs ++ []))))) := by
  have hok' := hok
  obtain ⟨h1, h2⟩ := hok
  by_cases hlt : n < cp
  · have hne : cp ≠ 0 := by omega
    rw [arW_s hne]
    refine MM.imp ho.1.1 (MM.frame ho.1.1 (jJ2_add l g E ho L ea mo n cp (elF n el) v ci vv r hlt (by have := hok'.lt; omega) hci hca) (elW ci n el vs)) (by decide) (by decide) (by decide) (by decide) (fun H h => sg_P2 [[(L, .inr (13, [.int mo, .ref ea, .int (nI n)]))], [(v, .inr (ci, vv))], [(ea, .inl (g.2.2.1 4, cp, .inr (.inr (.inr (.inr (elF n el))))))], elW ci n el vs] [[(L, .inr (13, [.int mo, .ref ea, .int (nI n)]))], [(ea, .inl (g.2.2.1 4, cp, .inr (.inr (.inr (.inr (elF n el))))))], [(v, .inr (ci, vv))]] [elW ci n el vs] [0, 2, 1, 3] rfl h |> fun z => by simpa using z) (fun A h => sg_D2 [[(L, .inr (13, [.int mo, .ref ea, .int (nI n)]))], [(v, .inr (ci, vv))], [(ea, .inl (g.2.2.1 4, cp, .inr (.inr (.inr (.inr (elF n el))))))], elW ci n el vs] [[(L, .inr (13, [.int mo, .ref ea, .int (nI n)]))], [(ea, .inl (g.2.2.1 4, cp, .inr (.inr (.inr (.inr (elF n el))))))], [(v, .inr (ci, vv))]] [elW ci n el vs] [0, 2, 1, 3] rfl (by decide) h |> fun z => by simpa using z) (fun q hq => ⟨q, by simp only [List.mem_append, List.mem_cons, List.not_mem_nil, or_false] at hq ⊢; rcases hq with (h | h | h) | h <;> simp [h], rfl⟩) (fun u _ => ⟨(ea, cp), rfl, ⟨by omega, by rcases h2 with h | h | h | h | ⟨h, z⟩ <;> simp [h] at hlt ⊢⟩, fun H h => ?_, fun A h => ?_⟩)
    · rw [arW_s hne, ← elF_push]
      exact sg_P [elW ci n el vs, [(L, .inr (13, [.int (mo + 1), .ref ea, .int (nI (n + 1))]))], [(ea, .inl (g.2.2.1 4, cp, .inr (.inr (.inr (.inr (va_up (elF n el) n (some v)))))))], [(v, .inr (ci, vv))]] [[(L, .inr (13, [.int (mo + 1), .ref ea, .int (nI (n + 1))]))], [(v, .inr (ci, vv))], [(ea, .inl (g.2.2.1 4, cp, .inr (.inr (.inr (.inr (va_up (elF n el) n (some v)))))))], elW ci n el vs] [1, 3, 2, 0] rfl h
    · rw [arW_s hne, ← elF_push]
      exact sg_D [elW ci n el vs, [(L, .inr (13, [.int (mo + 1), .ref ea, .int (nI (n + 1))]))], [(ea, .inl (g.2.2.1 4, cp, .inr (.inr (.inr (.inr (va_up (elF n el) n (some v)))))))], [(v, .inr (ci, vv))]] [[(L, .inr (13, [.int (mo + 1), .ref ea, .int (nI (n + 1))]))], [(v, .inr (ci, vv))], [(ea, .inl (g.2.2.1 4, cp, .inr (.inr (.inr (.inr (va_up (elF n el) n (some v)))))))], elW ci n el vs] [1, 3, 2, 0] rfl (by decide) h
  · have hnc : n = cp := by omega
    by_cases h0 : cp = 0
    · subst h0
      subst hnc
      obtain rfl : ea = gA g 200 := by rcases h2 with h | h | h | h | ⟨h, z⟩ <;> first | exact z | omega
      rw [arW_0]
      refine MM.imp ho.1.1 (jJ2_addE l g E ho L mo v ci vv r hci hca) (by decide) (by decide) (by decide) (by decide) (fun H h => h) (fun A h => h) (fun q hq => ⟨q, hq, rfl⟩) (fun u _ => ⟨(u, 10), rfl, ⟨by omega, by simp⟩, fun H h => ?_, fun A h => ?_⟩)
      · rw [arW_s (show (10 : Nat) ≠ 0 by decide), ← elF_push, elF_0]
        exact h.sub [1, 0, 2] rfl
      · rw [arW_s (show (10 : Nat) ≠ 0 by decide), ← elF_push, elF_0]
        exact h.sub [1, 0, 2] (by decide) rfl
    · rw [arW_s h0]
      have h10 : cp = 10 ∨ cp = 15 ∨ cp = 22 := by omega
      refine MM.imp ho.1.1 (jJ2_addG l g E ho L mo ea cp n ci el vs r v vv h10 hnc hci hca) (by decide) (by decide) (by decide) (by decide) (fun H h => sg_P [[(L, .inr (13, [.int mo, .ref ea, .int (nI n)]))], [(v, .inr (ci, vv))], [(ea, .inl (g.2.2.1 4, cp, .inr (.inr (.inr (.inr (elF n el))))))], elW ci n el vs] [[(L, .inr (13, [.int mo, .ref ea, .int (nI n)]))], [(ea, .inl (g.2.2.1 4, cp, .inr (.inr (.inr (.inr (elF n el))))))], [(v, .inr (ci, vv))], elW ci n el vs] [0, 2, 1, 3] rfl h) (fun A h => sg_D [[(L, .inr (13, [.int mo, .ref ea, .int (nI n)]))], [(v, .inr (ci, vv))], [(ea, .inl (g.2.2.1 4, cp, .inr (.inr (.inr (.inr (elF n el))))))], elW ci n el vs] [[(L, .inr (13, [.int mo, .ref ea, .int (nI n)]))], [(ea, .inl (g.2.2.1 4, cp, .inr (.inr (.inr (.inr (elF n el))))))], [(v, .inr (ci, vv))], elW ci n el vs] [0, 2, 1, 3] rfl (by decide) h) (fun q hq => ⟨q, by simp only [List.mem_append, List.mem_cons, List.not_mem_nil, or_false] at hq ⊢; rcases hq with h | h | h | h <;> simp [h], rfl⟩) (fun u _ => ⟨(u, cp + cp / 2), rfl, ⟨by omega, by rcases h10 with h | h | h <;> subst h <;> simp⟩, fun H h => ?_, fun A h => ?_⟩)
      · rw [arW_s (by omega), ← elF_push]
        exact sg_P [[(L, .inr (13, [.int (mo + 1), .ref u, .int (nI (n + 1))]))], [(u, .inl (g.2.2.1 4, cp + cp / 2, .inr (.inr (.inr (.inr (va_up (elF n el) n (some v)))))))], [(v, .inr (ci, vv))], elW ci n el vs] [[(L, .inr (13, [.int (mo + 1), .ref u, .int (nI (n + 1))]))], [(v, .inr (ci, vv))], [(u, .inl (g.2.2.1 4, cp + cp / 2, .inr (.inr (.inr (.inr (va_up (elF n el) n (some v)))))))], elW ci n el vs] [0, 2, 1, 3] rfl h
      · rw [arW_s (by omega), ← elF_push]
        exact sg_D [[(L, .inr (13, [.int (mo + 1), .ref u, .int (nI (n + 1))]))], [(u, .inl (g.2.2.1 4, cp + cp / 2, .inr (.inr (.inr (.inr (va_up (elF n el) n (some v)))))))], [(v, .inr (ci, vv))], elW ci n el vs] [[(L, .inr (13, [.int (mo + 1), .ref u, .int (nI (n + 1))]))], [(v, .inr (ci, vv))], [(u, .inl (g.2.2.1 4, cp + cp / 2, .inr (.inr (.inr (.inr (va_up (elF n el) n (some v)))))))], elW ci n el vs] [0, 2, 1, 3] rfl (by decide) h
set_option maxHeartbeats 4000000 in
theorem jJ2_getS (l : Launch) (g : hG) (E : hEnv) (ho : jOk g E) (L : Nat) (mo : Int32) (ea : Nat) (cp : Nat) (n : Nat) (ci : Nat) (el : Nat → Nat) (vs : Nat → List Value) (r : vw_C) (k : Nat) (hk : k < n) (hok : lsOk g ea cp n) : RM l yJ2_get cJ2_get 2 (some (.object "java/lang/Object")) 2 43 [.ref L, .int (nI k)] g E ((L, .inr (13, [.int mo, .ref ea, .int (nI n)])) :: (arW g ea cp (elF n el) ++ (elW ci n el vs ++ []))) (some (.ref (el k))) := by
  obtain ⟨h1, h2⟩ := hok
  have hne : cp ≠ 0 := by omega
  rw [arW_s hne]
  exact RM.imp (jJ2_get l g E ho L ea mo n cp (elF n el) k (el k) hk h1 (by omega) (elF_at hk)) (Nat.le_refl _) (Nat.le_refl _) (fun H h => h.sub [0, 1] rfl)
set_option maxHeartbeats 4000000 in
theorem jJ2_removeS (l : Launch) (g : hG) (E : hEnv) (ho : jOk g E) (L : Nat) (mo : Int32) (ea : Nat) (cp : Nat) (n : Nat) (ci : Nat) (el : Nat → Nat) (vs : Nat → List Value) (r : vw_C) (k : Nat) (hk : k < n) (hok : lsOk g ea cp n) (hci : Cl[ci]? = some r) (hca : Cond.castable r.1 "java/lang/Object" ∈ lw_tbl) : MM l yJ2_remove cJ2_remove 4 (some (.object "java/lang/Object")) 2 53 0 0 [.ref L, .int (nI k)] g E ((L, .inr (13, [.int mo, .ref ea, .int (nI n)])) :: (arW g ea cp (elF n el) ++ (elW ci n el vs ++ []))) (S := Unit) (fun _ => (some (.ref (el k)))) (fun _ => True) (fun _ => ((L, .inr (13, [.int (mo + 1), .ref ea, .int (nI (n - 1))])) :: (arW g ea cp (elF (n - 1) (rmF el k)) ++ (elW ci (n - 1) (rmF el k) (rmF vs k) ++ [])))) := by
  obtain ⟨h1, h2⟩ := hok
  have hne : cp ≠ 0 := by omega
  rw [arW_s hne]
  refine MM.imp ho.1.1 (jJ2_remove l g E ho L mo ea cp n ci el vs r k hk h1 (by omega) hci hca) (Nat.le_refl _) (Nat.le_refl _) (Nat.le_refl _) (Nat.le_refl _) (fun H h => h) (fun A h => h) (fun q hq => ⟨q, hq, rfl⟩) (fun u _ => ⟨(), rfl, trivial, fun H h => ?_, fun A h => ?_⟩)
  · rw [arW_s hne]
    exact sg_P [elW ci (n - 1) (rmF el k) (rmF vs k), [(L, .inr (13, [.int (mo + 1), .ref ea, .int (nI (n - 1))]))], [(ea, .inl (g.2.2.1 4, cp, .inr (.inr (.inr (.inr (elF (n - 1) (rmF el k)))))))]] [[(L, .inr (13, [.int (mo + 1), .ref ea, .int (nI (n - 1))]))], [(ea, .inl (g.2.2.1 4, cp, .inr (.inr (.inr (.inr (elF (n - 1) (rmF el k)))))))], elW ci (n - 1) (rmF el k) (rmF vs k)] [1, 2, 0] rfl (el_rmP (R := ([[(L, .inr (13, [.int (mo + 1), .ref ea, .int (nI (n - 1))]))], [(ea, .inl (g.2.2.1 4, cp, .inr (.inr (.inr (.inr (elF (n - 1) (rmF el k)))))))]] : List va_W).flatten) k hk (sg_P [[(L, .inr (13, [.int (mo + 1), .ref ea, .int (nI (n - 1))]))], [(ea, .inl (g.2.2.1 4, cp, .inr (.inr (.inr (.inr (elF (n - 1) (rmF el k)))))))], elW ci n el vs] [elW ci n el vs, [(L, .inr (13, [.int (mo + 1), .ref ea, .int (nI (n - 1))]))], [(ea, .inl (g.2.2.1 4, cp, .inr (.inr (.inr (.inr (elF (n - 1) (rmF el k)))))))]] [2, 0, 1] rfl h))
  · rw [arW_s hne]
    exact sg_D [elW ci (n - 1) (rmF el k) (rmF vs k), [(L, .inr (13, [.int (mo + 1), .ref ea, .int (nI (n - 1))]))], [(ea, .inl (g.2.2.1 4, cp, .inr (.inr (.inr (.inr (elF (n - 1) (rmF el k)))))))]] [[(L, .inr (13, [.int (mo + 1), .ref ea, .int (nI (n - 1))]))], [(ea, .inl (g.2.2.1 4, cp, .inr (.inr (.inr (.inr (elF (n - 1) (rmF el k)))))))], elW ci (n - 1) (rmF el k) (rmF vs k)] [1, 2, 0] rfl (by decide) (el_rmD (vs := vs) (R := ([[(L, .inr (13, [.int (mo + 1), .ref ea, .int (nI (n - 1))]))], [(ea, .inl (g.2.2.1 4, cp, .inr (.inr (.inr (.inr (elF (n - 1) (rmF el k)))))))]] : List va_W).flatten) k hk (sg_D [[(L, .inr (13, [.int (mo + 1), .ref ea, .int (nI (n - 1))]))], [(ea, .inl (g.2.2.1 4, cp, .inr (.inr (.inr (.inr (elF (n - 1) (rmF el k)))))))], elW ci n el vs] [elW ci n el vs, [(L, .inr (13, [.int (mo + 1), .ref ea, .int (nI (n - 1))]))], [(ea, .inl (g.2.2.1 4, cp, .inr (.inr (.inr (.inr (elF (n - 1) (rmF el k)))))))]] [2, 0, 1] rfl (by decide) h))
