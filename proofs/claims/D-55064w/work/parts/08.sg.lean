/-! SEGMENTS: worlds that are joined of parts -/
set_option maxRecDepth 100000
theorem va_P_mem {D : va_G} {cl : List vw_C} {ws : va_W} {H : Heap} : va_P D cl ws H ↔ ∀ q ∈ ws, va_at D cl q H := by
  constructor
  · intro h q hq
    obtain ⟨k, hk⟩ := List.getElem?_of_mem hq
    exact h k q hk
  · intro h k q hk
    exact h q (List.mem_of_getElem? hk)
theorem va_D_pw {A : Nat → Prop} {ws : va_W} : va_D A ws ↔ ws.Pairwise (fun p q => p.1 ≠ q.1) ∧ ∀ q ∈ ws, A q.1 := by
  constructor
  · intro h
    refine ⟨List.pairwise_iff_getElem.mpr (fun i j hi hj hij e => ?_), fun q hq => ?_⟩
    · have := h.1 i j ws[i] ws[j] (List.getElem?_eq_getElem hi) (List.getElem?_eq_getElem hj) e
      omega
    · obtain ⟨k, hk⟩ := List.getElem?_of_mem hq
      exact h.2 k q hk
  · intro h
    refine ⟨fun i j p q hi hj e => ?_, fun k q hk => h.2 q (List.mem_of_getElem? hk)⟩
    obtain ⟨hi1, hi2⟩ := List.getElem?_eq_some_iff.mp hi
    obtain ⟨hj1, hj2⟩ := List.getElem?_eq_some_iff.mp hj
    have h1 := List.pairwise_iff_getElem.mp h.1
    subst hi2; subst hj2
    by_cases h2 : i < j
    · exact absurd e (h1 i j hi1 hj1 h2)
    · by_cases h3 : j < i
      · exact absurd e.symm (h1 j i hj1 hi1 h3)
      · omega
theorem sg_at {LS LT : List va_W} (is : List Nat) (h : is.map (fun i => LS[i]?) = LT.map some) (k : Nat) (hk : k < LT.length) : ∃ i, is[k]? = some i ∧ LS[i]? = some LT[k] := by
  have h1 : (is.map (fun i => LS[i]?))[k]? = some (some LT[k]) := by rw [h, List.getElem?_map, List.getElem?_eq_getElem hk]; rfl
  rw [List.getElem?_map] at h1
  cases hi : is[k]? with
  | none => rw [hi] at h1; cases h1
  | some i => rw [hi] at h1; exact ⟨i, rfl, Option.some.inj h1⟩
theorem sg_mem {LS LT : List va_W} (is : List Nat) (h : is.map (fun i => LS[i]?) = LT.map some) {w : va_W} (hw : w ∈ LT) : w ∈ LS := by
  obtain ⟨k, hk⟩ := List.getElem?_of_mem hw
  obtain ⟨hk1, hk2⟩ := List.getElem?_eq_some_iff.mp hk
  obtain ⟨i, -, h2⟩ := sg_at is h k hk1
  rw [hk2] at h2
  exact List.mem_of_getElem? h2
/-- parts of a world in another order, or fewer -/
theorem sg_P {D : va_G} {cl : List vw_C} {H : Heap} (LS LT : List va_W) (is : List Nat) (h : is.map (fun i => LS[i]?) = LT.map some) (hP : va_P D cl LS.flatten H) : va_P D cl LT.flatten H := by
  rw [va_P_mem] at hP ⊢
  intro q hq
  obtain ⟨w, hw, hq2⟩ := List.mem_flatten.mp hq
  exact hP q (List.mem_flatten.mpr ⟨w, sg_mem is h hw, hq2⟩)
theorem sg_D {A : Nat → Prop} (LS LT : List va_W) (is : List Nat) (h : is.map (fun i => LS[i]?) = LT.map some) (hn : va_nd is = true) (hD : va_D A LS.flatten) : va_D A LT.flatten := by
  rw [va_D_pw] at hD ⊢
  obtain ⟨h1, h2⟩ := hD
  obtain ⟨h3, h4⟩ := List.pairwise_flatten.mp h1
  have h5 := List.pairwise_iff_getElem.mp h4
  refine ⟨List.pairwise_flatten.mpr ⟨fun w hw => h3 w (sg_mem is h hw), List.pairwise_iff_getElem.mpr (fun i j hi hj hij x hx y hy e => ?_)⟩, fun q hq => ?_⟩
  · obtain ⟨a, ha1, ha2⟩ := sg_at is h i hi
    obtain ⟨b, hb1, hb2⟩ := sg_at is h j hj
    have hab : a ≠ b := fun z => by
      subst z
      have := va_nd_inj is hn i j a ha1 hb1
      omega
    obtain ⟨a1, a2⟩ := List.getElem?_eq_some_iff.mp ha2
    obtain ⟨b1, b2⟩ := List.getElem?_eq_some_iff.mp hb2
    rw [← a2] at hx; rw [← b2] at hy
    by_cases hlt : a < b
    · exact h5 a b a1 b1 hlt x hx y hy e
    · exact h5 b a b1 a1 (by omega) y hy x hx e.symm
  · obtain ⟨w, hw, hq2⟩ := List.mem_flatten.mp hq
    exact h2 q (List.mem_flatten.mpr ⟨w, sg_mem is h hw, hq2⟩)
/-- a world of two parts, by the places -/
theorem ap_C (wc wr : va_W) : (List.range wc.length).map (fun i => (wc ++ wr)[i]?) = wc.map some := by
  apply List.ext_getElem?
  intro i
  rw [List.getElem?_map, List.getElem?_map]
  by_cases h : i < wc.length
  · rw [List.getElem?_range h, List.getElem?_eq_getElem h]
    show some ((wc ++ wr)[i]?) = some (some wc[i])
    rw [List.getElem?_append_left h, List.getElem?_eq_getElem h]
  · rw [List.getElem?_eq_none (by rw [List.length_range]; omega), List.getElem?_eq_none (by omega)]
    rfl
theorem ap_R (wc wr : va_W) : ((List.range wr.length).map (fun i => wc.length + i)).map (fun i => (wc ++ wr)[i]?) = wr.map some := by
  rw [List.map_map]
  apply List.ext_getElem?
  intro i
  rw [List.getElem?_map, List.getElem?_map]
  by_cases h : i < wr.length
  · rw [List.getElem?_range h, List.getElem?_eq_getElem h]
    show some ((wc ++ wr)[wc.length + i]?) = some (some wr[i])
    rw [List.getElem?_append_right (Nat.le_add_right _ _), Nat.add_sub_cancel_left, List.getElem?_eq_getElem h]
  · rw [List.getElem?_eq_none (by rw [List.length_range]; omega), List.getElem?_eq_none (by omega)]
    rfl
theorem nd_of : ∀ l : List Nat, l.Nodup → va_nd l = true
  | [], _ => rfl
  | a :: l, h => by
    obtain ⟨h1, h2⟩ := List.nodup_cons.mp h
    show (decide (a ∉ l) && va_nd l) = true
    rw [nd_of l h2, decide_eq_true h1]
    rfl
theorem nd_range (n : Nat) : va_nd (List.range n) = true := nd_of _ List.nodup_range
theorem nd_rangeR (n k : Nat) : va_nd ((List.range n).map (fun i => k + i)) = true := by
  refine nd_of _ ?_
  rw [List.nodup_iff_pairwise_ne, List.pairwise_map]
  exact List.Pairwise.imp (fun h e => h (by omega)) (List.nodup_iff_pairwise_ne.mp List.nodup_range)
theorem ap_dis (n k : Nat) : ∀ i ∈ (List.range n).map (fun i => k + i), i ∉ List.range k := by
  intro i hi
  obtain ⟨j, -, rfl⟩ := List.mem_map.mp hi
  rw [List.mem_range]
  omega
theorem ap_Pc {D : va_G} {cl : List vw_C} {H : Heap} {wc wr : va_W} (h : va_P D cl (wc ++ wr) H) : va_P D cl wc H := by
  rw [va_P_mem] at h ⊢
  exact fun q hq => h q (List.mem_append_left _ hq)
/-- the order doesn't matter -/
theorem pm_P {D : va_G} {cl : List vw_C} {H : Heap} {ws ws' : va_W} (h : ws.Perm ws') (hP : va_P D cl ws H) : va_P D cl ws' H := by
  rw [va_P_mem] at hP ⊢
  exact fun q hq => hP q (h.mem_iff.mpr hq)
theorem pm_D {A : Nat → Prop} {ws ws' : va_W} (h : ws.Perm ws') (hD : va_D A ws) : va_D A ws' := by
  rw [va_D_pw] at hD ⊢
  exact ⟨(h.pairwise_iff (fun a => Ne.symm a)).mp hD.1, fun q hq => hD.2 q (h.mem_iff.mpr hq)⟩
/-- the addresses alone count -/
theorem fs_D {A : Nat → Prop} {ws ws' : va_W} (h : ws.map Prod.fst = ws'.map Prod.fst) (hD : va_D A ws) : va_D A ws' := by
  rw [va_D_pw] at hD ⊢
  obtain ⟨h1, h2⟩ := hD
  have e1 : (ws.map Prod.fst).Pairwise (fun a b => a ≠ b) := List.pairwise_map.mpr h1
  rw [h] at e1
  refine ⟨List.pairwise_map.mp e1, fun q hq => ?_⟩
  have h3 : q.1 ∈ ws.map Prod.fst := by rw [h]; exact List.mem_map.mpr ⟨q, hq, rfl⟩
  obtain ⟨r, hr, hrq⟩ := List.mem_map.mp h3
  rw [← hrq]
  exact h2 r hr
theorem va_D_app {A : Nat → Prop} {u v : va_W} : va_D A (u ++ v) ↔ va_D A u ∧ va_D A v ∧ ∀ p ∈ u, ∀ q ∈ v, p.1 ≠ q.1 := by
  rw [va_D_pw, va_D_pw, va_D_pw, List.pairwise_append]
  constructor
  · rintro ⟨⟨h1, h2, h3⟩, h4⟩
    exact ⟨⟨h1, fun q hq => h4 q (List.mem_append_left _ hq)⟩, ⟨h2, fun q hq => h4 q (List.mem_append_right _ hq)⟩, h3⟩
  · rintro ⟨⟨h1, h4⟩, ⟨h2, h5⟩, h3⟩
    refine ⟨⟨h1, h2, h3⟩, fun q hq => ?_⟩
    rcases List.mem_append.mp hq with h | h
    · exact h4 q h
    · exact h5 q h
/-- things of one class: the j-th at el j, with the fields vs j -/
def elC (ci : Nat) (el : Nat → Nat) (vs : Nat → List Value) (j : Nat) : Nat × va_E := (el j, .inr (ci, vs j))
def elW (ci n : Nat) (el : Nat → Nat) (vs : Nat → List Value) : va_W := (List.range n).map (elC ci el vs)
/-- all but the k-th -/
def elX (ci n : Nat) (el : Nat → Nat) (vs : Nat → List Value) (k : Nat) : va_W := ((List.range n).erase k).map (elC ci el vs)
def elY (ci n : Nat) (el : Nat → Nat) (vs : Nat → List Value) (k i : Nat) : va_W := (((List.range n).erase k).erase i).map (elC ci el vs)
theorem elX_perm {ci n : Nat} {el : Nat → Nat} {vs : Nat → List Value} {k : Nat} (hk : k < n) : (elW ci n el vs).Perm ((el k, .inr (ci, vs k)) :: elX ci n el vs k) :=
  (List.perm_cons_erase (List.mem_range.mpr hk)).map (elC ci el vs)
theorem mem_er {n k j : Nat} (h : j ∈ (List.range n).erase k) : j < n ∧ j ≠ k := by
  obtain ⟨h1, h2⟩ := (List.Nodup.mem_erase_iff List.nodup_range).mp h
  exact ⟨List.mem_range.mp h2, h1⟩
theorem mem_er2 {n k i j : Nat} (h : j ∈ ((List.range n).erase k).erase i) : j < n ∧ j ≠ k ∧ j ≠ i := by
  obtain ⟨h1, h2⟩ := (List.Nodup.mem_erase_iff (List.Nodup.erase _ List.nodup_range)).mp h
  exact ⟨(mem_er h2).1, (mem_er h2).2, h1⟩
theorem elY_perm {ci n : Nat} {el : Nat → Nat} {vs : Nat → List Value} {k i : Nat} (hk : k < n) (hi : i < n) (hki : i ≠ k) : (elW ci n el vs).Perm ((el k, .inr (ci, vs k)) :: (el i, .inr (ci, vs i)) :: elY ci n el vs k i) := by
  refine (elX_perm hk).trans (List.Perm.cons _ ?_)
  exact (List.perm_cons_erase ((List.Nodup.mem_erase_iff List.nodup_range).mpr ⟨hki, List.mem_range.mpr hi⟩)).map (elC ci el vs)
theorem elX_eq {ci n : Nat} {el : Nat → Nat} {vs vs' : Nat → List Value} {k : Nat} (h : ∀ j, j < n → j ≠ k → vs' j = vs j) : elX ci n el vs' k = elX ci n el vs k :=
  List.map_congr_left (fun j hj => by
    obtain ⟨h1, h2⟩ := mem_er hj
    unfold elC
    rw [h j h1 h2])
theorem elY_eq {ci n : Nat} {el : Nat → Nat} {vs vs' : Nat → List Value} {k i : Nat} (h : ∀ j, j < n → j ≠ k → j ≠ i → vs' j = vs j) : elY ci n el vs' k i = elY ci n el vs k i :=
  List.map_congr_left (fun j hj => by
    obtain ⟨h1, h2, h3⟩ := mem_er2 hj
    unfold elC
    rw [h j h1 h2 h3])
theorem elW_eq {ci n : Nat} {el : Nat → Nat} {vs vs' : Nat → List Value} (h : ∀ j, j < n → vs' j = vs j) : elW ci n el vs' = elW ci n el vs :=
  List.map_congr_left (fun j hj => by
    unfold elC
    rw [h j (List.mem_range.mp hj)])
theorem elW_eq2 {ci n : Nat} {el el' : Nat → Nat} {vs vs' : Nat → List Value} (h : ∀ j, j < n → el' j = el j ∧ vs' j = vs j) : elW ci n el' vs' = elW ci n el vs :=
  List.map_congr_left (fun j hj => by
    unfold elC
    rw [(h j (List.mem_range.mp hj)).1, (h j (List.mem_range.mp hj)).2])
theorem elW_mem {ci n : Nat} {el : Nat → Nat} {vs : Nat → List Value} {q : Nat × va_E} : q ∈ elW ci n el vs ↔ ∃ j, j < n ∧ q = elC ci el vs j := by
  unfold elW
  rw [List.mem_map]
  constructor
  · rintro ⟨j, h1, h2⟩
    exact ⟨j, List.mem_range.mp h1, h2.symm⟩
  · rintro ⟨j, h1, h2⟩
    exact ⟨j, List.mem_range.mpr h1, h2.symm⟩
/-- one more at the end -/
theorem elW_push {ci n : Nat} {el : Nat → Nat} {vs : Nat → List Value} {a : Nat} {v : List Value} : elW ci (n + 1) (va_up el n a) (va_up vs n v) = elW ci n el vs ++ [(a, .inr (ci, v))] := by
  unfold elW
  rw [List.range_succ, List.map_append]
  congr 1
  · refine List.map_congr_left (fun j hj => ?_)
    have := List.mem_range.mp hj
    unfold elC
    rw [va_up_ne _ _ (by omega), va_up_ne _ _ (by omega)]
  · show [elC ci (va_up el n a) (va_up vs n v) n] = _
    unfold elC
    rw [va_up_self, va_up_self]
/-- one thing taken out of a world's first part, and put back with other fields -/
theorem el_openP {D : va_G} {cl : List vw_C} {H : Heap} {ci n : Nat} {el : Nat → Nat} {vs : Nat → List Value} {R : va_W} (k : Nat) (hk : k < n) (h : va_P D cl (elW ci n el vs ++ R) H) : va_P D cl ((el k, .inr (ci, vs k)) :: (elX ci n el vs k ++ R)) H := pm_P ((elX_perm hk).append_right R) h
theorem el_openD {A : Nat → Prop} {ci n : Nat} {el : Nat → Nat} {vs : Nat → List Value} {R : va_W} (k : Nat) (hk : k < n) (h : va_D A (elW ci n el vs ++ R)) : va_D A ((el k, .inr (ci, vs k)) :: (elX ci n el vs k ++ R)) := pm_D ((elX_perm hk).append_right R) h
theorem el_closeP {D : va_G} {cl : List vw_C} {H : Heap} {ci n : Nat} {el : Nat → Nat} {vs : Nat → List Value} {R : va_W} {w : List Value} (k : Nat) (hk : k < n) (vs' : Nat → List Value) (hw : vs' k = w) (hne : ∀ j, j < n → j ≠ k → vs' j = vs j) (h : va_P D cl ((el k, .inr (ci, w)) :: (elX ci n el vs k ++ R)) H) : va_P D cl (elW ci n el vs' ++ R) H := by
  refine pm_P ((elX_perm hk).append_right R).symm ?_
  rw [hw, elX_eq hne]
  exact h
theorem el_closeD {A : Nat → Prop} {ci n : Nat} {el : Nat → Nat} {vs : Nat → List Value} {R : va_W} {w : List Value} (k : Nat) (hk : k < n) (vs' : Nat → List Value) (hw : vs' k = w) (hne : ∀ j, j < n → j ≠ k → vs' j = vs j) (h : va_D A ((el k, .inr (ci, w)) :: (elX ci n el vs k ++ R))) : va_D A (elW ci n el vs' ++ R) := by
  refine pm_D ((elX_perm hk).append_right R).symm ?_
  rw [hw, elX_eq hne]
  exact h
theorem el_open2P {D : va_G} {cl : List vw_C} {H : Heap} {ci n : Nat} {el : Nat → Nat} {vs : Nat → List Value} {R : va_W} (k i : Nat) (hk : k < n) (hi : i < n) (hki : i ≠ k) (h : va_P D cl (elW ci n el vs ++ R) H) : va_P D cl ((el k, .inr (ci, vs k)) :: (el i, .inr (ci, vs i)) :: (elY ci n el vs k i ++ R)) H := pm_P ((elY_perm hk hi hki).append_right R) h
theorem el_open2D {A : Nat → Prop} {ci n : Nat} {el : Nat → Nat} {vs : Nat → List Value} {R : va_W} (k i : Nat) (hk : k < n) (hi : i < n) (hki : i ≠ k) (h : va_D A (elW ci n el vs ++ R)) : va_D A ((el k, .inr (ci, vs k)) :: (el i, .inr (ci, vs i)) :: (elY ci n el vs k i ++ R)) := pm_D ((elY_perm hk hi hki).append_right R) h
theorem el_close2P {D : va_G} {cl : List vw_C} {H : Heap} {ci n : Nat} {el : Nat → Nat} {vs : Nat → List Value} {R : va_W} {w z : List Value} (k i : Nat) (hk : k < n) (hi : i < n) (hki : i ≠ k) (vs' : Nat → List Value) (hw : vs' k = w) (hz : vs' i = z) (hne : ∀ j, j < n → j ≠ k → j ≠ i → vs' j = vs j) (h : va_P D cl ((el k, .inr (ci, w)) :: (el i, .inr (ci, z)) :: (elY ci n el vs k i ++ R)) H) : va_P D cl (elW ci n el vs' ++ R) H := by
  refine pm_P ((elY_perm hk hi hki).append_right R).symm ?_
  rw [hw, hz, elY_eq hne]
  exact h
theorem el_close2D {A : Nat → Prop} {ci n : Nat} {el : Nat → Nat} {vs : Nat → List Value} {R : va_W} {w z : List Value} (k i : Nat) (hk : k < n) (hi : i < n) (hki : i ≠ k) (vs' : Nat → List Value) (hw : vs' k = w) (hz : vs' i = z) (hne : ∀ j, j < n → j ≠ k → j ≠ i → vs' j = vs j) (h : va_D A ((el k, .inr (ci, w)) :: (el i, .inr (ci, z)) :: (elY ci n el vs k i ++ R))) : va_D A (elW ci n el vs' ++ R) := by
  refine pm_D ((elY_perm hk hi hki).append_right R).symm ?_
  rw [hw, hz, elY_eq hne]
  exact h
/-- one thing seen -/
theorem el_see {D : va_G} {cl : List vw_C} {H : Heap} {ci n : Nat} {el : Nat → Nat} {vs : Nat → List Value} {R : va_W} (k : Nat) (hk : k < n) (h : va_P D cl (elW ci n el vs ++ R) H) : va_P D cl [(el k, .inr (ci, vs k))] H := by
  rw [va_P_mem] at h ⊢
  intro q hq
  rcases List.mem_cons.mp hq with rfl | hq
  · exact h _ (List.mem_append_left _ (elW_mem.mpr ⟨k, hk, rfl⟩))
  · cases hq
