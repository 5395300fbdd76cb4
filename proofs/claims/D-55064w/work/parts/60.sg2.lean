/-! SEGMENTS, more: two halves, things that go, lists and rows as parts of a world -/
set_option maxRecDepth 100000
theorem sg_P2 {D : va_G} {cl : List vw_C} {H : Heap} (LS LC LR : List va_W) (is : List Nat) (h : is.map (fun i => LS[i]?) = (LC ++ LR).map some) (hP : va_P D cl LS.flatten H) : va_P D cl (LC.flatten ++ LR.flatten) H := by
  rw [← List.flatten_append]
  exact sg_P LS _ is h hP
theorem sg_D2 {A : Nat → Prop} (LS LC LR : List va_W) (is : List Nat) (h : is.map (fun i => LS[i]?) = (LC ++ LR).map some) (hn : va_nd is = true) (hD : va_D A LS.flatten) : va_D A (LC.flatten ++ LR.flatten) := by
  rw [← List.flatten_append]
  exact sg_D LS _ is h hn hD
theorem sg_P3 {D : va_G} {cl : List vw_C} {H : Heap} (LC LR LT : List va_W) (is : List Nat) (h : is.map (fun i => (LC ++ LR)[i]?) = LT.map some) (hP : va_P D cl (LC.flatten ++ LR.flatten) H) : va_P D cl LT.flatten H := by
  rw [← List.flatten_append] at hP
  exact sg_P _ LT is h hP
theorem sg_D3 {A : Nat → Prop} (LC LR LT : List va_W) (is : List Nat) (h : is.map (fun i => (LC ++ LR)[i]?) = LT.map some) (hn : va_nd is = true) (hD : va_D A (LC.flatten ++ LR.flatten)) : va_D A LT.flatten := by
  rw [← List.flatten_append] at hD
  exact sg_D _ LT is h hn hD
theorem sg_P2e {D : va_G} {cl : List vw_C} {H : Heap} (LS LC LR : List va_W) (wc wr : va_W) (e1 : LC.flatten = wc) (e2 : LR.flatten = wr) (is : List Nat) (h : is.map (fun i => LS[i]?) = (LC ++ LR).map some) (hP : va_P D cl LS.flatten H) : va_P D cl (wc ++ wr) H := by
  subst e1; subst e2
  exact sg_P2 LS LC LR is h hP
theorem sg_D2e {A : Nat → Prop} (LS LC LR : List va_W) (wc wr : va_W) (e1 : LC.flatten = wc) (e2 : LR.flatten = wr) (is : List Nat) (h : is.map (fun i => LS[i]?) = (LC ++ LR).map some) (hn : va_nd is = true) (hD : va_D A LS.flatten) : va_D A (wc ++ wr) := by
  subst e1; subst e2
  exact sg_D2 LS LC LR is h hn hD
theorem sg_P3e {D : va_G} {cl : List vw_C} {H : Heap} (LC LR LT : List va_W) {wr w1 : va_W} (e1 : LC.flatten = wr) (e2 : LR.flatten = w1) (is : List Nat) (h : is.map (fun i => (LC ++ LR)[i]?) = LT.map some) (hP : va_P D cl (wr ++ w1) H) : va_P D cl LT.flatten H := by
  subst e1; subst e2
  exact sg_P3 LC LR LT is h hP
theorem sg_D3e {A : Nat → Prop} (LC LR LT : List va_W) {wr w1 : va_W} (e1 : LC.flatten = wr) (e2 : LR.flatten = w1) (is : List Nat) (h : is.map (fun i => (LC ++ LR)[i]?) = LT.map some) (hn : va_nd is = true) (hD : va_D A (wr ++ w1)) : va_D A LT.flatten := by
  subst e1; subst e2
  exact sg_D3 LC LR LT is h hn hD
/-- fewer things of a class, by a map of the places -/
theorem el_subP {D : va_G} {cl : List vw_C} {H : Heap} {ci n n' : Nat} {el el' : Nat → Nat} {vs vs' : Nat → List Value} {R : va_W} (σ : Nat → Nat) (h1 : ∀ j, j < n' → σ j < n ∧ el' j = el (σ j) ∧ vs' j = vs (σ j)) (h : va_P D cl (elW ci n el vs ++ R) H) : va_P D cl (elW ci n' el' vs' ++ R) H := by
  rw [va_P_mem] at h ⊢
  intro q hq
  rcases List.mem_append.mp hq with hq | hq
  · obtain ⟨j, hj, rfl⟩ := elW_mem.mp hq
    obtain ⟨a, b, c⟩ := h1 j hj
    refine h _ (List.mem_append_left _ (elW_mem.mpr ⟨σ j, a, ?_⟩))
    unfold elC
    rw [b, c]
  · exact h q (List.mem_append_right _ hq)
theorem pw_range (n : Nat) (R : Nat → Nat → Prop) (h : ∀ i j, i < j → j < n → R i j) : (List.range n).Pairwise R :=
  List.pairwise_iff_getElem.mpr (fun i j hi hj hij => by
    rw [List.length_range] at hi hj
    rw [List.getElem_range, List.getElem_range]
    exact h i j hij hj)
theorem elW_apart {A : Nat → Prop} {ci n : Nat} {el : Nat → Nat} {vs : Nat → List Value} (h : va_D A (elW ci n el vs)) {i j : Nat} (hi : i < n) (hj : j < n) (hij : i ≠ j) : el i ≠ el j := by
  have h1 := List.pairwise_map.mp (va_D_pw.mp h).1
  have h2 := List.pairwise_iff_getElem.mp h1
  by_cases hlt : i < j
  · have := h2 i j (by rw [List.length_range]; exact hi) (by rw [List.length_range]; exact hj) hlt
    rw [List.getElem_range, List.getElem_range] at this
    exact this
  · have := h2 j i (by rw [List.length_range]; exact hj) (by rw [List.length_range]; exact hi) (by omega)
    rw [List.getElem_range, List.getElem_range] at this
    exact fun e => this e.symm
theorem el_subD {A : Nat → Prop} {ci n n' : Nat} {el el' : Nat → Nat} {vs vs' : Nat → List Value} {R : va_W} (σ : Nat → Nat) (h1 : ∀ j, j < n' → σ j < n ∧ el' j = el (σ j)) (h2 : ∀ i j, i < j → j < n' → σ i ≠ σ j) (h : va_D A (elW ci n el vs ++ R)) : va_D A (elW ci n' el' vs' ++ R) := by
  obtain ⟨g1, g2, g3⟩ := va_D_app.mp h
  have g4 := va_D_pw.mp g1
  refine va_D_app.mpr ⟨va_D_pw.mpr ⟨List.pairwise_map.mpr (pw_range n' _ (fun i j hij hj => ?_)), fun q hq => ?_⟩, g2, fun p hp q hq => ?_⟩
  · show el' i ≠ el' j
    obtain ⟨a, b⟩ := h1 i (by omega)
    obtain ⟨c, d⟩ := h1 j hj
    rw [b, d]
    exact elW_apart g1 a c (h2 i j hij hj)
  · obtain ⟨j, hj, rfl⟩ := elW_mem.mp hq
    obtain ⟨a, b⟩ := h1 j hj
    show A (el' j)
    rw [b]
    exact g4.2 (elC ci el vs (σ j)) (elW_mem.mpr ⟨σ j, a, rfl⟩)
  · obtain ⟨j, hj, rfl⟩ := elW_mem.mp hp
    obtain ⟨a, b⟩ := h1 j hj
    show el' j ≠ q.1
    rw [b]
    exact g3 (elC ci el vs (σ j)) (elW_mem.mpr ⟨σ j, a, rfl⟩) q hq
/-- the k-th goes: the places behind it move one down -/
abbrev rmI (k : Nat) : Nat → Nat := fun j => if j < k then j else j + 1
abbrev rmF {α : Type} (f : Nat → α) (k : Nat) : Nat → α := fun j => f (rmI k j)
theorem el_rmP {D : va_G} {cl : List vw_C} {H : Heap} {ci n : Nat} {el : Nat → Nat} {vs : Nat → List Value} {R : va_W} (k : Nat) (hk : k < n) (h : va_P D cl (elW ci n el vs ++ R) H) : va_P D cl (elW ci (n - 1) (rmF el k) (rmF vs k) ++ R) H :=
  el_subP (rmI k) (fun j hj => ⟨by unfold rmI; split <;> omega, rfl, rfl⟩) h
theorem el_rmD {A : Nat → Prop} {ci n : Nat} {el : Nat → Nat} {vs : Nat → List Value} {R : va_W} (k : Nat) (hk : k < n) (h : va_D A (elW ci n el vs ++ R)) : va_D A (elW ci (n - 1) (rmF el k) (rmF vs k) ++ R) :=
  el_subD (rmI k) (fun j hj => ⟨by unfold rmI; split <;> omega, rfl⟩) (fun i j hij hj => by unfold rmI; split <;> split <;> omega) h
/-- what a list's array holds -/
def elF (n : Nat) (el : Nat → Nat) : Nat → Option Nat := fun j => if j < n then some (el j) else none
theorem elF_at {n : Nat} {el : Nat → Nat} {j : Nat} (h : j < n) : elF n el j = some (el j) := if_pos h
theorem elF_0 (el : Nat → Nat) : elF 0 el = fun _ => none := by
  funext j
  exact if_neg (by omega)
theorem elF_push (n : Nat) (el : Nat → Nat) (v : Nat) : va_up (elF n el) n (some v) = elF (n + 1) (va_up el n v) := by
  funext j
  unfold va_up elF
  by_cases h : j = n
  · rw [if_pos h, if_pos (by omega)]
    show some v = some (if j = n then v else el j)
    rw [if_pos h]
  · rw [if_neg h]
    show _ = if j < n + 1 then some (if j = n then v else el j) else none
    rw [if_neg h]
    by_cases h2 : j < n
    · rw [if_pos h2, if_pos (by omega)]
    · rw [if_neg h2, if_neg (by omega)]
theorem elF_cpy {n cp : Nat} (el : Nat → Nat) (h : n ≤ cp) : va_cpy (elF n el) (fun _ => none) 0 0 cp = elF n el := by
  funext j
  unfold va_cpy elF
  by_cases h1 : 0 ≤ j ∧ j < 0 + cp
  · rw [if_pos h1]
    simp only [Nat.zero_add, Nat.sub_zero]
  · rw [if_neg h1, if_neg (by omega)]
/-- fastRemove: what stands behind k moves down, the last place is emptied -/
theorem elF_rm {n : Nat} (el : Nat → Nat) (k : Nat) (h : k < n) : va_up (va_cpy (elF n el) (elF n el) (k + 1) k (n - 1 - k)) (n - 1) none = elF (n - 1) (rmF el k) := by
  funext j
  unfold va_up va_cpy elF rmF rmI
  by_cases h1 : j = n - 1
  · rw [if_pos h1, if_neg (by omega)]
  · rw [if_neg h1]
    by_cases h2 : k ≤ j ∧ j < k + (n - 1 - k)
    · rw [if_pos h2, if_pos (by omega), if_pos (by omega), if_neg (by omega)]
      congr 2
      omega
    · rw [if_neg h2]
      by_cases h3 : j < n - 1
      · rw [if_pos (by omega), if_pos h3, if_pos (by omega)]
      · rw [if_neg (by omega), if_neg h3]
theorem elF_rmL {n : Nat} (el : Nat → Nat) (k : Nat) (h : k + 1 = n) : va_up (elF n el) (n - 1) none = elF (n - 1) (rmF el k) := by
  funext j
  unfold va_up elF rmF rmI
  by_cases h1 : j = n - 1
  · rw [if_pos h1, if_neg (by omega)]
  · rw [if_neg h1]
    by_cases h3 : j < n - 1
    · rw [if_pos (by omega), if_pos h3, if_pos (by omega)]
    · rw [if_neg (by omega), if_neg h3]
/-- a list's array: none of its own where it never had one -/
def arW (g : hG) (ea cp : Nat) (f : Nat → Option Nat) : va_W := if cp = 0 then [] else [(ea, .inl (g.2.2.1 4, cp, .inr (.inr (.inr (.inr f)))))]
theorem arW_0 {g : hG} {ea : Nat} {f : Nat → Option Nat} : arW g ea 0 f = [] := if_pos rfl
theorem arW_s {g : hG} {ea cp : Nat} {f : Nat → Option Nat} (h : cp ≠ 0) : arW g ea cp f = [(ea, .inl (g.2.2.1 4, cp, .inr (.inr (.inr (.inr f)))))] := if_neg h
abbrev lsW (g : hG) (L ea cp : Nat) (mo : Int32) (n : Nat) (el : Nat → Nat) : va_W := (L, .inr (13, [.int mo, .ref ea, .int (nI n)])) :: arW g ea cp (elF n el)
def lsOk (g : hG) (ea cp n : Nat) : Prop := n ≤ cp ∧ (cp = 10 ∨ cp = 15 ∨ cp = 22 ∨ cp = 33 ∨ (cp = 0 ∧ ea = gA g 200))
theorem lsOk.lt {g : hG} {ea cp n : Nat} (h : lsOk g ea cp n) : cp < 34 := by
  obtain ⟨-, h | h | h | h | ⟨h, -⟩⟩ := h <;> omega
/-- a row: its object, its list -/
abbrev roW (g : hG) (q L ea cp : Nat) (mo mst : Int32) (n : Nat) (el : Nat → Nat) : va_W := (q, .inr (3, [.ref L, .int mst])) :: lsW g L ea cp mo n el
