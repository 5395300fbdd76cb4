/-! CELLS of references: places alone count -/
theorem arrV_cong {cA : ClassId} {n : Nat} {f f' : Nat → Value} (h : ∀ j : Nat, j < n → f j = f' j) : arrV cA n f = arrV cA n f' := by
  unfold arrV
  congr 1
  exact congrArg Array.ofFn (funext fun j => h j.1 j.2)
theorem va_P.refs {D : va_G} {cl : List vw_C} {ws : va_W} {H : Heap} (hP : va_P D cl ws H) (q0 : Nat) {a n : Nat} {cA : ClassId} {f f' : Nat → Option Nat} (ha : ws[q0]? = some (a, .inl (cA, n, .inr (.inr (.inr (.inr f)))))) (h : ∀ j : Nat, j < n → f j = f' j) : va_P D cl (ws.set q0 (a, .inl (cA, n, .inr (.inr (.inr (.inr f')))))) H := by
  intro k q hk
  by_cases e : q0 = k
  · subst e
    have hl : q0 < ws.length := (List.getElem?_eq_some_iff.mp ha).1
    rw [List.getElem?_set_self hl] at hk
    cases hk
    have := hP q0 _ ha
    show H[a]? = some (vp_cell _ _)
    rw [show H[a]? = some (vp_cell cA (n, .inr (.inr (.inr (.inr f))))) from this, vp_cell_q, vp_cell_q, arrV_cong (fun j hj => by rw [h j hj])]
  · rw [List.getElem?_set_ne e] at hk
    exact hP k q hk
theorem va_P.ints {D : va_G} {cl : List vw_C} {ws : va_W} {H : Heap} (hP : va_P D cl ws H) (q0 : Nat) {a n : Nat} {cA : ClassId} {f f' : Nat → Int32} (ha : ws[q0]? = some (a, .inl (cA, n, .inl f))) (h : ∀ j : Nat, j < n → f j = f' j) : va_P D cl (ws.set q0 (a, .inl (cA, n, .inl f'))) H := by
  intro k q hk
  by_cases e : q0 = k
  · subst e
    have hl : q0 < ws.length := (List.getElem?_eq_some_iff.mp ha).1
    rw [List.getElem?_set_self hl] at hk
    cases hk
    have := hP q0 _ ha
    show H[a]? = some (vp_cell _ _)
    rw [show H[a]? = some (vp_cell cA (n, .inl f)) from this]
    exact congrArg some (arrV_cong (cA := cA) (n := n) (f := fun j => Value.int (f j)) (f' := fun j => Value.int (f' j)) (fun j hj => congrArg Value.int (h j hj)))
  · rw [List.getElem?_set_ne e] at hk
    exact hP k q hk
