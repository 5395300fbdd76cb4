/-! THE REFERENCE's STATE: its ints I (changes, thrown, reason, detail, place, order, isSaved, taped, here, orderMany, told, faultAt, lined), its arrays F (s, was, saved, past, tape, orders, line) -/
set_option maxRecDepth 100000
abbrev mO (a : Nat → Nat) (I : Nat → Int32) : List Value := [.ref (a 0), .ref (a 1), .ref (a 2), .ref (a 3), .int (I 0), .int (I 1), .int (I 2), .int (I 3), .int (I 4), .int (I 5), .int (I 6), .ref (a 4), .ref (a 5), .ref (a 6), .int (I 7), .int (I 8), .int (I 9), .int (I 10), .int (I 11), .ref (a 7), .int (I 12)]
abbrev mW (g : hG) (h0 : Nat) (a : Nat → Nat) (I : Nat → Int32) (F : Nat → Nat → Int32) : va_W := [(h0, .inr (0, mO a I)), (a 0, .inl (g.2.2.1 0, 195, .inl (F 0))), (a 1, .inl (g.2.2.1 0, 195, .inl (F 1))), (a 2, .inl (g.2.2.1 0, 195, .inl (F 2))), (a 3, .inl (g.2.2.1 0, 1560, .inl (F 3))), (a 5, .inl (g.2.2.1 0, 60, .inl (F 4))), (a 6, .inl (g.2.2.1 0, 36, .inl (F 5))), (a 7, .inl (g.2.2.1 0, 260, .inl (F 6))), (a 4, .inl (g.2.2.1 5, 8, .inr (.inr (.inr (.inr (fun j => some (gA g (60 + j))))))))]
/-- an environment good for the reference: the tables' classes -/
def mOk (g : hG) (E : hEnv) : Prop := hGo E ∧ ∀ (A : Nat → Prop) (U : State) (H : Heap), E A U H → va_K (gD g) Cl (gTy g) U
/-- refused: the reason, what it is about, where; 1 is thrown -/
abbrev refI (I : Nat → Int32) (r d : Int32) : Nat → Int32 := upd (upd (upd (upd I 2 r) 3 d) 4 (I 5)) 1 1
abbrev needsK (k : Int32) : Int32 := if k = 0 then 150 else if k = 1 then 160 else if k = 2 then 180 else 220
abbrev longK (k : Int32) : Int32 := if k = 0 then 72 else if k = 1 then 74 else if k = 2 then 70 else 66
abbrev fairP (s : Nat → Int32) : Prop := s 1 - s 1 / 7 * 7 = s 2
abbrev minI (a b : Int32) : Int32 := if b ≤ a then b else a
abbrev maxI (a b : Int32) : Int32 := if a ≤ b then b else a
/-- an order's outcome: its reason (0: none), what it is about, its answer, the row behind it -/
abbrev opR : Type := Int32 × Int32 × Int32 × (Nat → Int32)
abbrev opI (I : Nat → Int32) (r : opR) : Nat → Int32 := if r.1 = 0 then I else refI I r.1 r.2.1
theorem hup_id {α : Type} (f : Nat → α) (k : Nat) : va_up f k (f k) = f := by
  funext j
  unfold va_up
  split
  · next h => rw [h]
  · rfl
theorem hup_id' {α : Type} (f : Nat → α) (k : Nat) (x : α) (h : x = f k) : va_up f k x = f := by rw [h, hup_id]
/-- the counts of a row: tails, hanks, bows, cakes -/
abbrev Cn (s : Nat → Int32) (nt nh nb nc tw : Nat) : Prop := s 2 = nI tw ∧ tw < 6 ∧ s 3 = nI nt ∧ nt ≤ 10 ∧ s 4 = nI nh ∧ nh ≤ 20 ∧ s 5 = nI nb ∧ nb ≤ 6 ∧ s 6 = nI nc ∧ nc ≤ 5
/-- a copy step by step -/
theorem cpy_0 {α : Type} (f h : Nat → α) (sp dp : Nat) : va_cpy f h sp dp 0 = h := by
  funext j
  unfold va_cpy
  rw [if_neg (by omega)]
theorem cpy_s (f h : Nat → Int32) (sp dp i : Nat) : upd (va_cpy f h sp dp i) (dp + i) (f (sp + i)) = va_cpy f h sp dp (i + 1) := by
  funext j
  unfold upd va_cpy
  by_cases h1 : j = dp + i
  · rw [if_pos h1, if_pos (by omega)]
    congr 1
    omega
  · rw [if_neg h1]
    by_cases h2 : dp ≤ j ∧ j < dp + i
    · rw [if_pos h2, if_pos (by omega)]
    · rw [if_neg h2, if_neg (by omega)]
theorem cpy_own (f : Nat → Int32) (sp dp i n : Nat) (h : dp + n ≤ sp) (hi : i < n) : va_cpy f f sp dp i (sp + i) = f (sp + i) := by
  unfold va_cpy
  rw [if_neg (by omega)]
/-- the past's rows one place down, k times -/
def shP (f : Nat → Int32) : Nat → Nat → Int32
  | 0 => f
  | k + 1 => va_cpy (shP f k) (shP f k) (195 * (k + 1)) (195 * k) 195
/-- the past behind a change -/
def chP (was f : Nat → Int32) (n : Nat) : Nat → Int32 := if n = 8 then va_cpy was (shP f 7) 0 (195 * 7) 195 else va_cpy was f 0 (195 * n) 195
abbrev chN (n : Nat) : Nat := if n = 8 then 8 else n + 1
abbrev chI (I : Nat → Int32) (n : Nat) : Nat → Int32 := upd I 0 (nI (chN n))
abbrev chF (F : Nat → Nat → Int32) (n : Nat) : Nat → Nat → Int32 := va_up F 3 (chP (F 1) (F 3) n)
/-- 'was' is the row of now, nothing thrown yet -/
abbrev kpF (F : Nat → Nat → Int32) : Nat → Nat → Int32 := va_up F 1 (va_cpy (F 0) (F 1) 0 0 195)
/-- a public order: its outcome r on the row, n changes before -/
abbrev pubI (I : Nat → Int32) (n : Nat) (r : opR) : Nat → Int32 := if r.1 = 0 then chI (upd (upd I 5 0) 1 0) n else refI (upd (upd I 5 0) 1 0) r.1 r.2.1
abbrev pubF (F : Nat → Nat → Int32) (n : Nat) (r : opR) : Nat → Nat → Int32 := if r.1 = 0 then chF (va_up (kpF F) 0 r.2.2.2) n else kpF F
