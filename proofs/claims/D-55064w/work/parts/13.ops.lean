/-! THE ORDERS, as functions on a row -/
abbrev priceT (c h : Int32) : Int32 := (h + 99) / 100 + (if c = 0 then 1 else 0)
def opTailN (s : Nat → Int32) (n : Nat) (pr c l h : Int32) : Nat → Int32 := upd (upd (upd (upd (upd (upd (upd s 0 (s 0 - pr)) (33 + 4 * n) c) (33 + 4 * n + 1) l) (33 + 4 * n + 2) h) (33 + 4 * n + 3) 0) 3 (nI (n + 1))) 8 (s 8 + h)
def opTail (s : Nat → Int32) (c l h : Int32) : opR := if inR c 0 2 then if inR l 40 100 then if inR h 50 900 then if s 3 = 10 then (1, 10, 0, s) else if s 0 < priceT c h then (4, priceT c h - s 0, 0, s) else (0, 0, s 3, opTailN s (s 3).toNatClampNeg (priceT c h) c l h) else (3, h, 0, s) else (3, l, 0, s) else (3, c, 0, s)
def nextL (s : Nat → Int32) (j : Nat) : Int32 := maxI 1 (s (33 + 4 * j + 1) - 2 * s (33 + 4 * j + 3))
def opCombN (s : Nat → Int32) (n j : Nat) (h : Int32) : Nat → Int32 := upd (upd (upd (upd (upd (upd (upd s (73 + 4 * n) (s (33 + 4 * j))) (73 + 4 * n + 1) (nextL s j)) (73 + 4 * n + 2) h) (73 + 4 * n + 3) (nI j)) 4 (nI (n + 1))) (33 + 4 * j + 2) (s (33 + 4 * j + 2) - h)) (33 + 4 * j + 3) (s (33 + 4 * j + 3) + 1)
def opComb (s : Nat → Int32) (t h : Int32) : opR := if inR t 0 (s 3 - 1) then if inR h 1 600 then if s (33 + 4 * t.toNatClampNeg + 2) < h then (5, s (33 + 4 * t.toNatClampNeg + 2), 0, s) else if s 4 = 20 then (1, 20, 0, s) else (0, 0, s 4, opCombN s (s 4).toNatClampNeg t.toNatClampNeg h) else (3, h, 0, s) else (2, t, 0, s)
/-- i places of four from b on take what stands four further -/
def goH (s : Nat → Int32) (b i : Nat) : Nat → Int32 := fun x => if b ≤ x ∧ x < b + i then s (x + 4) else s x
theorem goH_0 (s : Nat → Int32) (b : Nat) : goH s b 0 = s := by
  funext x
  unfold goH
  rw [if_neg (by omega)]
theorem goH_s (s : Nat → Int32) (b i : Nat) : upd (goH s b i) (b + i) (goH s b i (b + i + 4)) = goH s b (i + 1) := by
  funext x
  unfold upd goH
  by_cases h1 : x = b + i
  · rw [if_pos h1, if_neg (by omega), if_pos (by omega), h1]
  · rw [if_neg h1]
    by_cases h2 : b ≤ x ∧ x < b + i
    · rw [if_pos h2, if_pos (by omega)]
    · rw [if_neg h2, if_neg (by omega)]
theorem goH_lo (s : Nat → Int32) (b i x : Nat) (h : x < b) : goH s b i x = s x := by
  unfold goH
  rw [if_neg (by omega)]
theorem goH_hi (s : Nat → Int32) (b i x : Nat) (h : b + i ≤ x) : goH s b i x = s x := by
  unfold goH
  rw [if_neg (by omega)]
/-- the hank j goes, of n -/
def goS (s : Nat → Int32) (j n : Nat) : Nat → Int32 := upd (goH s (73 + 4 * j) (4 * (n - 1 - j))) 4 (nI (n - 1))
/-- the hank j, of n, loses h hairs -/
def loseS (s : Nat → Int32) (j n : Nat) (h : Int32) : Nat → Int32 := if s (73 + 4 * j + 2) - h = 0 then goS (upd s (73 + 4 * j + 2) (s (73 + 4 * j + 2) - h)) j n else upd s (73 + 4 * j + 2) (s (73 + 4 * j + 2) - h)
def opTieN (s : Nat → Int32) (i j t f n : Nat) : Nat → Int32 := goS (upd (upd (upd (upd s (73 + 4 * t + 2) (s (73 + 4 * i + 2) + s (73 + 4 * j + 2))) (73 + 4 * t + 1) (minI (s (73 + 4 * t + 1)) (s (73 + 4 * f + 1)))) (73 + 4 * t) (if s (73 + 4 * t) = s (73 + 4 * f) then s (73 + 4 * t) else 3)) (73 + 4 * t + 3) (if s (73 + 4 * t + 3) = s (73 + 4 * f + 3) then s (73 + 4 * t + 3) else (-1))) f n
def opTie (s : Nat → Int32) (x y : Int32) : opR := if inR x 0 (s 4 - 1) then if inR y 0 (s 4 - 1) then if x = y then (8, x, 0, s) else
    if 600 < s (73 + 4 * x.toNatClampNeg + 2) + s (73 + 4 * y.toNatClampNeg + 2) then (7, (s (73 + 4 * x.toNatClampNeg + 2) + s (73 + 4 * y.toNatClampNeg + 2)) - 600, 0, s)
    else (0, 0, nI (min x.toNatClampNeg y.toNatClampNeg), opTieN s x.toNatClampNeg y.toNatClampNeg (min x.toNatClampNeg y.toNatClampNeg) (max x.toNatClampNeg y.toNatClampNeg) (s 4).toNatClampNeg)
  else (2, y, 0, s) else (2, x, 0, s)
def opWeaveN (s1 : Nat → Int32) (m : Nat) : Nat → Int32 := upd (upd s1 9 (s1 9 + nI (40 * m))) (18 + m) (s1 (18 + m) + 1)
def opWeave (s : Nat → Int32) (x y : Int32) : opR := if inR x 0 (s 4 - 1) then if inR y 1 9 then
    if s (73 + 4 * x.toNatClampNeg + 1) < 50 then (6, 50 - s (73 + 4 * x.toNatClampNeg + 1), 0, s)
    else if s (73 + 4 * x.toNatClampNeg + 2) < nI (40 * y.toNatClampNeg) then (5, s (73 + 4 * x.toNatClampNeg + 2), 0, s)
    else if s (18 + y.toNatClampNeg) = 20 then (1, 20, 0, s)
    else (0, 0, loseS s x.toNatClampNeg (s 4).toNatClampNeg (nI (40 * y.toNatClampNeg)) (18 + y.toNatClampNeg) + 1, opWeaveN (loseS s x.toNatClampNeg (s 4).toNatClampNeg (nI (40 * y.toNatClampNeg))) y.toNatClampNeg)
  else (3, y, 0, s) else (2, x, 0, s)
def opBowN (s : Nat → Int32) (n : Nat) (k : Int32) : Nat → Int32 := upd (upd (upd (upd (upd (upd (upd (upd s (153 + 7 * n) k) (153 + 7 * n + 1) 0) (153 + 7 * n + 2) 0) (153 + 7 * n + 3) (-1)) (153 + 7 * n + 4) 0) (153 + 7 * n + 5) 0) (153 + 7 * n + 6) (-1)) 5 (nI (n + 1))
def opBow (s : Nat → Int32) (x : Int32) : opR := if inR x 0 3 then if s 5 = 6 then (1, 6, 0, s) else (0, 0, s 5, opBowN s (s 5).toNatClampNeg x) else (3, x, 0, s)
def grade (s : Nat → Int32) (i : Nat) : Int32 := if ¬ s (73 + 4 * i + 3) < 0 then (if s (73 + 4 * i) = 0 then 2 else 1) else (if s (73 + 4 * i) = 3 then 0 else 1)
def opHairN (s : Nat → Int32) (j i n : Nat) : Nat → Int32 := loseS (upd (upd (upd (upd (upd s 11 (s 11 + s (153 + 7 * j + 2))) (153 + 7 * j + 2) (needsK (s (153 + 7 * j)))) (153 + 7 * j + 1) 0) (153 + 7 * j + 3) (grade s i)) (153 + 7 * j + 6) (s (73 + 4 * i + 3))) i n (needsK (s (153 + 7 * j)))
def opHair (s : Nat → Int32) (x y : Int32) : opR := if inR x 0 (s 5 - 1) then if inR y 0 (s 4 - 1) then
    if 0 < longK (s (153 + 7 * x.toNatClampNeg)) - s (73 + 4 * y.toNatClampNeg + 1) then (6, longK (s (153 + 7 * x.toNatClampNeg)) - s (73 + 4 * y.toNatClampNeg + 1), 0, s)
    else if s (73 + 4 * y.toNatClampNeg + 2) < needsK (s (153 + 7 * x.toNatClampNeg)) then (5, s (73 + 4 * y.toNatClampNeg + 2), 0, s)
    else (0, 0, grade s y.toNatClampNeg, opHairN s x.toNatClampNeg y.toNatClampNeg (s 4).toNatClampNeg)
  else (2, y, 0, s) else (2, x, 0, s)
def opCakeN (s : Nat → Int32) (n : Nat) (pr z : Int32) : Nat → Int32 := upd (upd (upd s 0 (s 0 - pr)) (28 + n) z) 6 (nI (n + 1))
def opCake (s : Nat → Int32) (x : Int32) : opR := if inR x 1 40 then if s 6 = 5 then (1, 5, 0, s) else if s 0 < x / 10 + 1 then (4, x / 10 + 1 - s 0, 0, s) else (0, 0, s 6, opCakeN s (s 6).toNatClampNeg (x / 10 + 1) x) else (3, x, 0, s)
def opRosinN (s : Nat → Int32) (j c : Nat) : Nat → Int32 := upd (upd s (28 + c) (s (28 + c) - minI (9 - s (153 + 7 * j + 1)) (s (28 + c)))) (153 + 7 * j + 1) (s (153 + 7 * j + 1) + minI (9 - s (153 + 7 * j + 1)) (s (28 + c)))
def opRosin (s : Nat → Int32) (x y : Int32) : opR := if inR x 0 (s 5 - 1) then if inR y 0 (s 6 - 1) then
    if s (153 + 7 * x.toNatClampNeg + 2) = 0 then (10, 0, 0, s) else if s (28 + y.toNatClampNeg) = 0 then (11, y, 0, s) else if s (153 + 7 * x.toNatClampNeg + 1) = 9 then (12, x, 0, s)
    else (0, 0, s (153 + 7 * x.toNatClampNeg + 1) + minI (9 - s (153 + 7 * x.toNatClampNeg + 1)) (s (28 + y.toNatClampNeg)), opRosinN s x.toNatClampNeg y.toNatClampNeg)
  else (2, y, 0, s) else (2, x, 0, s)
/-- an hour's playing of the bow that begins at b -/
abbrev lostH (s : Nat → Int32) (b : Nat) : Int32 := minI (s (b + 2)) (if s (b + 1) ≤ 0 then 7 else 2)
def hourS (s : Nat → Int32) (b : Nat) : Nat → Int32 := upd (upd (upd s (b + 2) (s (b + 2) - lostH s b)) 10 (s 10 + lostH s b)) (b + 1) (maxI 0 (s (b + 1) - 1))
abbrev canP (s : Nat → Int32) (b : Nat) : Prop := ¬ 2 * s (b + 2) < needsK (s b)
def playC (b : Nat) : Nat → (Nat → Int32) → Nat
  | 0, _ => 0
  | k + 1, s => if canP s b then playC b k (hourS s b) + 1 else 0
def playE (b : Nat) : Nat → (Nat → Int32) → (Nat → Int32)
  | 0, s => s
  | k + 1, s => if canP s b then playE b k (hourS s b) else s
def opPlay (s : Nat → Int32) (x y : Int32) : opR := if inR x 0 (s 5 - 1) then if inR y 1 200 then
    if canP s (153 + 7 * x.toNatClampNeg) then (0, 0, nI (playC (153 + 7 * x.toNatClampNeg) y.toNatClampNeg s), upd (playE (153 + 7 * x.toNatClampNeg) y.toNatClampNeg s) (153 + 7 * x.toNatClampNeg + 5) (playE (153 + 7 * x.toNatClampNeg) y.toNatClampNeg s (153 + 7 * x.toNatClampNeg + 5) + nI (playC (153 + 7 * x.toNatClampNeg) y.toNatClampNeg s)))
    else (10, s (153 + 7 * x.toNatClampNeg + 2), 0, s)
  else (3, y, 0, s) else (2, x, 0, s)
def opRoad (s : Nat → Int32) (x y : Int32) : opR := if inR x 0 5 then if inR y 1 5 then (0, 0, s (12 + x.toNatClampNeg), upd s (12 + x.toNatClampNeg) y) else (3, y, 0, s) else (2, x, 0, s)
def walkE (s : Nat → Int32) (tw : Nat) : Nat → Nat → Int32
  | 0 => s
  | k + 1 => upd (upd (walkE s tw k) 1 (walkE s tw k 1 + walkE s tw k (12 + (tw + k) % 6))) 2 (nI ((tw + k + 1) % 6))
def opWalk (s : Nat → Int32) (x : Int32) : opR := if inR x 1 9 then (0, 0, nI (((s 2).toNatClampNeg + x.toNatClampNeg) % 6), walkE s (s 2).toNatClampNeg x.toNatClampNeg) else (3, x, 0, s)
abbrev gotS (s : Nat → Int32) (m : Nat) : Int32 := nI (3 + m) * (if fairP s then 2 else 1)
def opSellN (s : Nat → Int32) (m : Nat) : Nat → Int32 := upd (upd (upd s (18 + m) (s (18 + m) - 1)) 7 (s 7 + 1)) 0 (s 0 + gotS s m)
def opSell (s : Nat → Int32) (x : Int32) : opR := if inR x 1 9 then if s (18 + x.toNatClampNeg) = 0 then (9, x, 0, s) else (0, 0, gotS s x.toNatClampNeg, opSellN s x.toNatClampNeg) else (3, x, 0, s)
def opPaid (s : Nat → Int32) (x : Int32) : opR := if inR x 0 (s 5 - 1) then if s (153 + 7 * x.toNatClampNeg + 4) = 1 then (13, x, 0, s) else
    if s (153 + 7 * x.toNatClampNeg + 2) < needsK (s (153 + 7 * x.toNatClampNeg)) - 20 then (10, s (153 + 7 * x.toNatClampNeg + 2), 0, s)
    else (0, 0, 4 * (1 + s (153 + 7 * x.toNatClampNeg + 3)), upd (upd s (153 + 7 * x.toNatClampNeg + 4) 1) 0 (s 0 + 4 * (1 + s (153 + 7 * x.toNatClampNeg + 3))))
  else (2, x, 0, s)

theorem goS_far {s : Nat → Int32} {j n x : Nat} (hn : n ≤ 20) (hj : j < n) (hx : x ≠ 4) (hx2 : x < 73 ∨ 153 ≤ x) : goS s j n x = s x := by
  unfold goS
  rw [pk_un hx]
  rcases hx2 with h | h
  · exact goH_lo _ _ _ _ (by omega)
  · exact goH_hi _ _ _ _ (by omega)
theorem loseS_far {s : Nat → Int32} {j n x : Nat} {h : Int32} (hn : n ≤ 20) (hj : j < n) (hx : x ≠ 4) (hx2 : x < 73 ∨ 153 ≤ x) : loseS s j n h x = s x := by
  unfold loseS
  split
  · rw [goS_far hn hj hx hx2, pk_un (by omega)]
  · rw [pk_un (by omega)]
theorem grade_un {s : Nat → Int32} {k i : Nat} {v : Int32} (h : k ≠ 73 + 4 * i) (h3 : k ≠ 73 + 4 * i + 3) : grade (upd s k v) i = grade s i := by
  unfold grade
  rw [pk_un (Ne.symm h), pk_un (Ne.symm h3)]
theorem nextL_un {s : Nat → Int32} {k j : Nat} {v : Int32} (h : k ≠ 33 + 4 * j + 1) (h3 : k ≠ 33 + 4 * j + 3) : nextL (upd s k v) j = nextL s j := by
  unfold nextL
  rw [pk_un (Ne.symm h), pk_un (Ne.symm h3)]
theorem minI_n {i j : Nat} (hi : i < 2 ^ 31) (hj : j < 2 ^ 31) : minI (nI i) (nI j) = nI (min i j) := by
  unfold minI
  split
  · next h => rw [Nat.min_eq_right ((nI_leI hj hi).mp h)]
  · next h => rw [Nat.min_eq_left (Nat.le_of_not_lt fun q => h ((nI_leI hj hi).mpr (Nat.le_of_lt q)))]
theorem maxI_n {i j : Nat} (hi : i < 2 ^ 31) (hj : j < 2 ^ 31) : maxI (nI i) (nI j) = nI (max i j) := by
  unfold maxI
  split
  · next h => rw [Nat.max_eq_right ((nI_leI hi hj).mp h)]
  · next h => rw [Nat.max_eq_left (Nat.le_of_not_lt fun q => h ((nI_leI hi hj).mpr (Nat.le_of_lt q)))]
theorem playE_kind (b : Nat) (hb : 12 ≤ b) : ∀ (k : Nat) (s : Nat → Int32), playE b k s b = s b
  | 0, s => rfl
  | k + 1, s => by
    unfold playE
    split
    · rw [playE_kind b hb k (hourS s b)]
      unfold hourS
      rw [pk_un (by omega), pk_un (by omega), pk_un (by omega)]
    · rfl
theorem playC_le (b : Nat) : ∀ (k : Nat) (s : Nat → Int32), playC b k s ≤ k
  | 0, s => Nat.le_refl _
  | k + 1, s => by
    unfold playC
    split
    · have := playC_le b k (hourS s b); omega
    · omega
/-- an order that is refused answers 0 and leaves the row -/
def opRef (s : Nat → Int32) (r : opR) : Prop := ¬ r.1 = 0 → r.2.2.1 = 0 ∧ r.2.2.2 = s
theorem opRef_ite {s : Nat → Int32} {P : Prop} [Decidable P] {a b : opR} (ha : opRef s a) (hb : opRef s b) : opRef s (if P then a else b) := by
  split
  · exact ha
  · exact hb
theorem opTail_ref (s : Nat → Int32) (x y z : Int32) : opRef s (opTail s x y z) := by
  unfold opTail
  repeat' (first | exact fun _ => ⟨rfl, rfl⟩ | exact fun h => absurd rfl h | apply opRef_ite)
theorem opComb_ref (s : Nat → Int32) (x y : Int32) : opRef s (opComb s x y) := by
  unfold opComb
  repeat' (first | exact fun _ => ⟨rfl, rfl⟩ | exact fun h => absurd rfl h | apply opRef_ite)
theorem opTie_ref (s : Nat → Int32) (x y : Int32) : opRef s (opTie s x y) := by
  unfold opTie
  repeat' (first | exact fun _ => ⟨rfl, rfl⟩ | exact fun h => absurd rfl h | apply opRef_ite)
theorem opWeave_ref (s : Nat → Int32) (x y : Int32) : opRef s (opWeave s x y) := by
  unfold opWeave
  repeat' (first | exact fun _ => ⟨rfl, rfl⟩ | exact fun h => absurd rfl h | apply opRef_ite)
theorem opBow_ref (s : Nat → Int32) (x : Int32) : opRef s (opBow s x) := by
  unfold opBow
  repeat' (first | exact fun _ => ⟨rfl, rfl⟩ | exact fun h => absurd rfl h | apply opRef_ite)
theorem opHair_ref (s : Nat → Int32) (x y : Int32) : opRef s (opHair s x y) := by
  unfold opHair
  repeat' (first | exact fun _ => ⟨rfl, rfl⟩ | exact fun h => absurd rfl h | apply opRef_ite)
theorem opCake_ref (s : Nat → Int32) (x : Int32) : opRef s (opCake s x) := by
  unfold opCake
  repeat' (first | exact fun _ => ⟨rfl, rfl⟩ | exact fun h => absurd rfl h | apply opRef_ite)
theorem opRosin_ref (s : Nat → Int32) (x y : Int32) : opRef s (opRosin s x y) := by
  unfold opRosin
  repeat' (first | exact fun _ => ⟨rfl, rfl⟩ | exact fun h => absurd rfl h | apply opRef_ite)
theorem opPlay_ref (s : Nat → Int32) (x y : Int32) : opRef s (opPlay s x y) := by
  unfold opPlay
  repeat' (first | exact fun _ => ⟨rfl, rfl⟩ | exact fun h => absurd rfl h | apply opRef_ite)
theorem opRoad_ref (s : Nat → Int32) (x y : Int32) : opRef s (opRoad s x y) := by
  unfold opRoad
  repeat' (first | exact fun _ => ⟨rfl, rfl⟩ | exact fun h => absurd rfl h | apply opRef_ite)
theorem opWalk_ref (s : Nat → Int32) (x : Int32) : opRef s (opWalk s x) := by
  unfold opWalk
  repeat' (first | exact fun _ => ⟨rfl, rfl⟩ | exact fun h => absurd rfl h | apply opRef_ite)
theorem opSell_ref (s : Nat → Int32) (x : Int32) : opRef s (opSell s x) := by
  unfold opSell
  repeat' (first | exact fun _ => ⟨rfl, rfl⟩ | exact fun h => absurd rfl h | apply opRef_ite)
theorem opPaid_ref (s : Nat → Int32) (x : Int32) : opRef s (opPaid s x) := by
  unfold opPaid
  repeat' (first | exact fun _ => ⟨rfl, rfl⟩ | exact fun h => absurd rfl h | apply opRef_ite)
theorem walkE_tw {s : Nat → Int32} {tw : Nat} (h : s 2 = nI tw) (h6 : tw < 6) : ∀ k, walkE s tw k 2 = nI ((tw + k) % 6)
  | 0 => by
    show s 2 = _
    rw [h, Nat.add_zero, Nat.mod_eq_of_lt h6]
  | k + 1 => by
    show upd _ 2 _ 2 = _
    rw [pk_us]
    rfl
