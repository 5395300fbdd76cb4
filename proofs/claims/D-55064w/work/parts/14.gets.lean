/-! WHAT IS READ, as functions on a row: which is thrown (0: none), the answer -/
abbrev geR : Type := Int32 × Int32
def gTailOf (s : Nat → Int32) (x y : Int32) : geR := if inR x 0 (s 3 - 1) then if inR y 0 4 then (0, if y = 4 then nextL s x.toNatClampNeg else s (33 + 4 * x.toNatClampNeg + y.toNatClampNeg)) else (2, 0) else (1, 0)
def gHankOf (s : Nat → Int32) (x y : Int32) : geR := if inR x 0 (s 4 - 1) then if inR y 0 3 then (0, if y = 0 then s (73 + 4 * x.toNatClampNeg + 2) else if y = 1 then s (73 + 4 * x.toNatClampNeg + 1) else if y = 2 then s (73 + 4 * x.toNatClampNeg) else s (73 + 4 * x.toNatClampNeg + 3)) else (2, 0) else (1, 0)
def gBowOf (s : Nat → Int32) (x y : Int32) : geR := if inR x 0 (s 5 - 1) then if inR y 0 6 then (0, if y = 1 then s (153 + 7 * x.toNatClampNeg + 2) else if y = 2 then s (153 + 7 * x.toNatClampNeg + 1) else s (153 + 7 * x.toNatClampNeg + y.toNatClampNeg)) else (2, 0) else (1, 0)
def gCakeOf (s : Nat → Int32) (x : Int32) : geR := if inR x 0 (s 6 - 1) then (0, s (28 + x.toNatClampNeg)) else (1, 0)
def gSieves (s : Nat → Int32) (x : Int32) : geR := if inR x 1 9 then (0, s (18 + x.toNatClampNeg)) else (1, 0)
/-- the hank i can be taken for a bow of kind k -/
abbrev takP (s : Nat → Int32) (k : Int32) (i : Nat) : Prop := ¬ s (73 + 4 * i + 1) < longK k ∧ ¬ s (73 + 4 * i + 2) < needsK k
abbrev aheadP (s : Nat → Int32) (i j : Nat) : Prop := (¬ grade s i - grade s j = 0 ∧ 0 < grade s i - grade s j) ∨ (grade s i - grade s j = 0 ∧ ((¬ s (73 + 4 * i + 2) - s (73 + 4 * j + 2) = 0 ∧ s (73 + 4 * i + 2) - s (73 + 4 * j + 2) < 0) ∨ (s (73 + 4 * i + 2) - s (73 + 4 * j + 2) = 0 ∧ nI i < nI j)))
/-- the best of the first k hanks, of the grade gr -/
def bestK (s : Nat → Int32) (kd gr : Int32) : Nat → Int32
  | 0 => -1
  | k + 1 => if (takP s kd k ∧ grade s k = gr) ∧ (bestK s kd gr k < 0 ∨ s (73 + 4 * k + 2) < s (73 + 4 * (bestK s kd gr k).toNatClampNeg + 2)) then nI k else bestK s kd gr k
theorem bestK_ix (s : Nat → Int32) (kd gr : Int32) : ∀ k : Nat, k ≤ 20 → ¬ bestK s kd gr k < 0 → ∃ j : Nat, j < k ∧ bestK s kd gr k = nI j
  | 0, _, h => absurd (by decide : (-1 : Int32) < 0) h
  | k + 1, hk, h => by
    unfold bestK at h ⊢
    split
    · exact ⟨k, by omega, rfl⟩
    · next hc =>
      rw [if_neg hc] at h
      obtain ⟨j, hj, e⟩ := bestK_ix s kd gr k (by omega) h
      exact ⟨j, by omega, e⟩
def gBestHank (s : Nat → Int32) (x : Int32) : geR := if inR x 0 (s 5 - 1) then
    if ¬ bestK s (s (153 + 7 * x.toNatClampNeg)) 2 (s 4).toNatClampNeg < 0 then (0, bestK s (s (153 + 7 * x.toNatClampNeg)) 2 (s 4).toNatClampNeg)
    else if ¬ bestK s (s (153 + 7 * x.toNatClampNeg)) 1 (s 4).toNatClampNeg < 0 then (0, bestK s (s (153 + 7 * x.toNatClampNeg)) 1 (s 4).toNatClampNeg)
    else if ¬ bestK s (s (153 + 7 * x.toNatClampNeg)) 0 (s 4).toNatClampNeg < 0 then (0, bestK s (s (153 + 7 * x.toNatClampNeg)) 0 (s 4).toNatClampNeg)
    else (2, 0) else (1, 0)
/-- how many of the first o hanks are ahead of k -/
def aheadC (s : Nat → Int32) (kd : Int32) (k : Nat) : Nat → Nat
  | 0 => 0
  | o + 1 => aheadC s kd k o + (if ¬ o = k ∧ takP s kd o ∧ aheadP s o k then 1 else 0)
theorem aheadC_le (s : Nat → Int32) (kd : Int32) (k : Nat) : ∀ o, aheadC s kd k o ≤ o
  | 0 => Nat.le_refl _
  | o + 1 => by
    have := aheadC_le s kd k o
    unfold aheadC
    split <;> omega
/-- the first hank from k on, d are left, of which none is ahead -/
def agF (s : Nat → Int32) (kd : Int32) (n : Nat) : Nat → Nat → Int32
  | 0, _ => -1
  | d + 1, k => if takP s kd k ∧ aheadC s kd k n = 0 then nI k else agF s kd n d (k + 1)
def gBestAgain (s : Nat → Int32) (x : Int32) : geR := if inR x 0 (s 5 - 1) then
    if agF s (s (153 + 7 * x.toNatClampNeg)) (s 4).toNatClampNeg (s 4).toNatClampNeg 0 = -1 then (2, 0) else (0, agF s (s (153 + 7 * x.toNatClampNeg)) (s 4).toNatClampNeg (s 4).toNatClampNeg 0) else (1, 0)
def goodK (s : Nat → Int32) (i : Nat) : Nat → Int32
  | 0 => if ¬ s (73 + 4 * i + 1) < 50 ∧ ¬ s (73 + 4 * i + 2) < 40 then 16 else 0
  | k + 1 => goodK s i k ||| (if takP s (nI k) i then 1 <<< (nI k &&& 31) else 0)
def gGoodFor (s : Nat → Int32) (x : Int32) : geR := if inR x 0 (s 4 - 1) then (0, goodK s x.toNatClampNeg 4) else (1, 0)
/-- the days from the town tw on, k towns -/
def daysW (s : Nat → Int32) (tw : Nat) : Nat → Int32
  | 0 => 0
  | k + 1 => daysW s tw k + s (12 + (tw + k) % 6)
def gDaysTo (s : Nat → Int32) (x : Int32) : geR := if inR x 0 5 then (0, daysW s (s 2).toNatClampNeg ((x.toNatClampNeg + 6 - (s 2).toNatClampNeg) % 6)) else (1, 0)
def fairD (s : Nat → Int32) (tw : Nat) : Nat → Int32
  | 0 => s 1
  | k + 1 => fairD s tw k + s (12 + (tw + k) % 6)
def fairS (s : Nat → Int32) (tw : Nat) : Nat → Int32
  | 0 => 0
  | k + 1 => fairS s tw k ||| (if fairD s tw (k + 1) - fairD s tw (k + 1) / 7 * 7 = nI ((tw + k + 1) % 6) then 1 <<< (nI ((tw + k + 1) % 6) &&& 31) else 0)
def gFairs (s : Nat → Int32) : geR := (0, fairS s (s 2).toNatClampNeg 6)
def worthS (s : Nat → Int32) : Nat → Int32
  | 0 => 0
  | k + 1 => worthS s k + s (18 + (k + 1)) * nI (3 + (k + 1))
def gWorth (s : Nat → Int32) (b : Int32) : geR := (0, if b = 0 then worthS s 9 else 2 * worthS s 9)
/-- how long a bow of the kind kd with h hairs can still be played -/
def hoursC (kd : Int32) : Nat → Int32 → Int32 → Nat
  | 0, _, _ => 0
  | f + 1, h, r => if ¬ 2 * h < needsK kd then hoursC kd f (h - minI h (if r ≤ 0 then 7 else 2)) (maxI 0 (r - 1)) + 1 else 0
def gHoursLeft (s : Nat → Int32) (x : Int32) : geR := if inR x 0 (s 5 - 1) then (0, nI (hoursC (s (153 + 7 * x.toNatClampNeg)) 1000 (s (153 + 7 * x.toNatClampNeg + 2)) (s (153 + 7 * x.toNatClampNeg + 1)))) else (1, 0)
theorem needsK_pos (k : Int32) : (0 : Int32) < needsK k := by
  unfold needsK
  repeat' (first | decide | split)
theorem minI_hour {h : Nat} (r : Int32) (h0 : 0 < h) (hl : h ≤ 1000) : ∃ d : Nat, minI (nI h) (if r ≤ 0 then 7 else 2) = nI d ∧ 1 ≤ d ∧ d ≤ h := by
  split
  · exact ⟨min h 7, by rw [show (7 : Int32) = nI 7 from rfl, minI_n (by omega) (by decide)], by omega, by omega⟩
  · exact ⟨min h 2, by rw [show (2 : Int32) = nI 2 from rfl, minI_n (by omega) (by decide)], by omega, by omega⟩
theorem nI_m1 {j : Nat} (h : j < 2 ^ 31) : ¬ nI j = (-1 : Int32) := fun q => by
  have := congrArg Int32.toInt q
  rw [nI_toInt h] at this
  exact absurd this (by rw [show (-1 : Int32).toInt = -1 from rfl]; omega)
/-! SUMS, TEXTS -/
def sumS (s : Nat → Int32) (b z w : Nat) : Nat → Int32
  | 0 => 0
  | k + 1 => sumS s b z w k + s (b + z * k + w)
def mixN (s : Nat → Int32) : Nat → Nat
  | 0 => 0
  | k + 1 => mixN s k + (if s (73 + 4 * k + 3) < 0 then 1 else 0)
theorem mixN_le (s : Nat → Int32) : ∀ k, mixN s k ≤ k
  | 0 => Nat.le_refl _
  | k + 1 => by
    have := mixN_le s k
    unfold mixN
    split <;> omega
def gAccount (I s : Nat → Int32) (x : Int32) : geR := if inR x 0 19 then (0, if x = 0 then s 3 else if x = 1 then s 4 else if x = 2 then nI (mixN s (s 4).toNatClampNeg) else if x = 3 then s 5 else if x = 4 then s 6 else if x = 5 then sumS s 19 1 0 9 else if x = 6 then s 7 else if x = 7 then s 8 else if x = 8 then sumS s 33 4 2 (s 3).toNatClampNeg else if x = 9 then sumS s 73 4 2 (s 4).toNatClampNeg else if x = 10 then s 9 else if x = 11 then sumS s 153 7 2 (s 5).toNatClampNeg else if x = 12 then s 10 else if x = 13 then s 11 else if x = 14 then s 0 else if x = 15 then s 1 else if x = 16 then s 2 else if x = 17 then (if fairP s then 1 else 0) else if x = 18 then I 7 else I 0) else (1, 0)
def gHairs (s : Nat → Int32) : geR := (0, sumS s 33 4 2 (s 3).toNatClampNeg + sumS s 73 4 2 (s 4).toNatClampNeg + sumS s 153 7 2 (s 5).toNatClampNeg + s 9 + s 10 + s 11)
def gFault (I : Nat → Int32) : geR := if I 11 < 0 then (1, 0) else (0, I 11)
def gReason (I : Nat → Int32) (x : Int32) : geR := if inR x 0 2 then if I 2 = 0 then (2, 0) else (0, if x = 0 then I 2 else if x = 1 then I 3 else I 4) else (1, 0)
def gChar (I f : Nat → Int32) (x : Int32) : geR := if inR x 0 (I 12 - 1) then (0, ((f x.toNatClampNeg).toUInt32 % 65536).toInt32) else (1, 0)
/-- the sign that stands at h of a tape of n -/
def sgn (T : Nat → Int32) (n h : Nat) : Int32 := if h < n then T h else -1
def stp (T : Nat → Int32) (n h : Nat) (x : Int32) : Nat := if sgn T n h = x then h + 1 else h
/-- how many digits stand from h on, at most d -/
def dgN (T : Nat → Int32) (n h : Nat) : Nat → Nat
  | 0 => 0
  | d + 1 => if dgN T n h d = d ∧ inR (sgn T n (h + d)) 48 57 then d + 1 else dgN T n h d
def toldK (T : Nat → Int32) (h : Nat) : Nat → Int32
  | 0 => 0
  | k + 1 => 10 * toldK T h k + T (h + k) - 48
theorem dgN_le (T : Nat → Int32) (n h : Nat) : ∀ d, dgN T n h d ≤ d
  | 0 => Nat.le_refl _
  | d + 1 => by
    have := dgN_le T n h d
    unfold dgN
    split <;> omega
theorem dgN_stop {T : Nat → Int32} {n h i : Nat} (h0 : dgN T n h i = i) (h1 : ¬ inR (sgn T n (h + i)) 48 57) : ∀ e, dgN T n h (i + e) = i
  | 0 => h0
  | e + 1 => by
    show (if dgN T n h (i + e) = i + e ∧ inR (sgn T n (h + (i + e))) 48 57 then i + e + 1 else dgN T n h (i + e)) = i
    have ih := dgN_stop h0 h1 e
    rw [if_neg, ih]
    rintro ⟨q1, q2⟩
    have : e = 0 := by omega
    subst this
    exact h1 q2
theorem sgn_dg {T : Nat → Int32} {n h : Nat} (q : inR (sgn T n h) 48 57) : h < n := by
  rcases Nat.lt_or_ge h n with z | z
  · exact z
  · unfold sgn at q
    rw [if_neg (by omega)] at q
    exact absurd (by decide) q.1
/-- a line so far: its cells, how many -/
abbrev lnR : Type := (Nat → Int32) × Nat
abbrev wrL (q : lnR) (c : Int32) : lnR := (upd q.1 q.2 c, q.2 + 1)
def numL (q : lnR) (v : Nat) : lnR := if v < 10 then wrL q (nI (48 + v % 10)) else if v < 100 then wrL (wrL q (nI (48 + v / 10 % 10))) (nI (48 + v % 10)) else wrL (wrL (wrL q (nI (48 + v / 10 / 10 % 10))) (nI (48 + v / 10 % 10))) (nI (48 + v % 10))
abbrev lnI (I : Nat → Int32) (q : lnR) : Nat → Int32 := upd I 12 (nI q.2)
abbrev lnF (F : Nat → Nat → Int32) (q : lnR) : Nat → Nat → Int32 := va_up F 6 q.1
theorem numL_le (q : lnR) (v : Nat) : (numL q v).2 ≤ q.2 + 3 := by
  unfold numL
  split
  · show q.2 + 1 ≤ _; omega
  · split
    · show q.2 + 1 + 1 ≤ _; omega
    · show q.2 + 1 + 1 + 1 ≤ _; omega
