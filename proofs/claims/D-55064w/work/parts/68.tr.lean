/-! THE TRADE: its cells, by the reference's row -/
set_option maxRecDepth 100000
/-- a trade's addresses: of its rows (object, list, array, capacity, from 4 i on), of its two arrays (16, 17); the lists' counts of changes; their things -/
abbrev hTr : Type := (Nat → Nat) × (Nat → Int32) × (Nat → Nat → Nat)
def sievF (s : Nat → Int32) : Nat → Int32 := fun k => s (18 + k)
def roadF (s : Nat → Int32) : Nat → Int32 := fun k => s (12 + k)
def twC (g : hG) (q : Nat) (T : hTr) (i6 i7 i8 i9 i10 i11 i12 i13 : Int32) (sv rd : Nat → Int32) (nt nh nb nc : Nat) (tv hv bv cv : Nat → List Value) : va_W := (q, .inr (2, [.ref (T.1 0), .ref (T.1 4), .ref (T.1 8), .ref (T.1 12), .ref (T.1 16), .ref (T.1 17), .int i6, .int i7, .int i8, .int i9, .int i10, .int i11, .int i12, .int i13])) :: (T.1 0, .inr (3, [.ref (T.1 1), .int 10])) :: (T.1 1, .inr (13, [.int (T.2.1 0), .ref (T.1 2), .int (nI nt)])) :: (T.1 4, .inr (3, [.ref (T.1 5), .int 20])) :: (T.1 5, .inr (13, [.int (T.2.1 1), .ref (T.1 6), .int (nI nh)])) :: (T.1 8, .inr (3, [.ref (T.1 9), .int 6])) :: (T.1 9, .inr (13, [.int (T.2.1 2), .ref (T.1 10), .int (nI nb)])) :: (T.1 12, .inr (3, [.ref (T.1 13), .int 5])) :: (T.1 13, .inr (13, [.int (T.2.1 3), .ref (T.1 14), .int (nI nc)])) :: (T.1 16, .inl (g.2.2.1 0, 10, .inl sv)) :: (T.1 17, .inl (g.2.2.1 0, 6, .inl rd)) :: (arW g (T.1 2) (T.1 3) (elF nt (T.2.2 0)) ++ (elW 8 nt (T.2.2 0) tv ++ (arW g (T.1 6) (T.1 7) (elF nh (T.2.2 1)) ++ (elW 7 nh (T.2.2 1) hv ++ (arW g (T.1 10) (T.1 11) (elF nb (T.2.2 2)) ++ (elW 5 nb (T.2.2 2) bv ++ (arW g (T.1 14) (T.1 15) (elF nc (T.2.2 3)) ++ (elW 6 nc (T.2.2 3) cv ++ []))))))))
def TW (g : hG) (q : Nat) (T : hTr) (s : Nat → Int32) (nt nh nb nc : Nat) : va_W := twC g q T (s 7) (s 8) (s 9) (s 10) (s 11) (s 0) (s 1) (s 2) (sievF s) (roadF s) nt nh nb nc (tailV s) (hankV s) (bowV s) (cakeV s)
theorem twC_P {g : hG} {q : Nat} {T : hTr} {i6 i7 i8 i9 i10 i11 i12 i13 : Int32} {sv rd : Nat → Int32} {nt nh nb nc : Nat} {tv hv bv cv : Nat → List Value} {H : Heap} (s1 : Nat → Int32) (e6 : i6 = s1 7) (e7 : i7 = s1 8) (e8 : i8 = s1 9) (e9 : i9 = s1 10) (e10 : i10 = s1 11) (e11 : i11 = s1 0) (e12 : i12 = s1 1) (e13 : i13 = s1 2) (esv : ∀ k, k < 10 → sv k = s1 (18 + k)) (erd : ∀ k, k < 6 → rd k = s1 (12 + k)) (et : ∀ j, j < nt → tailV s1 j = tv j) (eh : ∀ j, j < nh → hankV s1 j = hv j) (eb : ∀ j, j < nb → bowV s1 j = bv j) (ec : ∀ j, j < nc → cakeV s1 j = cv j) (h : va_P (gD g) Cl (twC g q T i6 i7 i8 i9 i10 i11 i12 i13 sv rd nt nh nb nc tv hv bv cv) H) : va_P (gD g) Cl (TW g q T s1 nt nh nb nc) H := by
  subst e6; subst e7; subst e8; subst e9; subst e10; subst e11; subst e12; subst e13
  unfold TW twC
  rw [elW_eq et, elW_eq eh, elW_eq eb, elW_eq ec]
  have h1 : va_P (gD g) Cl _ H := h.ints 9 (f' := sievF s1) rfl (fun k hk => esv k hk)
  have h2 : va_P (gD g) Cl _ H := h1.ints 10 (f' := roadF s1) rfl (fun k hk => erd k hk)
  exact h2
theorem twC_D {g : hG} {q : Nat} {T : hTr} {i6 i7 i8 i9 i10 i11 i12 i13 : Int32} {sv rd : Nat → Int32} {nt nh nb nc : Nat} {tv hv bv cv : Nat → List Value} {A : Nat → Prop} (s1 : Nat → Int32) (et : ∀ j, j < nt → tailV s1 j = tv j) (eh : ∀ j, j < nh → hankV s1 j = hv j) (eb : ∀ j, j < nb → bowV s1 j = bv j) (ec : ∀ j, j < nc → cakeV s1 j = cv j) (h : va_D A (twC g q T i6 i7 i8 i9 i10 i11 i12 i13 sv rd nt nh nb nc tv hv bv cv)) : va_D A (TW g q T s1 nt nh nb nc) := by
  unfold TW
  unfold twC at h ⊢
  rw [elW_eq et, elW_eq eh, elW_eq eb, elW_eq ec]
  refine fs_D ?_ h
  rfl
/-- what holds of a row's values, as far as it is needed -/
abbrev rng (x : Int32) (a b : Int) : Prop := a ≤ x.toInt ∧ x.toInt ≤ b
def Inv (s : Nat → Int32) (nt nh nb nc : Nat) : Prop :=
  (∀ j, j < nt → rng (s (33 + 4 * j)) 0 2 ∧ rng (s (33 + 4 * j + 1)) 40 100 ∧ rng (s (33 + 4 * j + 2)) 0 900 ∧ 0 ≤ (s (33 + 4 * j + 3)).toInt ∧ (s (33 + 4 * j + 2)).toInt + (s (33 + 4 * j + 3)).toInt ≤ 900) ∧
  (∀ j, j < nh → rng (s (73 + 4 * j)) 0 3 ∧ rng (s (73 + 4 * j + 1)) 1 100 ∧ rng (s (73 + 4 * j + 2)) 0 600 ∧ rng (s (73 + 4 * j + 3)) (-1) 9) ∧
  (∀ j, j < nb → rng (s (153 + 7 * j)) 0 3 ∧ rng (s (153 + 7 * j + 1)) 0 9 ∧ rng (s (153 + 7 * j + 2)) 0 220 ∧ rng (s (153 + 7 * j + 3)) (-1) 2 ∧ (s (153 + 7 * j + 4) = 0 ∨ s (153 + 7 * j + 4) = 1) ∧ (s (153 + 7 * j + 3) = -1 → s (153 + 7 * j + 2) = 0)) ∧
  (∀ j, j < nc → rng (s (28 + j)) 0 40) ∧ (s 18 = 0) ∧ (∀ m, 1 ≤ m → m < 10 → rng (s (18 + m)) 0 20)

