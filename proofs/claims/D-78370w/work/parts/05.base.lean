/-! ===== THE K-LAYER: a heap as a store of integers by kind, number, field ===== -/
set_option linter.unusedVariables false
/-- a store: kind, number of the object in its kind, field (or place; -1: an array's length) -/
abbrev KS : Type := Nat → Int → Int → Int
abbrev KA : Type := Nat → Int → Nat
abbrev KN : Type := Nat → Int
/-- the world's fixed things: launch, classes, array classes, the law's start, the script's address -/
abbrev KW : Type := Launch × va_G × (Nat → ClassId) × State × Addr
def iI (z : Int) : Int32 := Int32.ofInt z
def iL (z : Int) : Int64 := Int64.ofInt z
theorem iI_toInt {z : Int} (h1 : -2147483648 ≤ z) (h2 : z ≤ 2147483647) : (iI z).toInt = z := Int32.toInt_ofInt_of_le (by omega) (by omega)
theorem iL_toInt {z : Int} (h1 : -9223372036854775808 ≤ z) (h2 : z ≤ 9223372036854775807) : (iL z).toInt = z := Int64.toInt_ofInt_of_le (by omega) (by omega)
theorem iI_of (v : Int32) : iI v.toInt = v := Int32.ofInt_toInt v
theorem iL_of (v : Int64) : iL v.toInt = v := Int64.ofInt_toInt v
theorem iI_rng (v : Int32) : -2147483648 ≤ v.toInt ∧ v.toInt ≤ 2147483647 := ⟨by have := v.le_toInt; omega, by have := v.toInt_lt; omega⟩
theorem iI_add (a b : Int) : iI a + iI b = iI (a + b) := (Int32.ofInt_add a b).symm
theorem iI_sub (a b : Int) : iI a - iI b = iI (a - b) := (Int32.ofInt_sub a b).symm
theorem iI_mul (a b : Int) : iI a * iI b = iI (a * b) := (Int32.ofInt_mul a b).symm
theorem iI_neg (a : Int) : -iI a = iI (-a) := (Int32.ofInt_neg a).symm
theorem iL_add (a b : Int) : iL a + iL b = iL (a + b) := (Int64.ofInt_add a b).symm
theorem iL_sub (a b : Int) : iL a - iL b = iL (a - b) := (Int64.ofInt_sub a b).symm
theorem iL_mul (a b : Int) : iL a * iL b = iL (a * b) := (Int64.ofInt_mul a b).symm
theorem iI_le {a b : Int} (ha : -2147483648 ≤ a ∧ a ≤ 2147483647) (hb : -2147483648 ≤ b ∧ b ≤ 2147483647) : iI a ≤ iI b ↔ a ≤ b := by
  rw [Int32.le_iff_toInt_le, iI_toInt ha.1 ha.2, iI_toInt hb.1 hb.2]
theorem iI_lt {a b : Int} (ha : -2147483648 ≤ a ∧ a ≤ 2147483647) (hb : -2147483648 ≤ b ∧ b ≤ 2147483647) : iI a < iI b ↔ a < b := by
  rw [Int32.lt_iff_toInt_lt, iI_toInt ha.1 ha.2, iI_toInt hb.1 hb.2]
theorem iI_eq {a b : Int} (ha : -2147483648 ≤ a ∧ a ≤ 2147483647) (hb : -2147483648 ≤ b ∧ b ≤ 2147483647) : iI a = iI b ↔ a = b := by
  rw [← Int32.toInt_inj, iI_toInt ha.1 ha.2, iI_toInt hb.1 hb.2]
theorem iL_le {a b : Int} (ha : -9223372036854775808 ≤ a ∧ a ≤ 9223372036854775807) (hb : -9223372036854775808 ≤ b ∧ b ≤ 9223372036854775807) : iL a ≤ iL b ↔ a ≤ b := by
  rw [Int64.le_iff_toInt_le, iL_toInt ha.1 ha.2, iL_toInt hb.1 hb.2]
theorem iL_lt {a b : Int} (ha : -9223372036854775808 ≤ a ∧ a ≤ 9223372036854775807) (hb : -9223372036854775808 ≤ b ∧ b ≤ 9223372036854775807) : iL a < iL b ↔ a < b := by
  rw [Int64.lt_iff_toInt_lt, iL_toInt ha.1 ha.2, iL_toInt hb.1 hb.2]
theorem iL_eq {a b : Int} (ha : -9223372036854775808 ≤ a ∧ a ≤ 9223372036854775807) (hb : -9223372036854775808 ≤ b ∧ b ≤ 9223372036854775807) : iL a = iL b ↔ a = b := by
  rw [← Int64.toInt_inj, iL_toInt ha.1 ha.2, iL_toInt hb.1 hb.2]
theorem iI_i2l {a : Int} (ha : -2147483648 ≤ a ∧ a ≤ 2147483647) : (iI a).toInt64 = iL a := by
  have h1 : Int32.minValue.toInt = -2147483648 := by decide
  have h2 : Int32.maxValue.toInt = 2147483647 := by decide
  exact Int32.toInt64_ofInt (by omega) (by omega)
theorem iL_l2i (a : Int) : (iL a).toInt32 = iI a := Int64.toInt32_ofInt
theorem iI_div {a b : Int} (ha : -2147483648 ≤ a ∧ a ≤ 2147483647) (hb : 0 < b ∧ b ≤ 2147483647) : iI a / iI b = iI (a.tdiv b) := by
  have h1 : Int32.minValue.toInt = -2147483648 := by decide
  have h2 : Int32.maxValue.toInt = 2147483647 := by decide
  exact (Int32.ofInt_tdiv (by omega) (by omega) (by omega) (by omega)).symm
theorem iL_div {a b : Int} (ha : -9223372036854775808 ≤ a ∧ a ≤ 9223372036854775807) (hb : 0 < b ∧ b ≤ 9223372036854775807) : iL a / iL b = iL (a.tdiv b) := by
  have h1 : Int64.minValue.toInt = -9223372036854775808 := by decide
  have h2 : Int64.maxValue.toInt = 9223372036854775807 := by decide
  exact (Int64.ofInt_tdiv (by omega) (by omega) (by omega) (by omega)).symm
theorem iL_ne0 {b : Int} (hb : 0 < b ∧ b ≤ 9223372036854775807) : ¬ iL b = 0 := by
  intro h
  have h1 := congrArg Int64.toInt h
  rw [iL_toInt (by omega) hb.2, Int64.toInt_zero] at h1
  omega
theorem iI_ne0 {b : Int} (hb : 0 < b ∧ b ≤ 2147483647) : ¬ iI b = 0 := by
  intro h
  have h1 := congrArg Int32.toInt h
  rw [iI_toInt (by omega) hb.2, Int32.toInt_zero] at h1
  omega
theorem iI_cl {z : Int} (h : 0 ≤ z) (h2 : z ≤ 2147483647) : (iI z).toNatClampNeg = z.toNat := by
  rw [← Int32.toNat_toInt, iI_toInt (by omega) h2]
theorem iI_in {z n : Int} (h : 0 ≤ z) (h2 : z < n) (h3 : z ≤ 2147483647) : vp_in (iI z) n.toNat := by
  rw [vp_in_iff, iI_toInt (by omega) h3]
  omega
/-- a reference to the object z of kind j; below 0: null -/
def refO (α : KA) (j : Nat) (z : Int) : Option Nat := if z < 0 then none else some (α j z)
def refV (α : KA) (j : Nat) (z : Int) : Value := va_rf (refO α j z)
theorem refO_n {α : KA} {j : Nat} {z : Int} (h : z < 0) : refO α j z = none := if_pos h
theorem refO_s {α : KA} {j : Nat} {z : Int} (h : 0 ≤ z) : refO α j z = some (α j z) := if_neg (by omega)
theorem refV_n {α : KA} {j : Nat} {z : Int} (h : z < 0) : refV α j z = .null := by rw [refV, refO_n h]; rfl
theorem refV_s {α : KA} {j : Nat} {z : Int} (h : 0 ≤ z) : refV α j z = .ref (α j z) := by rw [refV, refO_s h]; rfl
theorem refV_cat {α : KA} {j : Nat} {z : Int} : (refV α j z).category = 1 := by
  by_cases h : z < 0
  · rw [refV_n h]; rfl
  · rw [refV_s (by omega)]; rfl
/-- one field or place of a store is written -/
def up3 (K : KS) (k : Nat) (i f v : Int) : KS := fun k' i' f' => if k' = k ∧ f' = f ∧ i' = i then v else K k' i' f'
theorem up3_s (K : KS) (k : Nat) (i f v : Int) : up3 K k i f v k i f = v := by simp [up3]
theorem up3_k (K : KS) {k k' : Nat} (i f v i' f' : Int) (h : k' ≠ k) : up3 K k i f v k' i' f' = K k' i' f' := by simp [up3, h]
theorem up3_f (K : KS) (k k' : Nat) (i v i' : Int) {f f' : Int} (h : f' ≠ f) : up3 K k i f v k' i' f' = K k' i' f' := by simp [up3, h]
theorem up3_i (K : KS) (k k' : Nat) (f v f' : Int) {i i' : Int} (h : i' ≠ i) : up3 K k i f v k' i' f' = K k' i' f' := by simp [up3, h]
theorem up3_kk (K : KS) {k k' : Nat} (i f v : Int) (h : k' ≠ k) : up3 K k i f v k' = K k' := by funext a b; exact up3_k K i f v a b h
theorem up3_ii (K : KS) (k k' : Nat) (f v : Int) {i i' : Int} (h : i' ≠ i) : up3 K k i f v k' i' = K k' i' := by funext b; exact up3_i K k k' f v b h
/-- a whole object is written -/
def upo (K : KS) (k : Nat) (i : Int) (g : Int → Int) : KS := fun k' i' f' => if k' = k ∧ i' = i then g f' else K k' i' f'
theorem upo_s (K : KS) (k : Nat) (i : Int) (g : Int → Int) (f : Int) : upo K k i g k i f = g f := by simp [upo]
theorem upo_k (K : KS) {k k' : Nat} (i : Int) (g : Int → Int) (i' f' : Int) (h : k' ≠ k) : upo K k i g k' i' f' = K k' i' f' := by simp [upo, h]
theorem upo_i (K : KS) (k k' : Nat) (g : Int → Int) (f' : Int) {i i' : Int} (h : i' ≠ i) : upo K k i g k' i' f' = K k' i' f' := by simp [upo, h]
def upn (n : KN) (k : Nat) : KN := fun j => if j = k then n k + 1 else n j
def upa (α : KA) (k : Nat) (i : Int) (a : Nat) : KA := fun k' i' => if k' = k ∧ i' = i then a else α k' i'
/-- what a field or place of a code holds: 1 a long, 2 a reference to the kind c.2, 4 a float, else an int (7: a boolean, 8: a byte, 5: a char) -/
def fval (α : KA) (c : Nat × Nat) (z : Int) : Value := match c.1 with
  | 1 => .long (iL z)
  | 2 => refV α c.2 z
  | 4 => .float z.toNat.toUInt32
  | _ => .int (iI z)
/-- an object (number of its class, codes of its fields) or an array (number of its class, code of its places) -/
abbrev KD : Type := (Nat × List (Nat × Nat)) ⊕ (Nat × Nat × Nat)
def arrC (α : KA) (c : Nat × Nat) (g : Int → Int) : (Nat → Int32) ⊕ (Nat → Int64) ⊕ (Nat → UInt32) ⊕ (Nat → UInt64) ⊕ (Nat → Option Nat) := match c.1 with
  | 1 => .inr (.inl fun j => iL (g j))
  | 2 => .inr (.inr (.inr (.inr fun j => if (j : Int) < g (-1) then refO α c.2 (g j) else none)))
  | _ => .inl fun j => iI (g j)
def fvs (α : KA) (g : Int → Int) : List (Nat × Nat) → Int → List Value
  | [], _ => []
  | c :: cs, s => fval α c (g s) :: fvs α g cs (s + 1)
theorem fvs_at (α : KA) (g : Int → Int) : ∀ (cs : List (Nat × Nat)) (s : Int) (j : Nat), (fvs α g cs s)[j]? = (cs[j]?).map (fun c => fval α c (g (s + j)))
  | [], _, _ => by simp [fvs]
  | c :: cs, s, 0 => by simp [fvs]
  | c :: cs, s, j + 1 => by
    have h := fvs_at α g cs (s + 1) j
    simp only [fvs, List.getElem?_cons_succ]
    rw [h, show s + 1 + (j : Int) = s + ((j + 1 : Nat) : Int) by omega]
theorem fvs_len (α : KA) (g : Int → Int) : ∀ (cs : List (Nat × Nat)) (s : Int), (fvs α g cs s).length = cs.length
  | [], _ => rfl
  | c :: cs, s => by simp only [fvs, List.length_cons, fvs_len α g cs (s + 1)]
theorem fvs_set (α : KA) (g g' : Int → Int) (cs : List (Nat × Nat)) (s : Int) (j : Nat) (c : Nat × Nat) (hj : cs[j]? = some c) (ho : ∀ i : Int, i ≠ s + j → g' i = g i) : (fvs α g cs s).set j (fval α c (g' (s + j))) = fvs α g' cs s := by
  apply List.ext_getElem?
  intro k
  have hl : j < (fvs α g cs s).length := by rw [fvs_len]; exact (List.getElem?_eq_some_iff.mp hj).1
  by_cases h : k = j
  · subst h
    rw [List.getElem?_set_self hl, fvs_at, hj]
    rfl
  · rw [List.getElem?_set_ne (Ne.symm h), fvs_at, fvs_at]
    cases cs[k]? with
    | none => rfl
    | some c2 => simp only [Option.map_some]; rw [ho _ (by omega)]
theorem fvs_congr (α α' : KA) (g g' : Int → Int) : ∀ (cs : List (Nat × Nat)) (s : Int), (∀ (j : Nat) (c : Nat × Nat), cs[j]? = some c → fval α c (g (s + j)) = fval α' c (g' (s + j))) → fvs α g cs s = fvs α' g' cs s := by
  intro cs s h
  apply List.ext_getElem?
  intro k
  rw [fvs_at, fvs_at]
  cases hk : cs[k]? with
  | none => rfl
  | some c => simp only [Option.map_some]; rw [h k c hk]
def contD (dA : Nat → ClassId) (α : KA) (d : KD) (g : Int → Int) : va_E := match d with
  | .inl q => .inr (q.1, fvs α g q.2 0)
  | .inr q => .inl (dA q.1, (g (-1)).toNat, arrC α q.2 g)

/-- the world's classes, by number -/
abbrev kCl : List vw_C := [(RX1, TX1, 13), (RX2, TX2, 4), (RX3, TX3, 2), (RX4, TX4, 42), (RX5, TX5, 2), (RX6, TX6, 3), (RX7, TX7, 2), (RX9, TX9, 1), (RX10, TX10, 4), (RX11, TX11, 5), (RX12, TX12, 15), (RX13, TX13, 5), (RX14, TX14, 9), (RX15, TX15, 2), (RX16, TX16, 4), (RX17, TX17, 2), (RJ2, TJ2, 3), (RJ8, TJ8, 4), (RJ19, TJ19, 8), (RJ20, TJ20, 12), (RJ27, TJ27, 1), (RJ31, TJ31, 4), (RJ32, TJ32, 6), (RJ34, TJ34, 3), (RJ17, TJ17, 1), (RJ28, TJ28, 1)]
/-- the world's classes of arrays, by number -/
abbrev kTyl : List FieldType := [.int, .long, .boolean, .byte, .object "java/lang/Object", .object "AnimationController$Node", .object "AnimationController$Condition", .object "java/util/HashMap$Node"]
abbrev kTys (dA : Nat → ClassId) : List (ClassId × FieldType) := [(dA 0, .int), (dA 1, .long), (dA 2, .boolean), (dA 3, .byte), (dA 4, .object "java/lang/Object"), (dA 5, .object "AnimationController$Node"), (dA 6, .object "AnimationController$Condition"), (dA 7, .object "java/util/HashMap$Node")]
/-- the kinds: objects 1..18 (classes X1..X17 by their numbers; 8: nodes; 18: readers), lists 20..27, text 28, arrays 31..58, maps 60..71, constants 80.., the reference's arrays 100.., the law's 150 -/
def kT : Nat → KD
  | 1 => .inl (0, [(2, 20), (2, 21), (2, 22), (2, 23), (2, 24), (0, 0), (2, 12), (2, 2), (2, 3), (2, 3), (2, 3), (2, 63), (2, 28)])
  | 2 => .inl (1, [(2, 31), (2, 32), (2, 33), (0, 0)])
  | 3 => .inl (2, [(2, 34), (2, 1)])
  | 4 => .inl (3, [(2, 100), (2, 101), (2, 102), (0, 0), (2, 104), (2, 105), (2, 106), (2, 107), (0, 0), (2, 109), (2, 110), (2, 111), (2, 112), (2, 113), (0, 0), (2, 115), (2, 116), (2, 117), (2, 118), (0, 0), (2, 120), (0, 0), (0, 0), (2, 123), (0, 0), (0, 0), (2, 126), (2, 127), (2, 128), (2, 129), (0, 0), (7, 0), (7, 0), (0, 0), (0, 0), (0, 0), (0, 0), (2, 137), (2, 138), (2, 139), (0, 0), (2, 141)])
  | 5 => .inl (4, [(0, 0), (0, 0)])
  | 6 => .inl (5, [(0, 0), (0, 0), (2, 26)])
  | 7 => .inl (6, [(0, 0), (0, 0)])
  | 11 => .inl (9, [(0, 0), (2, 8), (0, 0), (7, 0), (0, 0)])
  | 12 => .inl (10, [(2, 13), (2, 13), (0, 0), (0, 0), (0, 0), (7, 0), (2, 2), (2, 35), (0, 0), (0, 0), (0, 0), (2, 36), (2, 37), (0, 0), (2, 1)])
  | 13 => .inl (11, [(2, 11), (0, 0), (0, 0), (7, 0), (1, 0)])
  | 14 => .inl (12, [(2, 11), (2, 11), (0, 0), (0, 0), (0, 0), (0, 0), (7, 0), (2, 40), (0, 0)])
  | 15 => .inl (13, [(2, 5), (2, 16)])
  | 17 => .inl (15, [(2, 12), (2, 38)])
  | 18 => .inl (14, [(2, 27), (0, 0), (0, 0), (2, 1)])
  | 20 => .inl (16, [(0, 0), (2, 50), (0, 0)])
  | 21 => .inl (16, [(0, 0), (2, 51), (0, 0)])
  | 22 => .inl (16, [(0, 0), (2, 52), (0, 0)])
  | 23 => .inl (16, [(0, 0), (2, 53), (0, 0)])
  | 24 => .inl (16, [(0, 0), (2, 54), (0, 0)])
  | 26 => .inl (16, [(0, 0), (2, 56), (0, 0)])
  | 28 => .inl (17, [(2, 58), (8, 0), (7, 0), (0, 0)])
  | 31 => .inr (0, 0, 0)
  | 32 => .inr (0, 0, 0)
  | 33 => .inr (0, 0, 0)
  | 34 => .inr (0, 0, 0)
  | 35 => .inr (0, 0, 0)
  | 36 => .inr (0, 0, 0)
  | 37 => .inr (2, 7, 0)
  | 38 => .inr (0, 0, 0)
  | 40 => .inr (6, 2, 15)
  | 41 => .inr (0, 0, 0)
  | 42 => .inr (5, 2, 8)
  | 50 => .inr (4, 2, 5)
  | 51 => .inr (4, 2, 6)
  | 52 => .inr (4, 2, 8)
  | 53 => .inr (4, 2, 11)
  | 54 => .inr (4, 2, 14)
  | 56 => .inr (4, 2, 7)
  | 57 => .inr (4, 2, 14)
  | 58 => .inr (3, 8, 0)
  | 60 => .inl (18, [(2, 99), (2, 99), (2, 61), (2, 99), (0, 0), (0, 0), (0, 0), (4, 0)])
  | 61 => .inr (7, 2, 62)
  | 62 => .inl (21, [(0, 0), (2, 81), (2, 81), (2, 62)])
  | 63 => .inl (19, [(2, 99), (2, 99), (2, 64), (2, 99), (0, 0), (0, 0), (0, 0), (4, 0), (2, 65), (2, 65), (7, 0), (0, 0)])
  | 64 => .inr (7, 2, 65)
  | 65 => .inl (22, [(0, 0), (2, 81), (2, 17), (2, 65), (2, 65), (2, 65)])
  | 66 => .inl (20, [(2, 67)])
  | 67 => .inl (18, [(2, 99), (2, 99), (2, 68), (2, 99), (0, 0), (0, 0), (0, 0), (4, 0)])
  | 68 => .inr (7, 2, 69)
  | 69 => .inl (21, [(0, 0), (2, 82), (2, 83), (2, 69)])
  | 70 => .inl (23, [(2, 71), (0, 0), (0, 0)])
  | 71 => .inr (4, 2, 81)
  | 80 => .inr (4, 2, 99)
  | 81 => .inl (24, [(0, 0)])
  | 82 => .inl (25, [(5, 0)])
  | 100 => .inr (0, 0, 0)
  | 101 => .inr (2, 7, 0)
  | 102 => .inr (0, 0, 0)
  | 104 => .inr (0, 0, 0)
  | 105 => .inr (0, 0, 0)
  | 106 => .inr (0, 0, 0)
  | 107 => .inr (0, 0, 0)
  | 109 => .inr (0, 0, 0)
  | 110 => .inr (0, 0, 0)
  | 111 => .inr (0, 0, 0)
  | 112 => .inr (0, 0, 0)
  | 113 => .inr (0, 0, 0)
  | 115 => .inr (0, 0, 0)
  | 116 => .inr (0, 0, 0)
  | 117 => .inr (2, 7, 0)
  | 118 => .inr (0, 0, 0)
  | 120 => .inr (0, 0, 0)
  | 123 => .inr (0, 0, 0)
  | 126 => .inr (0, 0, 0)
  | 127 => .inr (1, 1, 0)
  | 128 => .inr (0, 0, 0)
  | 129 => .inr (1, 1, 0)
  | 137 => .inr (0, 0, 0)
  | 138 => .inr (0, 0, 0)
  | 139 => .inr (1, 1, 0)
  | 141 => .inr (0, 0, 0)
  | 150 => .inr (1, 1, 0)
  | _ => .inr (0, 0, 0)
/-- of an object: its kind's, but for nodes (9: 0 a clip's, else a line), tests (9: their operator) and a reader's list (9: 0 while it has the empty array) -/
def kD (K : KS) (k : Nat) (i : Int) : KD :=
  if k = 8 then (if K 8 i 9 = 0 then .inl (7, [(2, 6)]) else .inl (8, [(2, 5), (2, 41), (2, 42), (0, 0)]))
  else if k = 16 then .inr (20 + (K 16 i 9).toNat, 0, 0)
  else if k = 27 then (if K 27 i 9 = 0 then .inl (16, [(0, 0), (2, 80), (0, 0)]) else .inl (16, [(0, 0), (2, 57), (0, 0)]))
  else kT k
theorem kD_of (K : KS) (k : Nat) (i : Int) (h8 : k ≠ 8) (h16 : k ≠ 16) (h27 : k ≠ 27) : kD K k i = kT k := by simp [kD, h8, h16, h27]
theorem kD_congr {K K' : KS} {k : Nat} {i : Int} (h : ∀ f, K' k i f = K k i f) : kD K' k i = kD K k i := by
  unfold kD
  split
  · next e => subst e; rw [h]
  · split
    · next e => subst e; rw [h]
    · split
      · next e => subst e; rw [h]
      · rfl
/-- what stands at an object -/
def cont (dA : Nat → ClassId) (α : KA) (K : KS) (k : Nat) (i : Int) : va_E := contD dA α (kD K k i) (K k i)
theorem cont_congr {dA : Nat → ClassId} {α : KA} {K K' : KS} {k : Nat} {i : Int} (h : ∀ f, K' k i f = K k i f) : cont dA α K' k i = cont dA α K k i := by
  unfold cont
  rw [kD_congr h, show K' k i = K k i from funext h]

/-! ===== the world of a walk ===== -/
/-- the cells that may be written: those that the law made -/
def kA (w : KW) : Nat → Prop := fun q => w.2.2.2.1.heap.size ≤ q
/-- lengths in range; references to what there is -/
def WK (n : KN) (K : KS) : Prop := (∀ k, 0 ≤ n k) ∧ ∀ (k : Nat) (i : Int), 0 ≤ i → i < n k → match kD K k i with
  | .inl q => ∀ (f : Nat) (c : Nat × Nat), q.2[f]? = some c → c.1 = 2 → K k i f < n c.2
  | .inr q => 0 ≤ K k i (-1) ∧ K k i (-1) ≤ 2147483647 ∧ (q.2.1 = 2 → ∀ j : Int, 0 ≤ j → j < K k i (-1) → K k i j < n q.2.2)
/-- the constants: kinds 80 to 99 -/
def kC (k : Nat) : Prop := 80 ≤ k ∧ k ≤ 99
def CC (w : KW) (n : KN) (α : KA) (K : KS) : Prop := ∀ (k : Nat) (i : Int), kC k → 0 ≤ i → i < n k → va_at w.2.1 kCl (α k i, cont w.2.2.1 α K k i) w.2.2.2.1.heap
def CR (w : KW) (n : KN) (α : KA) (K : KS) (H : Heap) : Prop := ∃ (L : List Nat) (G : Nat → va_E), va_P w.2.1 kCl (va_pl L G) H ∧ va_D (kA w) (va_pl L G) ∧
  (∀ (k : Nat) (i : Int), ¬ kC k → 0 ≤ i → i < n k → α k i ∈ L ∧ G (α k i) = cont w.2.2.1 α K k i) ∧
  (∀ (k k' : Nat) (i i' : Int), ¬ kC k → ¬ kC k' → 0 ≤ i → i < n k → 0 ≤ i' → i' < n k' → α k i = α k' i' → k = k' ∧ i = i') ∧ CC w n α K ∧ WK n K
/-- the four lambdas' shapes: the call sites of testFor -/
def lmIx : Nat → Nat
  | 0 => 190
  | 1 => 194
  | 2 => 195
  | _ => 196
def lmNm : Nat → String
  | 0 => "lambda$testFor$0"
  | 1 => "lambda$testFor$1"
  | 2 => "lambda$testFor$2"
  | _ => "lambda$testFor$3"
def lmSh (o : Nat) : Lambda.Shape := { iface := "AnimationController$Test", name := "holds", sam := { parameters := [.int], returnType := some .boolean }, captured := [.int], kind := 6, implClass := "AnimationController", implName := lmNm o, implDesc := { parameters := [.int, .int], returnType := some .boolean }, implItf := false, inst := { parameters := [.int], returnType := some .boolean } }
/-- the lambdas' classes are those of the numbers 20 to 23 -/
def kLam (w : KW) : Prop := ∀ o : Nat, o < 4 → w.2.2.2.1.lambdaAt? yX1_testFor (29 + 7 * o) (lmIx o) (lmSh o) = some (w.2.2.1 (20 + o), none)
/-- the law's start: the launch's flags, the tables' words, what the Statement takes of the start, the classes known -/
def kW (w : KW) : Prop := w.1.flags = flags0 ∧ (∀ c ∈ lw_tbl, c.before #[Value.ref w.2.2.2.2] w.2.2.2.1 = true) ∧ (Jvm.Cond.and given_1 narrow_1).before #[Value.ref w.2.2.2.2] w.2.2.2.1 = true ∧ va_K w.2.1 kCl (kTys w.2.2.1) w.2.2.2.1 ∧ kLam w
/-- a state of the run: what stood at the start stands -/
def kI (w : KW) (U : State) : Prop := w.2.2.2.1.heap.size ≤ U.heap.size ∧ (∀ q : Nat, q < w.2.2.2.1.heap.size → U.heap[q]? = w.2.2.2.1.heap[q]?) ∧ w.2.2.2.1.WarmedH U.vm
/-- later addresses, numbers -/
def Ext (n : KN) (α : KA) (n' : KN) (α' : KA) : Prop := ∀ k : Nat, n k ≤ n' k ∧ ∀ i : Int, 0 ≤ i → i < n k → α' k i = α k i
theorem Ext.rf {n : KN} {α : KA} : Ext n α n α := fun k => ⟨Int.le_refl _, fun _ _ _ => rfl⟩
theorem Ext.tr {n n1 n2 : KN} {α α1 α2 : KA} (h1 : Ext n α n1 α1) (h2 : Ext n1 α1 n2 α2) : Ext n α n2 α2 := fun k => ⟨Int.le_trans (h1 k).1 (h2 k).1, fun i h0 hi => by rw [(h2 k).2 i h0 (Int.lt_of_lt_of_le hi (h1 k).1), (h1 k).2 i h0 hi]⟩
/-- an answer: code 0 int, 1 long, 2 a reference, 3 none -/
def retV (α : KA) (rt : Nat × Nat) (r : Int) : Option Value := match rt.1 with
  | 0 => some (.int (iI r))
  | 1 => some (.long (iL r))
  | 2 => some (refV α rt.2 r)
  | _ => none
def kP (w : KW) (n : KN) (α : KA) (K : KS) (av : List Value) : Array Value → State → Prop := va_Pc av (fun U => kW w ∧ kI w U ∧ CR w n α K U.heap)
def kQ (w : KW) (n : KN) (α : KA) (rt : Nat × Nat) (post : Int → KN → KA → KS → Prop) : Array Value → State → Outcome → State → Prop := fun _ st oc t =>
  (∃ (r : Int) (n' : KN) (α' : KA) (K' : KS), oc = .returned (retV α' rt r) ∧ CR w n' α' K' t.heap ∧ Ext n α n' α' ∧ post r n' α' K') ∧ va_F (kA w) st t
/-- a contract: from any world with this store the method returns; its answer and the new store are as post says -/
def KM (w : KW) (y : MethodName) (b : ByteArray) (L : Nat) (ret : Option FieldType) (rm : Room) (rt : Nat × Nat) (av : List Value) (n : KN) (α : KA) (K : KS) (post : Int → KN → KA → KS → Prop) : Prop :=
  Met w.1 y (ws_ y b L ret) rm (kP w n α K av) (kQ w n α rt post) rm.cells rm.slots (kA w)
/-- what a walk stands in: program, launch, environment, room, state at entry, method, arguments, frames below, method, code, goal, locals, world -/
abbrev YX : Type := Program × Launch × Env × Room × State × MethodId × Array Value × List Frame × Method × Code × (State → Prop) × Nat × KW
def yW (x : YX) : KW := x.2.2.2.2.2.2.2.2.2.2.2.2
def yS (x : YX) : State := x.2.2.2.2.1
def yM (x : YX) : MethodId := x.2.2.2.2.2.1
def yA (x : YX) : Array Value := x.2.2.2.2.2.2.1
def yF (x : YX) : Method := x.2.2.2.2.2.2.2.2.1
def yCo (x : YX) : Code := x.2.2.2.2.2.2.2.2.2.1
/-- the judgement: from the store K, at pc, with these locals and this stack, with bc cells and bs slots still to make, the goal is reached -/
def Y (x : YX) (n : KN) (α : KA) (K : KS) (bc bs pc : Nat) (lv : List (Nat × Value)) (st : List Value) : Prop :=
  ∀ (H : Heap) (locs : List Loc) (ls : Array Slot) (cells slots : Nat), CR x.2.2.2.2.2.2.2.2.2.2.2.2 n α K H → va_S (kA x.2.2.2.2.2.2.2.2.2.2.2.2) x.2.2.2.2.1.heap H locs → lv_has ls x.2.2.2.2.2.2.2.2.2.2.2.1 lv → cells + bc ≤ x.2.2.2.1.cells → slots + bs ≤ x.2.2.2.1.slots →
    W x.1 x.2.1 x.2.2.1 x.2.2.2.1 x.2.2.2.2.1 x.2.2.2.2.2.1 x.2.2.2.2.2.2.1 x.2.2.2.2.2.2.2.1 x.2.2.2.2.2.2.2.2.1 x.2.2.2.2.2.2.2.2.2.1 H locs cells slots x.2.2.2.2.2.2.2.2.2.2.1 (F0 x.2.2.2.2.2.1 pc ls st)
/-- what a walk knows all along: its class, code, answer's type, name, room -/
def YE (x : YX) (cc : ByteArray) (own : String) (ret : Option FieldType) (nm : String) (nL : Nat) (RM : Room) : Prop :=
  x.1.tables.exec = Jvm.exec ∧ x.2.2.2.2.2.2.2.2.2.1.code = cc ∧ x.2.2.2.2.2.2.2.2.2.1.maxLocals = nL ∧ x.2.2.2.2.1.vm.findClass own = some x.2.2.2.2.2.1.cls ∧ (∀ w ∈ lw_all, w.before x.2.2.2.2.2.2.1 x.2.2.2.2.1 = true) ∧
  x.2.2.2.2.2.2.2.2.1.sig.returnType = ret ∧ x.2.2.2.2.2.2.2.2.1.name = nm ∧ x.2.2.2.2.2.2.2.2.1.locks = false ∧ x.2.2.2.1 = RM ∧ x.2.2.2.2.2.2.2.2.2.2.2.1 = nL ∧ x.2.1 = (yW x).1 ∧ kW (yW x) ∧ kI (yW x) x.2.2.2.2.1
def YQ (x : YX) (w : KW) (n0 : KN) (α0 : KA) (rt : Nat × Nat) (post : Int → KN → KA → KS → Prop) : Prop :=
  x.2.2.2.2.2.2.2.2.2.2.1 = MQ x.2.2.2.2.2.2.2.1 (kQ w n0 α0 rt post) x.2.2.2.2.2.2.1 x.2.2.2.2.1 x.2.2.2.1.cells x.2.2.2.1.slots (kA w) ∧ yW x = w
theorem kI.vm {w : KW} {s U : State} (h : kI w s) (hW : s.WarmedH U.vm) {locs : List Loc} (hS : va_S (kA w) s.heap U.heap locs) : kI w U :=
  ⟨Nat.le_trans h.1 hS.1, fun q hq => by rw [hS.2.1 q (Nat.lt_of_lt_of_le hq h.1) (fun z => absurd z (Nat.not_le.mpr hq))]; exact h.2.1 q hq, State.WarmedH.trans h.2.2 hW⟩
theorem yK {x : YX} {cc : ByteArray} {own : String} {ret : Option FieldType} {nm : String} {nL : Nat} {RM : Room} (hE : YE x cc own ret nm nL RM) : va_K (yW x).2.1 kCl (kTys (yW x).2.2.1) x.2.2.2.2.1 := by
  obtain ⟨-, -, -, -, -, -, -, -, -, -, -, hW, hI⟩ := hE
  exact va_K.moved hI.2.2.alike hW.2.2.2.1
theorem yA0 {x : YX} {cc : ByteArray} {own : String} {ret : Option FieldType} {nm : String} {nL : Nat} {RM : Room} (hE : YE x cc own ret nm nL RM) : ∀ q : Nat, x.2.2.2.2.1.heap.size ≤ q → kA (yW x) q := fun q h => Nat.le_trans hE.2.2.2.2.2.2.2.2.2.2.2.2.1 h
/-- a method's walk gives its contract -/
theorem y_start {w : KW} {y : MethodName} {b : ByteArray} {L : Nat} {ret : Option FieldType} {rm : Room} {rt : Nat × Nat} {av : List Value} {n : KN} {α : KA} {K : KS} {post : Int → KN → KA → KS → Prop}
    (hy : plainName y.cls = true) (hL : (lg_sl av).length ≤ L)
    (body : ∀ x : YX, YE x b y.cls ret y.name L rm → YQ x w n α rt post → Y x n α K rm.cells rm.slots 0 (lv_args 0 av) []) : KM w y b L ret rm rt av n α K post := by
  refine Met.ofW (cc := b) (maxL := L) (ret := ret) hy rfl ?_
  intro p e s m args below meth c s₁ B hml hv
  obtain ⟨rfl, hw, hi, hcr⟩ := hv
  have hts := atoms_spec (ws := ws_ y b L ret) B.pre
  have hts : ∀ w ∈ lw_all, w.before _ s = true := fun w h => hts w (List.mem_cons_of_mem _ h)
  rw [lg_entry_eq]
  exact body (p, w.1, e, (headSpec (ws_ y b L ret) rm).room, s, m, _, below, meth, c, _, L, w)
    ⟨B.exec, B.bytes, hml, findClass_of_methodNamed B.named, hts, B.returns, (name_of_methodNamed B.named B.method).1, B.notSynchronized, rfl, rfl, rfl, hw, hi⟩ ⟨rfl, rfl⟩
    s.heap [] _ 0 0 hcr va_S.rf (lv_entry av hL) (Nat.le_of_eq (Nat.zero_add _)) (Nat.le_of_eq (Nat.zero_add _))
