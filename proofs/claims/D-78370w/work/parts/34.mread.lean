set_option linter.unusedVariables false
/-- all but the transitions is the same -/
def SZ (S Z : SS) : Prop := ∀ f : Nat, f ≠ 20 → f ≠ 21 → S f = Z f
/-- the reader's scalars -/
def PS (K : KS) (cd pa fi ad nu rm we co : Int) : Prop := K 4 0 25 = cd ∧ K 4 0 30 = pa ∧ K 4 0 31 = fi ∧ K 4 0 32 = ad ∧ K 4 0 33 = nu ∧ K 4 0 34 = rm ∧ K 4 0 35 = we ∧ K 4 0 36 = co
/-- blanks are left behind -/
def skF (Z : SS) : Nat → Int → Int
  | 0, a => a
  | f + 1, a => if a < Z 24 0 ∧ Z 23 a = 32 then skF Z f (a + 1) else a
def sk (Z : SS) (a : Int) : Int := skF Z (Z 24 0 - a).toNat a
theorem sk_y {Z : SS} {a : Int} (h : a < Z 24 0) (h2 : Z 23 a = 32) : sk Z a = sk Z (a + 1) := by
  unfold sk
  rw [show (Z 24 0 - a).toNat = (Z 24 0 - (a + 1)).toNat + 1 by omega, skF, if_pos ⟨h, h2⟩]
theorem sk_n {Z : SS} {a : Int} (h : ¬ (a < Z 24 0 ∧ Z 23 a = 32)) : sk Z a = a := by
  unfold sk
  cases (Z 24 0 - a).toNat with
  | zero => rfl
  | succ f => rw [skF, if_neg h]
theorem skF_in {Z : SS} : ∀ (f : Nat) (a : Int), a ≤ Z 24 0 → a + f ≤ Z 24 0 → a ≤ skF Z f a ∧ skF Z f a ≤ Z 24 0
  | 0, a, h, _ => ⟨Int.le_refl _, h⟩
  | f + 1, a, h, h2 => by
    rw [skF]
    split
    · have := skF_in (Z := Z) f (a + 1) (by omega) (by omega); omega
    · omega
theorem sk_in {Z : SS} {a : Int} (h : a ≤ Z 24 0) : a ≤ sk Z a ∧ sk Z a ≤ Z 24 0 := skF_in _ a h (by omega)
theorem sk_stop {Z : SS} {a : Int} (h : a ≤ Z 24 0) : ¬ (sk Z a < Z 24 0 ∧ Z 23 (sk Z a) = 32) := by
  have hn : ∀ (f : Nat) (a : Int), (Z 24 0 - a).toNat = f → a ≤ Z 24 0 → ¬ (sk Z a < Z 24 0 ∧ Z 23 (sk Z a) = 32) := by
    intro f
    induction f with
    | zero => intro a h1 h2 h3; have := sk_in h2; omega
    | succ f ih =>
      intro a h1 h2
      by_cases e : a < Z 24 0 ∧ Z 23 a = 32
      · rw [sk_y e.1 e.2]; exact ih (a + 1) (by omega) (by omega)
      · rw [sk_n e]; exact e
  exact hn _ a rfl h
theorem sk_sk {Z : SS} {a : Int} (h : a ≤ Z 24 0) : sk Z (sk Z a) = sk Z a := sk_n (sk_stop h)
/-- a sign stands here (1, 0) -/
def hI (Z : SS) (a c : Int) : Int := if a < Z 24 0 ∧ Z 23 a = c then 1 else 0
theorem hI_01 (Z : SS) (a c : Int) : hI Z a c = 0 ∨ hI Z a c = 1 := by unfold hI; split <;> omega
theorem hI_ln {Z : SS} {a c : Int} (h : hI Z a c = 1) : a < Z 24 0 ∧ Z 23 a = c := by unfold hI at h; split at h <;> first | assumption | omega
/-- how many digits stand from a place on; the number of the first k -/
def ndF (Z : SS) : Nat → Int → Int
  | 0, _ => 0
  | f + 1, a => if a < Z 24 0 ∧ 48 ≤ Z 23 a ∧ Z 23 a ≤ 57 then 1 + ndF Z f (a + 1) else 0
def nd (Z : SS) (a : Int) : Int := ndF Z (Z 24 0 - a).toNat a
def vlF (Z : SS) (a : Int) : Nat → Int
  | 0 => 0
  | k + 1 => 10 * vlF Z a k + Z 23 (a + k) - 48
def vl (Z : SS) (a : Int) : Int := vlF Z a (min (nd Z a) 4).toNat
theorem nd_y {Z : SS} {a : Int} (h : a < Z 24 0) (h2 : 48 ≤ Z 23 a ∧ Z 23 a ≤ 57) : nd Z a = 1 + nd Z (a + 1) := by
  unfold nd
  rw [show (Z 24 0 - a).toNat = (Z 24 0 - (a + 1)).toNat + 1 by omega, ndF, if_pos ⟨h, h2⟩]
theorem nd_n {Z : SS} {a : Int} (h : ¬ (a < Z 24 0 ∧ 48 ≤ Z 23 a ∧ Z 23 a ≤ 57)) : nd Z a = 0 := by
  unfold nd
  cases (Z 24 0 - a).toNat with
  | zero => rfl
  | succ f => rw [ndF, if_neg h]
theorem ndF_nn {Z : SS} : ∀ (f : Nat) (a : Int), 0 ≤ ndF Z f a ∧ ndF Z f a ≤ f
  | 0, a => ⟨Int.le_refl _, Int.le_refl _⟩
  | f + 1, a => by rw [ndF]; have := ndF_nn (Z := Z) f (a + 1); split <;> omega
theorem nd_in {Z : SS} {a : Int} (h : a ≤ Z 24 0) : 0 ≤ nd Z a ∧ a + nd Z a ≤ Z 24 0 := by have := ndF_nn (Z := Z) (Z 24 0 - a).toNat a; unfold nd; omega
theorem vlF_s {Z : SS} {a k : Int} (h : 0 ≤ k) : vlF Z a (k + 1).toNat = 10 * vlF Z a k.toNat + Z 23 (a + k) - 48 := by
  rw [show (k + 1).toNat = k.toNat + 1 by omega, vlF, show ((k.toNat : Nat) : Int) = k by omega]
