set_option linter.unusedVariables false
/-- the candidates, in order: (transition, 1 from the source's list, 0 from the target's) -/
def lc1 (S : SS) (md : Int) : List (Int × Int) := if md = 1 ∨ md = 3 then cnL S (S 0 12) 1 [] else []
def lc2 (S : SS) (md : Int) : List (Int × Int) := if md ≠ 0 ∧ md ≠ 1 then cnL S (S 0 16) 0 (lc1 S md) else lc1 S md
def lc3 (S : SS) (md : Int) : List (Int × Int) := if md = 4 then cnL S (S 0 12) 1 (lc2 S md) else lc2 S md
def lcL (S : SS) : List (Int × Int) := if S 0 8 = 0 then cnL S (S 0 12) 1 [] else lc3 S (modS S)
theorem lc1_ok {S : SS} (hW : WFs S) (md : Int) : COk S (lc1 S md) := by
  unfold lc1
  split
  · exact (COk.nil S).cn hW (Or.inr rfl)
  · exact COk.nil S
theorem lc2_ok {S : SS} (hW : WFs S) (md : Int) : COk S (lc2 S md) := by
  unfold lc2
  split
  · exact (lc1_ok hW md).cn hW (Or.inl rfl)
  · exact lc1_ok hW md
theorem lc3_ok {S : SS} (hW : WFs S) (md : Int) : COk S (lc3 S md) := by
  unfold lc3
  split
  · exact (lc2_ok hW md).cn hW (Or.inr rfl)
  · exact lc2_ok hW md
theorem lcL_ok {S : SS} (hW : WFs S) : COk S (lcL S) := by
  unfold lcL
  split
  · exact (COk.nil S).cn hW (Or.inr rfl)
  · exact lc3_ok hW _
theorem cnL_mem {S : SS} {st b : Int} {L : List (Int × Int)} {x l : Int} (h0 : 0 ≤ S 21 0) : (x, l) ∈ cnL S st b L ↔ (x, l) ∈ L ∨ (l = b ∧ 0 ≤ x ∧ x < S 21 0 ∧ (cnI S st b 1 x = 1 ∨ cnI S st b 0 x = 1) ∧ ∀ e ∈ L, e.1 ≠ x) := by
  have hm : (((S 21 0).toNat : Nat) : Int) = S 21 0 := by omega
  have m1 : ∀ x l : Int, (x, l) ∈ cnP S st b 1 L (S 21 0).toNat ↔ (x, l) ∈ L ∨ (l = b ∧ 0 ≤ x ∧ x < S 21 0 ∧ cnI S st b 1 x = 1 ∧ ∀ e ∈ L, e.1 ≠ x) := fun x l => by
    have := cnP_mem (S := S) (st := st) (b := b) (ps := 1) (L := L) (S 21 0).toNat x l
    rw [hm] at this
    exact this
  have m2 := cnP_mem (S := S) (st := st) (b := b) (ps := 0) (L := cnP S st b 1 L (S 21 0).toNat) (S 21 0).toNat x l
  rw [hm] at m2
  unfold cnL
  rw [m2, m1]
  constructor
  · rintro ((h | ⟨a, b1, c, d, e⟩) | ⟨a, b1, c, d, e⟩)
    · exact Or.inl h
    · exact Or.inr ⟨a, b1, c, Or.inl d, e⟩
    · exact Or.inr ⟨a, b1, c, Or.inr d, fun y hy => e y ((m1 y.1 y.2).mpr (Or.inl hy))⟩
  · rintro (h | ⟨a, b1, c, d, e⟩)
    · exact Or.inl (Or.inl h)
    · by_cases d1 : cnI S st b 1 x = 1
      · exact Or.inl (Or.inr ⟨a, b1, c, d1, e⟩)
      · refine Or.inr ⟨a, b1, c, d.resolve_left d1, fun y hy => ?_⟩
        rcases (m1 y.1 y.2).mp hy with q | q
        · exact e y q
        · intro z
          rw [z] at q
          exact d1 q.2.2.2.1
/-- a candidate of one pass of the source's list, of the target's -/
theorem cn_src {S : SS} {t ps : Int} (h8 : S 0 8 = 1) (ha : 0 ≤ S 0 12) (hp : ps = 1 ∨ ps = 0) : cnI S (S 0 12) 1 ps t = 1 ↔ srcI S t = 1 ∧ (ps = 1 ∧ S 20 (17 * t) = -1 ∨ ps = 0 ∧ S 20 (17 * t) ≠ -1) := by
  unfold cnI srcI inlI bckI
  rw [if_neg (show ¬ S 0 8 = 0 by omega), if_neg (show ¬ S 0 8 = 0 by omega)]
  rcases hp with hp | hp
  · subst hp
    simp only [ite10, ite00]
    grind
  · subst hp
    simp only [ite10, ite00]
    grind
theorem cn_tgt {S : SS} {t ps : Int} (h8 : S 0 8 = 1) (ha : 0 ≤ S 0 16) (hp : ps = 1 ∨ ps = 0) : cnI S (S 0 16) 0 ps t = 1 ↔ tgtI S t = 1 ∧ (ps = 1 ∧ S 20 (17 * t) = -1 ∨ ps = 0 ∧ S 20 (17 * t) ≠ -1) := by
  unfold cnI tgtI inlI bckI
  rw [if_neg (show ¬ S 0 8 = 0 by omega), if_neg (show ¬ S 0 8 = 0 by omega)]
  rcases hp with hp | hp
  · subst hp
    simp only [ite10, ite00]
    grind
  · subst hp
    simp only [ite10, ite00]
    grind
theorem cn_idl {S : SS} {t ps : Int} (h8 : S 0 8 = 0) (ha : 0 ≤ S 0 12) (ht : 0 ≤ t) (hp : ps = 1 ∨ ps = 0) : cnI S (S 0 12) 1 ps t = 1 ↔ lstS S t = 1 ∧ (ps = 1 ∧ S 20 (17 * t) = -1 ∨ ps = 0 ∧ S 20 (17 * t) ≠ -1) := by
  unfold cnI lstS inlI bckI
  rw [if_pos h8, if_pos h8, if_pos h8]
  rcases hp with hp | hp
  · subst hp
    simp only [ite10, ite00]
    grind
  · subst hp
    simp only [ite10, ite00]
    grind
