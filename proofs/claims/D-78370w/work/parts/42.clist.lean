set_option linter.unusedVariables false
/-- is t a candidate out of the state st, in the pass ps? (b: by the source) -/
def cnI (S : SS) (st b ps t : Int) : Int := if (if ps = 1 then S 20 (17 * t) = -1 ∧ S 20 (17 * t + 1) ≠ (if S 0 8 = 0 then S 0 12 else S 0 16) else S 20 (17 * t) = st) ∧ t ≠ (if S 0 8 = 0 then -1 else S 0 9) ∧ (b ≠ 0 ∧ S 0 8 = 1 ∧ S 20 (17 * S 0 9 + 6) ≠ 0 → t ≤ S 0 9) then 1 else 0
def cnP (S : SS) (st b ps : Int) (L : List (Int × Int)) : Nat → List (Int × Int)
  | 0 => L
  | t + 1 => if cnI S st b ps t = 1 ∧ ∀ e ∈ cnP S st b ps L t, e.1 ≠ t then cnP S st b ps L t ++ [((t : Int), b)] else cnP S st b ps L t
def cnL (S : SS) (st b : Int) (L : List (Int × Int)) : List (Int × Int) := cnP S st b 0 (cnP S st b 1 L (S 21 0).toNat) (S 21 0).toNat
theorem cnP_mem {S : SS} {st b ps : Int} {L : List (Int × Int)} : ∀ (m : Nat) (x l : Int), (x, l) ∈ cnP S st b ps L m ↔ (x, l) ∈ L ∨ (l = b ∧ 0 ≤ x ∧ x < m ∧ cnI S st b ps x = 1 ∧ ∀ e ∈ L, e.1 ≠ x)
  | 0, x, l => by
    rw [cnP]
    exact ⟨Or.inl, fun h => h.elim id (fun h => by omega)⟩
  | m + 1, x, l => by
    have ih := cnP_mem (S := S) (st := st) (b := b) (ps := ps) (L := L) m
    rw [cnP]
    by_cases c : cnI S st b ps m = 1 ∧ ∀ e ∈ cnP S st b ps L m, e.1 ≠ m
    · rw [if_pos c, List.mem_append, List.mem_singleton, Prod.mk.injEq, ih]
      constructor
      · rintro (h | ⟨h1, h2⟩)
        · rcases h with h | ⟨h1, h2, h3, h4⟩
          · exact Or.inl h
          · exact Or.inr ⟨h1, h2, by omega, h4⟩
        · subst h1
          exact Or.inr ⟨h2, by omega, by omega, c.1, fun e he => c.2 e ((ih e.1 e.2).mpr (Or.inl he))⟩
      · rintro (h | ⟨h1, h2, h3, h4, h5⟩)
        · exact Or.inl (Or.inl h)
        · by_cases e : x = m
          · exact Or.inr ⟨e, h1⟩
          · exact Or.inl (Or.inr ⟨h1, h2, by omega, h4, h5⟩)
    · rw [if_neg c, ih]
      constructor
      · rintro (h | ⟨h1, h2, h3, h4⟩)
        · exact Or.inl h
        · exact Or.inr ⟨h1, h2, by omega, h4⟩
      · rintro (h | ⟨h1, h2, h3, h4, h5⟩)
        · exact Or.inl h
        · by_cases e : x = m
          · subst e
            refine absurd ⟨h4, fun e he => ?_⟩ c
            rcases (ih e.1 e.2).mp he with q | q
            · exact h5 e q
            · omega
          · exact Or.inr ⟨h1, h2, by omega, h4, h5⟩
theorem cnP_s {S : SS} {st b ps t : Int} {L : List (Int × Int)} (h : 0 ≤ t) : cnP S st b ps L (t + 1).toNat = if cnI S st b ps t = 1 ∧ ∀ e ∈ cnP S st b ps L t.toNat, e.1 ≠ t then cnP S st b ps L t.toNat ++ [(t, b)] else cnP S st b ps L t.toNat := by
  rw [show (t + 1).toNat = t.toNat + 1 by omega, cnP, show ((t.toNat : Nat) : Int) = t by omega]
