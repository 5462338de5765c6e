set_option linter.unusedVariables false
theorem takB_lo {S : SS} {l j : Int} (hl : S 0 8 = 1 → (poseS S).length ≤ 32) (hj : j < 8) : takB S l 0 j = S 0 j := by
  unfold takB
  split
  · rename_i h; exact (frzS_v (hl h)).2.2.2.2 j (by omega)
  · rw [up2_j _ _ _ _ (by omega), up2_j _ _ _ _ (by omega), up2_j _ _ _ _ (by omega)]
theorem takB_fr {S : SS} {l g fa fb : Int} (hl : S 0 8 = 1 → (poseS S).length ≤ 32) (hg : l = 2 ∧ g = 0 ∨ l = 1 ∧ g ≠ 0) (ha : fa = S 0 15) (hb : S 0 8 = 1 → fb = S 0 19) : (S 0 8 = 0 → fa = takB S l 0 15) ∧ (S 0 8 = 1 → (if g = 0 then fb else fa) = takB S l 0 15) := by
  constructor
  · intro h
    unfold takB
    rw [if_neg (by omega), up2_j _ _ _ _ (by omega), up2_j _ _ _ _ (by omega), up2_j _ _ _ _ (by omega)]
    exact ha
  · intro h
    have v := (frzS_v (l := l) (hl h)).2.2.2.1 3 (by omega) (by omega)
    unfold takB
    rw [if_pos h, show (15 : Int) = 12 + 3 by omega, v]
    rcases hg with ⟨z1, z2⟩ | ⟨z1, z2⟩
    · rw [if_pos z2, if_pos z1]; exact hb h
    · rw [if_neg z2, if_neg (by omega)]; exact ha
