set_option linter.unusedVariables false
/-- the places below and above a value -/
theorem blw_max (S : SS) (i : Int) (hi : 0 ≤ i) : ∀ (m : Nat) (k : Int), 0 ≤ k → k < m → S 13 (5 * i + k) ≤ lnV S i → 0 ≤ blw S i m ∧ S 13 (5 * i + k) ≤ S 13 (blw S i m)
  | 0, k, h0, h1, _ => by omega
  | m + 1, k, h0, h1, hv => by
    rw [blw]
    by_cases e : k = m
    · subst e
      split
      · exact ⟨by omega, Int.le_refl _⟩
      · rename_i q
        have := blw_in S i m
        constructor
        · by_cases z : blw S i m < 0
          · exact absurd ⟨hv, Or.inl z⟩ q
          · omega
        · by_cases z : S 13 (5 * i + (m : Int)) > S 13 (blw S i m)
          · exact absurd ⟨hv, Or.inr z⟩ q
          · omega
    · obtain ⟨a, b⟩ := blw_max S i hi m k h0 (by omega) hv
      split
      · rename_i q
        refine ⟨by omega, ?_⟩
        rcases q.2 with q | q <;> omega
      · exact ⟨a, b⟩
theorem abv_min (S : SS) (i : Int) (hi : 0 ≤ i) : ∀ (m : Nat) (k : Int), 0 ≤ k → k < m → S 13 (5 * i + k) ≥ lnV S i → 0 ≤ abv S i m ∧ S 13 (abv S i m) ≤ S 13 (5 * i + k)
  | 0, k, h0, h1, _ => by omega
  | m + 1, k, h0, h1, hv => by
    rw [abv]
    by_cases e : k = m
    · subst e
      split
      · exact ⟨by omega, Int.le_refl _⟩
      · rename_i q
        have := abv_in S i m
        constructor
        · by_cases z : abv S i m < 0
          · exact absurd ⟨hv, Or.inl z⟩ q
          · omega
        · by_cases z : S 13 (5 * i + (m : Int)) < S 13 (abv S i m)
          · exact absurd ⟨hv, Or.inr z⟩ q
          · omega
    · obtain ⟨a, b⟩ := abv_min S i hi m k h0 (by omega) hv
      split
      · rename_i q
        refine ⟨by omega, ?_⟩
        rcases q.2 with q | q <;> omega
      · exact ⟨a, b⟩
/-- a line's children in order: positions, nodes -/
def LnO (S : SS) (i : Int) (ps ch : Int → Int) : Prop := (∀ k : Int, 0 ≤ k → k + 1 < S 11 i → ps k < ps (k + 1)) ∧ (∀ k : Int, 0 ≤ k → k < S 11 i → ∃ q : Int, 0 ≤ q ∧ q < S 11 i ∧ ps k = S 13 (5 * i + q) ∧ ch k = S 12 (5 * i + q)) ∧ (∀ q : Int, 0 ≤ q → q < S 11 i → ∃ k : Int, 0 ≤ k ∧ k < S 11 i ∧ ps k = S 13 (5 * i + q) ∧ ch k = S 12 (5 * i + q))
theorem LnO.lt {S : SS} {i : Int} {ps ch : Int → Int} (h : LnO S i ps ch) : ∀ (d : Nat) (k : Int), 0 ≤ k → k + d + 1 < S 11 i → ps k < ps (k + d + 1)
  | 0, k, h0, h1 => by have := h.1 k h0 (by omega); rw [show k + ((0 : Nat) : Int) + 1 = k + 1 by omega]; exact this
  | d + 1, k, h0, h1 => by
    have a := LnO.lt h d k h0 (by omega)
    have b := h.1 (k + d + 1) (by omega) (by omega)
    rw [show k + ((d + 1 : Nat) : Int) + 1 = k + d + 1 + 1 by omega]
    omega
theorem LnO.mono {S : SS} {i : Int} {ps ch : Int → Int} (h : LnO S i ps ch) {k k' : Int} (h0 : 0 ≤ k) (h1 : k < k') (h2 : k' < S 11 i) : ps k < ps k' := by
  have := h.lt (k' - k - 1).toNat k h0 (by omega)
  rw [show k + ((k' - k - 1).toNat : Int) + 1 = k' by omega] at this
  exact this
/-- the greatest position below, the least above -/
theorem LnO.lo {S : SS} (hW : WFs S) {i : Int} (hi : 0 ≤ i ∧ i < S 14 0) {ps ch : Int → Int} (h : LnO S i ps ch) {a : Int} (ha : 0 ≤ a ∧ a < S 11 i) (h1 : ps a ≤ lnV S i) (h2 : a + 1 < S 11 i → lnV S i < ps (a + 1)) : 0 ≤ bB S i ∧ S 13 (bB S i) = ps a ∧ S 12 (bB S i) = ch a := by
  obtain ⟨q, q0, q1, q2, q3⟩ := h.2.1 a ha.1 ha.2
  have w1 := hW.nod i hi.1 hi.2
  obtain ⟨m1, m2⟩ := blw_max S i hi.1 (S 11 i).toNat q q0 (by omega) (by omega)
  rw [← bB] at m1 m2
  have m3 := blw_in S i (S 11 i).toNat
  rw [← bB] at m3
  obtain ⟨k, k0, k1, k2, k3⟩ := h.2.2 (bB S i - 5 * i) (by omega) (by omega)
  rw [show 5 * i + (bB S i - 5 * i) = bB S i by omega] at k2 k3
  have hk : k = a := by
    by_cases e : k < a
    · have := h.mono k0 e ha.2; omega
    · by_cases e2 : a < k
      · have e3 : ps (a + 1) ≤ ps k := by
          by_cases e4 : a + 1 = k
          · rw [e4]; exact Int.le_refl _
          · have := h.mono (k := a + 1) (by omega) (show a + 1 < k by omega) k1; omega
        have := h2 (by omega)
        omega
      · omega
  subst hk
  exact ⟨m1, k2.symm, k3.symm⟩
theorem LnO.hi9 {S : SS} (hW : WFs S) {i : Int} (hi : 0 ≤ i ∧ i < S 14 0) {ps ch : Int → Int} (h : LnO S i ps ch) {a : Int} (ha : 0 ≤ a ∧ a < S 11 i) (h1 : lnV S i ≤ ps a) (h2 : 0 < a → ps (a - 1) < lnV S i) : 0 ≤ bA S i ∧ S 13 (bA S i) = ps a ∧ S 12 (bA S i) = ch a := by
  obtain ⟨q, q0, q1, q2, q3⟩ := h.2.1 a ha.1 ha.2
  have w1 := hW.nod i hi.1 hi.2
  obtain ⟨m1, m2⟩ := abv_min S i hi.1 (S 11 i).toNat q q0 (by omega) (by omega)
  rw [← bA] at m1 m2
  have m3 := abv_in S i (S 11 i).toNat
  rw [← bA] at m3
  obtain ⟨k, k0, k1, k2, k3⟩ := h.2.2 (bA S i - 5 * i) (by omega) (by omega)
  rw [show 5 * i + (bA S i - 5 * i) = bA S i by omega] at k2 k3
  have hk : k = a := by
    by_cases e : a < k
    · have := h.mono ha.1 e k1; omega
    · by_cases e2 : k < a
      · have e3 : ps k ≤ ps (a - 1) := by
          by_cases e4 : k = a - 1
          · rw [e4]; exact Int.le_refl _
          · have := h.mono k0 (show k < a - 1 by omega) (by omega); omega
        have := h2 (by omega)
        omega
      · omega
  subst hk
  exact ⟨m1, k2.symm, k3.symm⟩
theorem LnO.one {S : SS} (hW : WFs S) {i : Int} (hi : 0 ≤ i ∧ i < S 14 0) {ps ch : Int → Int} (h : LnO S i ps ch) {a : Int} (ha : 0 ≤ a ∧ a < S 11 i) (h1 : 0 < a → ps (a - 1) < lnV S i) (h2 : a = S 11 i - 1 ∨ lnV S i ≤ ps a) (h3 : a = 0 ∨ ps a ≤ lnV S i) :
    (bB S i < 0 ∨ bA S i < 0 ∨ bB S i = bA S i) ∧ S 12 (bZ S i) = ch a := by
  have w1 := hW.nod i hi.1 hi.2
  by_cases e : ps a = lnV S i
  · have b := h.lo hW hi ha (by omega) (fun z => by have := h.1 a ha.1 z; omega)
    have c := h.hi9 hW hi ha (by omega) h1
    have m3 := blw_in S i (S 11 i).toNat
    have m4 := abv_in S i (S 11 i).toNat
    rw [← bB] at m3
    rw [← bA] at m4
    have q := hW.dis i (bB S i - 5 * i) (bA S i - 5 * i) hi.1 hi.2 (by omega) (by omega) (by omega) (by omega) (by rw [show 5 * i + (bB S i - 5 * i) = bB S i by omega, show 5 * i + (bA S i - 5 * i) = bA S i by omega]; omega)
    refine ⟨by omega, ?_⟩
    unfold bZ
    rw [if_neg (by omega)]
    exact b.2.2
  · by_cases e2 : ps a < lnV S i
    · have ea : a = S 11 i - 1 := by omega
      have b := h.lo hW hi ha (by omega) (fun z => by omega)
      have hA : bA S i < 0 := by
        by_cases z : bA S i < 0
        · exact z
        · have m4 := abv_in S i (S 11 i).toNat
          rw [← bA] at m4
          obtain ⟨k, k0, k1, k2, -⟩ := h.2.2 (bA S i - 5 * i) (by omega) (by omega)
          rw [show 5 * i + (bA S i - 5 * i) = bA S i by omega] at k2
          by_cases z2 : k = a
          · subst z2; omega
          · have := h.mono k0 (show k < a by omega) ha.2; omega
      refine ⟨by omega, ?_⟩
      unfold bZ
      rw [if_neg (by omega)]
      exact b.2.2
    · have ea : a = 0 := by omega
      have c := h.hi9 hW hi ha (by omega) h1
      have hB : bB S i < 0 := by
        by_cases z : bB S i < 0
        · exact z
        · have m3 := blw_in S i (S 11 i).toNat
          rw [← bB] at m3
          obtain ⟨k, k0, k1, k2, -⟩ := h.2.2 (bB S i - 5 * i) (by omega) (by omega)
          rw [show 5 * i + (bB S i - 5 * i) = bB S i by omega] at k2
          by_cases z2 : k = a
          · subst z2; omega
          · have := h.mono ha.1 (show a < k by omega) k1; omega
      refine ⟨by omega, ?_⟩
      unfold bZ
      rw [if_pos hB]
      exact c.2.2
theorem LnO.two {S : SS} (hW : WFs S) {i : Int} (hi : 0 ≤ i ∧ i < S 14 0) {ps ch : Int → Int} (h : LnO S i ps ch) {a : Int} (ha : 0 < a ∧ a < S 11 i) (h1 : ps (a - 1) < lnV S i) (h2 : lnV S i < ps a) :
    ¬ (bB S i < 0 ∨ bA S i < 0 ∨ bB S i = bA S i) ∧ S 13 (bB S i) = ps (a - 1) ∧ S 12 (bB S i) = ch (a - 1) ∧ S 13 (bA S i) = ps a ∧ S 12 (bA S i) = ch a := by
  have b := h.lo hW hi (a := a - 1) (by omega) (by omega) (fun _ => by rw [show a - 1 + 1 = a by omega]; exact h2)
  have c := h.hi9 hW hi (a := a) (by omega) (by omega) (fun _ => h1)
  refine ⟨?_, b.2.1, b.2.2, c.2.1, c.2.2⟩
  rintro (z | z | z)
  · omega
  · omega
  · have e1 := b.2.1; have e2 := c.2.1; rw [z] at e1; omega
theorem W_clip {S : SS} {i w : Int} (c : Int) (h : 0 ≤ w) (h9 : S 9 i ≠ -1) : wt S 4 i w c = if c = S 9 i then w else 0 := by
  by_cases e : w = 0
  · subst e; rw [wt_z _ _ _ (Int.le_refl _)]; split <;> rfl
  · exact wt_clip 3 c (by omega) h9
theorem W_1 {S : SS} (hW : WFs S) {D : Int → Int} (hD : DOk S D) {i w : Int} (c : Int) (hi : NdOk S i) (h : 0 ≤ w) (h9 : S 9 i = -1) (h1 : bB S i < 0 ∨ bA S i < 0 ∨ bB S i = bA S i) : wt S 4 i w c = wt S 4 (S 12 (bZ S i)) w c := by
  by_cases e : w = 0
  · subst e; rw [wt_z _ _ _ (Int.le_refl _), wt_z _ _ _ (Int.le_refl _)]
  · have h11 : 0 < S 11 i := by rcases hi.2.2 with h | h <;> omega
    obtain ⟨g1, g2, -⟩ := chi_at hW hD hi (one_in hi.1 h11)
    have d1 := hD i hi.1 hi.2.1
    rw [wt_line1 3 c (by omega) h9 h1, wt_st hW hD 3 _ _ _ g1 (by omega)]
theorem W_2 {S : SS} (hW : WFs S) {D : Int → Int} (hD : DOk S D) {i w : Int} (c : Int) (hi : NdOk S i) (h : 0 ≤ w) (h9 : S 9 i = -1) (h1 : ¬ (bB S i < 0 ∨ bA S i < 0 ∨ bB S i = bA S i)) : wt S 4 i w c = wt S 4 (S 12 (bA S i)) (bR S i w) c + wt S 4 (S 12 (bB S i)) (w - bR S i w) c := by
  have h11 : 0 < S 11 i := by rcases hi.2.2 with h | h <;> omega
  have hr := bR_in hW ⟨hi.1, hi.2.1⟩ h11 h1 h
  by_cases e : w = 0
  · subst e; rw [wt_z _ _ _ (Int.le_refl _), wt_z _ _ _ (by omega), wt_z _ _ _ (by omega)]; rfl
  · obtain ⟨z1, z2, -⟩ := two_in hW ⟨hi.1, hi.2.1⟩ h11 h1
    obtain ⟨g1, g2, -⟩ := chi_at hW hD hi z1
    obtain ⟨g3, g4, -⟩ := chi_at hW hD hi z2
    have d1 := hD i hi.1 hi.2.1
    rw [wt_line2 3 c (by omega) h9 h1, wt_st hW hD 3 _ _ _ g1 (by omega), wt_st hW hD 3 _ _ _ g3 (by omega)]
