set_option linter.unusedVariables false
/-- the machine as the lists need it -/
def LcR (S : SS) : Prop := 0 ≤ S 21 0 ∧ 0 ≤ S 0 12 ∧ (S 0 8 = 0 ∨ S 0 8 = 1 ∧ 0 ≤ S 0 16 ∧ 0 ≤ modS S ∧ modS S ≤ 4)
theorem lc1_mem {S : SS} (h : LcR S) (h8 : S 0 8 = 1) {x l : Int} (hx : 0 ≤ x ∧ x < S 21 0) : (x, l) ∈ lc1 S (modS S) ↔ l = 1 ∧ (modS S = 1 ∨ modS S = 3) ∧ srcI S x = 1 := by
  obtain ⟨h0, ha, hb⟩ := h
  unfold lc1
  split
  · rename_i c
    rw [cnL_mem h0, cn_src h8 ha (Or.inl rfl), cn_src h8 ha (Or.inr rfl)]
    constructor
    · rintro (q | ⟨q1, q2, q3, q4, q5⟩)
      · cases q
      · exact ⟨q1, c, by omega⟩
    · rintro ⟨q1, q2, q3⟩
      exact Or.inr ⟨q1, hx.1, hx.2, by omega, fun e he => by cases he⟩
  · rename_i c
    constructor
    · intro q; cases q
    · rintro ⟨q1, q2, q3⟩; exact absurd q2 c
theorem lc1_not {S : SS} (h : LcR S) (h8 : S 0 8 = 1) {x : Int} (hx : 0 ≤ x ∧ x < S 21 0) : (∀ e ∈ lc1 S (modS S), e.1 ≠ x) ↔ ¬ ((modS S = 1 ∨ modS S = 3) ∧ srcI S x = 1) := by
  constructor
  · intro q z
    exact q (x, 1) ((lc1_mem h h8 hx).mpr ⟨rfl, z.1, z.2⟩) rfl
  · intro q e he z
    obtain ⟨a, b⟩ := e
    simp only at z
    subst z
    have := (lc1_mem h h8 hx).mp he
    exact q ⟨this.2.1, this.2.2⟩
theorem lc2_mem {S : SS} (h : LcR S) (h8 : S 0 8 = 1) {x l : Int} (hx : 0 ≤ x ∧ x < S 21 0) : (x, l) ∈ lc2 S (modS S) ↔ l = 1 ∧ (modS S = 1 ∨ modS S = 3) ∧ srcI S x = 1 ∨ l = 0 ∧ (modS S ≠ 0 ∧ modS S ≠ 1) ∧ tgtI S x = 1 ∧ ¬ (modS S = 3 ∧ srcI S x = 1) := by
  have hn := lc1_not h h8 hx
  have h1 := lc1_mem (l := l) h h8 hx
  obtain ⟨h0, ha, hb⟩ := h
  unfold lc2
  split
  · rename_i c
    rw [cnL_mem h0, h1, hn, cn_tgt h8 (by omega) (Or.inl rfl), cn_tgt h8 (by omega) (Or.inr rfl)]
    omega
  · rename_i c
    rw [h1]
    omega
theorem lc2_not {S : SS} (h : LcR S) (h8 : S 0 8 = 1) {x : Int} (hx : 0 ≤ x ∧ x < S 21 0) : (∀ e ∈ lc2 S (modS S), e.1 ≠ x) ↔ ¬ ((modS S = 1 ∨ modS S = 3) ∧ srcI S x = 1) ∧ ¬ ((modS S ≠ 0 ∧ modS S ≠ 1) ∧ tgtI S x = 1) := by
  constructor
  · intro q
    by_cases e : (modS S = 1 ∨ modS S = 3) ∧ srcI S x = 1
    · exact absurd rfl (q (x, 1) ((lc2_mem h h8 hx).mpr (Or.inl ⟨rfl, e.1, e.2⟩)))
    · refine ⟨e, fun z => q (x, 0) ((lc2_mem h h8 hx).mpr (Or.inr ⟨rfl, z.1, z.2, by omega⟩)) rfl⟩
  · intro q e he z
    obtain ⟨a, b⟩ := e
    simp only at z
    subst z
    rcases (lc2_mem h h8 hx).mp he with y | y
    · exact q.1 ⟨y.2.1, y.2.2⟩
    · exact q.2 ⟨y.2.1, y.2.2.1⟩
/-- a candidate stands in the list on which the reference has it -/
theorem lcL_mem {S : SS} (h : LcR S) {x l : Int} (hx : 0 ≤ x ∧ x < S 21 0) : (x, l) ∈ lcL S ↔ l = 1 ∧ lstS S x = 1 ∨ l = 0 ∧ lstS S x = 2 := by
  have h9 := h
  obtain ⟨h0, ha, hb⟩ := h
  unfold lcL
  split
  · rename_i h8
    have l2 : lstS S x ≤ 1 := by unfold lstS; rw [if_pos h8]; split <;> omega
    rw [cnL_mem h0, cn_idl h8 ha hx.1 (Or.inl rfl), cn_idl h8 ha hx.1 (Or.inr rfl)]
    constructor
    · rintro (q | ⟨q1, q2, q3, q4, q5⟩)
      · cases q
      · omega
    · intro q
      exact Or.inr ⟨by omega, hx.1, hx.2, by omega, fun e he => by cases he⟩
  · rename_i h80
    have h8 : S 0 8 = 1 := by omega
    have m2 := lc2_mem (l := l) h9 h8 hx
    have n2 := lc2_not h9 h8 hx
    have s01 := srcI_01 S x
    have t01 := tgtI_01 S x
    rw [lst_in h8]
    unfold lc3
    by_cases c : modS S = 4
    · rw [if_pos c, if_pos c, cnL_mem h0, m2, n2, cn_src h8 ha (Or.inl rfl), cn_src h8 ha (Or.inr rfl)]
      by_cases t : tgtI S x = 1
      · rw [if_pos t]; omega
      · rw [if_neg t]
        by_cases s : srcI S x = 1
        · rw [if_pos s]; omega
        · rw [if_neg s]; omega
    · rw [if_neg c, if_neg c, m2]
      by_cases s : modS S ≠ 2 ∧ 0 < modS S ∧ srcI S x = 1
      · rw [if_pos s]; omega
      · rw [if_neg s]
        by_cases t : 1 < modS S ∧ tgtI S x = 1
        · rw [if_pos t]; omega
        · rw [if_neg t]; omega
theorem ocI_n (b : Int) : ocI (-1) b = none := by unfold ocI; rw [if_pos rfl]
theorem ocI_no {z b c y : Int} (h : (ocI z b).or (ocI y c) = (ocI z b).or (ocI y c)) : True := trivial
/-- the first candidate that may be taken is the reference's -/
theorem lcL_find {S : SS} (h : LcR S) : (lcL S).find? (frB S) = if takt S = -1 then none else some (takt S, if takl S = 2 then 0 else 1) := by
  have h9 := h
  obtain ⟨h0, ha, hb⟩ := h
  have key : ∀ (l l' b b' : Int), takL S = l → 3 - l = l' → (l = 2 ∧ b = 0 ∧ l' = 1 ∧ b' = 1 ∨ l = 1 ∧ b = 1 ∧ l' = 2 ∧ b' = 0) → (ocI (fstS S l) b).or (ocI (fstS S l') b') = if takt S = -1 then none else some (takt S, if takl S = 2 then 0 else 1) := by
    intro l l' b b' e1 e2 e3
    unfold takt takl
    rw [e1, e2]
    unfold ocI
    by_cases z : fstS S l = -1
    · rw [if_pos z, if_pos z, if_pos z, Option.none_or]
      by_cases y : fstS S l' = -1
      · rw [if_pos y, if_pos y]
      · rw [if_neg y, if_neg y]
        rcases e3 with ⟨-, -, e5, e6⟩ | ⟨-, -, e5, e6⟩
        · rw [e5, e6]; rfl
        · rw [e5, e6]; rfl
    · rw [if_neg z, if_neg z, if_neg z, if_neg z, Option.some_or]
      rcases e3 with ⟨e5, e6, -, -⟩ | ⟨e5, e6, -, -⟩
      · rw [e5, e6]; rfl
      · rw [e5, e6]; rfl
  by_cases h8 : S 0 8 = 0
  · have no2 : fstS S 2 = -1 := fstS_no h0 (fun t t0 t1 z => by unfold lstS at z; rw [if_pos h8] at z; split at z <;> omega)
    unfold lcL
    rw [if_pos h8, cnL_find (l := 1) h0 rfl (fun t t0 t1 => by rw [cn_idl h8 ha t0 (Or.inl rfl)]; constructor; (rintro ⟨q, -⟩; omega); (intro q; exact ⟨by omega, fun e he => by cases he⟩)) (fun t t0 t1 => by rw [cn_idl h8 ha t0 (Or.inr rfl)]; constructor; (rintro ⟨q, -⟩; omega); (intro q; exact ⟨by omega, fun e he => by cases he⟩))]
    rw [← key 1 2 1 0 (by unfold takL; rw [if_neg (by omega)]) rfl (Or.inr ⟨rfl, rfl, rfl, rfl⟩), no2, ocI_n, Option.or_none]
    rfl
  · have h81 : S 0 8 = 1 := by omega
    have hmd := hb.resolve_left h8
    have f1 : modS S = 1 ∨ modS S = 3 → (lc1 S (modS S)).find? (frB S) = ocI (fstS S 1) 1 := fun c => by
      unfold lc1
      rw [if_pos c, cnL_find (l := 1) h0 rfl (fun t t0 t1 => by
        have s01 := srcI_01 S t
        rw [cn_src h81 ha (Or.inl rfl), lst_in h81, if_neg (by omega)]
        by_cases s : modS S ≠ 2 ∧ 0 < modS S ∧ srcI S t = 1
        · rw [if_pos s]; exact ⟨fun q => by omega, fun q => ⟨by omega, fun e he => by cases he⟩⟩
        · rw [if_neg s]; exact ⟨fun q => by omega, fun q => by obtain ⟨-, q⟩ := q; split at q <;> omega⟩) (fun t t0 t1 => by
        have s01 := srcI_01 S t
        rw [cn_src h81 ha (Or.inr rfl), lst_in h81, if_neg (by omega)]
        by_cases s : modS S ≠ 2 ∧ 0 < modS S ∧ srcI S t = 1
        · rw [if_pos s]; exact ⟨fun q => by omega, fun q => ⟨by omega, fun e he => by cases he⟩⟩
        · rw [if_neg s]; exact ⟨fun q => by omega, fun q => by obtain ⟨-, q⟩ := q; split at q <;> omega⟩)]
      rfl
    have f1n : ¬ (modS S = 1 ∨ modS S = 3) → (lc1 S (modS S)).find? (frB S) = none := fun c => by
      unfold lc1
      rw [if_neg c]
      rfl
    have f2 : modS S ≠ 0 ∧ modS S ≠ 1 → (lc2 S (modS S)).find? (frB S) = ((lc1 S (modS S)).find? (frB S)).or (ocI (fstS S 2) 0) := fun c => by
      unfold lc2
      rw [if_pos c, cnL_find (l := 2) h0 rfl (fun t t0 t1 => by
        have s01 := srcI_01 S t
        have t01 := tgtI_01 S t
        have n1 := lc1_not h9 h81 ⟨t0, t1⟩
        rw [cn_tgt h81 hmd.2.1 (Or.inl rfl), n1, lst_in h81]
        (repeat' split) <;> omega) (fun t t0 t1 => by
        have s01 := srcI_01 S t
        have t01 := tgtI_01 S t
        have n1 := lc1_not h9 h81 ⟨t0, t1⟩
        rw [cn_tgt h81 hmd.2.1 (Or.inr rfl), n1, lst_in h81]
        (repeat' split) <;> omega)]
    have f3 : modS S = 4 → (lc3 S (modS S)).find? (frB S) = ((lc2 S (modS S)).find? (frB S)).or (ocI (fstS S 1) 1) := fun c => by
      unfold lc3
      rw [if_pos c, cnL_find (l := 1) h0 rfl (fun t t0 t1 => by
        have s01 := srcI_01 S t
        have t01 := tgtI_01 S t
        have n1 := lc2_not h9 h81 ⟨t0, t1⟩
        rw [cn_src h81 ha (Or.inl rfl), n1, lst_in h81]
        (repeat' split) <;> omega) (fun t t0 t1 => by
        have s01 := srcI_01 S t
        have t01 := tgtI_01 S t
        have n1 := lc2_not h9 h81 ⟨t0, t1⟩
        rw [cn_src h81 ha (Or.inr rfl), n1, lst_in h81]
        (repeat' split) <;> omega)]
    have f3n : modS S ≠ 4 → (lc3 S (modS S)).find? (frB S) = (lc2 S (modS S)).find? (frB S) := fun c => by
      unfold lc3
      rw [if_neg c]
    have f2n : ¬ (modS S ≠ 0 ∧ modS S ≠ 1) → (lc2 S (modS S)).find? (frB S) = (lc1 S (modS S)).find? (frB S) := fun c => by
      unfold lc2
      rw [if_neg c]
    have no1 : modS S = 0 ∨ modS S = 2 → fstS S 1 = -1 := fun c => fstS_no h0 (fun t t0 t1 z => by rw [lst_in h81, if_neg (by omega), if_neg (by omega)] at z; split at z <;> omega)
    have no2 : modS S = 0 ∨ modS S = 1 → fstS S 2 = -1 := fun c => fstS_no h0 (fun t t0 t1 z => by rw [lst_in h81, if_neg (by omega)] at z; split at z; omega; (rw [if_neg (by omega)] at z; omega))
    unfold lcL
    rw [if_neg h8]
    by_cases c4 : modS S = 4
    · have hL : takL S = 2 := by
        unfold takL
        unfold modS at c4
        split at c4
        · omega
        · rw [if_pos ⟨h81, c4⟩]
      rw [← key 2 1 0 1 hL rfl (Or.inl ⟨rfl, rfl, rfl, rfl⟩), f3 c4, f2 (by omega), f1n (by omega), Option.none_or]
    · rw [f3n c4]
      have gen : (ocI (fstS S 1) 1).or (ocI (fstS S 2) 0) = if takt S = -1 then none else some (takt S, if takl S = 2 then 0 else 1) := by
        by_cases hL : takL S = 1
        · exact key 1 2 1 0 hL rfl (Or.inr ⟨rfl, rfl, rfl, rfl⟩)
        · have hL2 : takL S = 2 := by have := takL_12 S; omega
          have hm0 : modS S = 0 := by
            unfold takL at hL
            unfold modS at c4 ⊢
            by_cases q : S 0 11 ≥ 2
            · rw [if_pos q]
            · rw [if_neg q] at c4
              rw [if_neg (fun y => c4 y.2)] at hL
              exact absurd rfl hL
          rw [← key 2 1 0 1 hL2 rfl (Or.inl ⟨rfl, rfl, rfl, rfl⟩), no1 (Or.inl hm0), no2 (Or.inl hm0), ocI_n, ocI_n]
      rw [← gen]
      by_cases c0 : modS S = 0
      · rw [f2n (by omega), f1n (by omega), no1 (Or.inl c0), no2 (Or.inl c0), ocI_n, ocI_n]
        rfl
      · by_cases c1 : modS S = 1
        · rw [f2n (by omega), f1 (Or.inl c1), no2 (Or.inr c1), ocI_n, Option.or_none]
        · by_cases c2 : modS S = 2
          · rw [f2 (by omega), f1n (by omega), no1 (Or.inr c2), ocI_n]
          · rw [f2 (by omega), f1 (by omega)]
