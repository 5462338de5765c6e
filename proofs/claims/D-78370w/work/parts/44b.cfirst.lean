set_option linter.unusedVariables false
theorem fsF_e {S : SS} {l ps : Int} : ∀ (f : Nat) (t : Int), 0 ≤ t → fsF S l ps (f + 1) t = if fsF S l ps f t ≠ -1 then fsF S l ps f t else if (S 20 (17 * (t + f)) = -1 ∧ ps = 0 ∨ S 20 (17 * (t + f)) ≠ -1 ∧ ps ≠ 0) ∧ lstS S (t + f) = l ∧ agS S (t + f) l = 0 then t + f else -1
  | 0, t, h => by
    have e0 : ∀ u, fsF S l ps 0 u = -1 := fun u => by rw [fsF]
    rw [e0, if_neg (by decide), show t + ((0 : Nat) : Int) = t by omega, fsF, e0]
  | f + 1, t, h => by
    rw [fsF, fsF_e f (t + 1) (by omega), show t + 1 + (f : Int) = t + ((f + 1 : Nat) : Int) by omega]
    by_cases e : (S 20 (17 * t) = -1 ∧ ps = 0 ∨ S 20 (17 * t) ≠ -1 ∧ ps ≠ 0) ∧ lstS S t = l ∧ agS S t l = 0
    · rw [if_pos e]
      have : fsF S l ps (f + 1) t = t := by rw [fsF, if_pos e]
      rw [this, if_pos (by omega)]
    · rw [if_neg e]
      have : fsF S l ps (f + 1) t = fsF S l ps f (t + 1) := by rw [fsF, if_neg e]
      rw [this]
/-- a candidate that may be taken -/
def frB (S : SS) (e : Int × Int) : Bool := decide (agS S e.1 (if e.2 = 0 then 2 else 1) = 0)
def ocI (z b : Int) : Option (Int × Int) := if z = -1 then none else some (z, b)
theorem cnP_find {S : SS} {st b ps l : Int} {L : List (Int × Int)} (hl : l = if b = 0 then 2 else 1) : ∀ m : Nat, (∀ t : Int, 0 ≤ t → t < m → ((cnI S st b ps t = 1 ∧ ∀ e ∈ L, e.1 ≠ t) ↔ (S 20 (17 * t) = -1 ∧ 1 - ps = 0 ∨ S 20 (17 * t) ≠ -1 ∧ 1 - ps ≠ 0) ∧ lstS S t = l)) →
    (cnP S st b ps L m).find? (frB S) = (L.find? (frB S)).or (ocI (fsF S l (1 - ps) m 0) b)
  | 0, _ => by
    rw [cnP, fsF]
    unfold ocI
    rw [if_pos rfl, Option.or_none]
  | m + 1, h => by
    have ih := cnP_find (S := S) (st := st) (b := b) (ps := ps) (L := L) hl m (fun t t0 t1 => h t t0 (by omega))
    have hm := h m (by omega) (by omega)
    have hz := fsF_in (S := S) (l := l) (ps := 1 - ps) m 0 (by omega)
    have hin : (∀ e ∈ cnP S st b ps L m, e.1 ≠ (m : Int)) ↔ ∀ e ∈ L, e.1 ≠ (m : Int) := by
      constructor
      · intro q e he
        exact q e ((cnP_mem m e.1 e.2).mpr (Or.inl he))
      · intro q e he
        rcases (cnP_mem m e.1 e.2).mp he with z | z
        · exact q e z
        · omega
    have E := fsF_e (S := S) (l := l) (ps := 1 - ps) m 0 (by omega)
    rw [Int.zero_add] at E
    rw [cnP]
    by_cases c : cnI S st b ps m = 1 ∧ ∀ e ∈ cnP S st b ps L m, e.1 ≠ (m : Int)
    · rw [if_pos c, List.find?_append, ih]
      obtain ⟨c1, c2⟩ := hm.mp ⟨c.1, hin.mp c.2⟩
      have e1 : ([((m : Int), b)] : List (Int × Int)).find? (frB S) = if agS S m l = 0 then some ((m : Int), b) else none := by
        rw [List.find?_cons]
        unfold frB
        rw [← hl]
        by_cases q : agS S m l = 0
        · simp [q]
        · simp [q]
      rw [e1]
      cases hL : L.find? (frB S) with
      | some v => rfl
      | none =>
        rw [Option.none_or, Option.none_or]
        by_cases z : fsF S l (1 - ps) m 0 = -1
        · rw [if_neg (show ¬ (fsF S l (1 - ps) m 0 ≠ -1) by omega)] at E
          by_cases q : agS S m l = 0
          · rw [if_pos ⟨c1, c2, q⟩] at E
            rw [if_pos q, E, z]
            unfold ocI
            rw [if_pos rfl, Option.none_or, if_neg (by omega)]
          · rw [if_neg (fun y => q y.2.2)] at E
            rw [if_neg q, E, z, Option.or_none]
        · rw [if_pos z] at E
          rw [E]
          unfold ocI
          rw [if_neg z]
          rfl
    · rw [if_neg c, ih]
      have nc : ¬ ((S 20 (17 * (m : Int)) = -1 ∧ 1 - ps = 0 ∨ S 20 (17 * (m : Int)) ≠ -1 ∧ 1 - ps ≠ 0) ∧ lstS S m = l) := fun z => by
        have y := hm.mpr z
        exact c ⟨y.1, hin.mpr y.2⟩
      by_cases z : fsF S l (1 - ps) m 0 = -1
      · rw [if_neg (show ¬ (fsF S l (1 - ps) m 0 ≠ -1) by omega), if_neg (fun y => nc ⟨y.1, y.2.1⟩)] at E
        rw [E, z]
      · rw [if_pos z] at E
        rw [E]
theorem cnL_find {S : SS} {st b l : Int} {L : List (Int × Int)} (h0 : 0 ≤ S 21 0) (hl : l = if b = 0 then 2 else 1) (h1 : ∀ t : Int, 0 ≤ t → t < S 21 0 → ((cnI S st b 1 t = 1 ∧ ∀ e ∈ L, e.1 ≠ t) ↔ S 20 (17 * t) = -1 ∧ lstS S t = l)) (h2 : ∀ t : Int, 0 ≤ t → t < S 21 0 → ((cnI S st b 0 t = 1 ∧ ∀ e ∈ L, e.1 ≠ t) ↔ S 20 (17 * t) ≠ -1 ∧ lstS S t = l)) :
    (cnL S st b L).find? (frB S) = (L.find? (frB S)).or (ocI (fstS S l) b) := by
  have hm : (((S 21 0).toNat : Nat) : Int) = S 21 0 := by omega
  have a1 := cnP_find (S := S) (st := st) (b := b) (ps := 1) (L := L) hl (S 21 0).toNat (fun t t0 t1 => by rw [h1 t t0 (by omega)]; omega)
  have a2 := cnP_find (S := S) (st := st) (b := b) (ps := 0) (L := cnP S st b 1 L (S 21 0).toNat) hl (S 21 0).toNat (fun t t0 t1 => by
    have q1 := h1 t t0 (by omega)
    have q2 := h2 t t0 (by omega)
    constructor
    · rintro ⟨c1, c2⟩
      have := q2.mp ⟨c1, fun e he => c2 e ((cnP_mem (S 21 0).toNat e.1 e.2).mpr (Or.inl he))⟩
      exact ⟨Or.inr ⟨this.1, by omega⟩, this.2⟩
    · rintro ⟨c1, c2⟩
      have c3 : S 20 (17 * t) ≠ -1 := by omega
      have := q2.mpr ⟨c3, c2⟩
      refine ⟨this.1, fun e he => ?_⟩
      rcases (cnP_mem (S 21 0).toNat e.1 e.2).mp he with z | ⟨z1, z2, z3, z4, z5⟩
      · exact this.2 e z
      · intro w
        rw [w] at z4 z5
        exact c3 (q1.mp ⟨z4, z5⟩).1)
  unfold cnL
  rw [a2, a1]
  unfold fstS
  rw [show (1 : Int) - 1 = 0 by omega, show (1 : Int) - 0 = 1 by omega]
  cases L.find? (frB S) with
  | some v => rfl
  | none =>
    rw [Option.none_or, Option.none_or]
    by_cases z : fsF S l 0 (S 21 0).toNat 0 = -1
    · rw [if_neg (show ¬ (fsF S l 0 (S 21 0).toNat 0 ≠ -1) by omega), z]
      rfl
    · rw [if_pos z]
      unfold ocI
      rw [if_neg z]
      rfl
/-- of a list on which none stands, none is taken -/
theorem fsF_no {S : SS} {l ps : Int} (h : ∀ t : Int, 0 ≤ t → t < S 21 0 → lstS S t ≠ l) : ∀ (f : Nat) (t : Int), 0 ≤ t → t + f ≤ S 21 0 → fsF S l ps f t = -1
  | 0, _, _, _ => by rw [fsF]
  | f + 1, t, t0, t1 => by
    rw [fsF, if_neg (fun z => h t t0 (by omega) z.2.1)]
    exact fsF_no h f (t + 1) (by omega) (by omega)
theorem fstS_no {S : SS} {l : Int} (h0 : 0 ≤ S 21 0) (h : ∀ t : Int, 0 ≤ t → t < S 21 0 → lstS S t ≠ l) : fstS S l = -1 := by
  unfold fstS
  rw [fsF_no h _ 0 (by omega) (by omega), fsF_no h _ 0 (by omega) (by omega)]
  rfl
/-- the lists that there are -/
theorem lst_in {S : SS} {t : Int} (h8 : S 0 8 = 1) : lstS S t = if modS S = 4 then (if tgtI S t = 1 then 2 else if srcI S t = 1 then 1 else 0) else if modS S ≠ 2 ∧ 0 < modS S ∧ srcI S t = 1 then 1 else if 1 < modS S ∧ tgtI S t = 1 then 2 else 0 := by
  unfold lstS
  rw [if_neg (by omega)]
