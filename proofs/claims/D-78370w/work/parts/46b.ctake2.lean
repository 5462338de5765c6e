set_option linter.unusedVariables false
/-- a machine at a target -/
theorem MVa.go {S S' : SS} {n n1 : KN} {K K' : KS} {mi tc fc it : Int} (h : MVa S n K mi tc fc) (h12 : n1 12 = n 12) (h13 : n1 13 = n 13 + 1) (hit : it = n 13) (hk : KF K K' (fun k i f => k = 12 ∧ i = mi ∧ 1 ≤ f ∧ f ≤ 3 ∨ k = 13 ∧ i = it)) (e1 : K' 12 mi 1 = it) (e2 : K' 12 mi 2 = S' 0 9) (e3 : K' 12 mi 3 = S' 0 10)
    (g0 : K' 13 it 0 = S' 0 16) (g1 : K' 13 it 1 = S' 0 17) (g2 : K' 13 it 2 = S' 0 18) (g3 : K' 13 it 3 = 1) (h8 : S' 0 8 = 1) (hs : ∀ j : Int, (11 ≤ j ∧ j ≤ 15 ∨ 19 < j) → S' 0 j = S 0 j) : MV S' n1 K' mi tc it fc 1 := by
  obtain ⟨a1, ⟨b1, b2, b3, b4, b5, b6, b7⟩, ⟨c1, c2⟩, d, l1, l2, l3⟩ := h
  have e12 : ∀ f, (f < 1 ∨ 3 < f) → K' 12 mi f = K 12 mi f := fun f hf => hk 12 mi f (by omega)
  have e13 : ∀ f, K' 13 tc f = K 13 tc f := fun f => hk 13 tc f (by omega)
  have eo : ∀ k : Nat, (k = 2 ∨ 31 ≤ k ∧ k ≤ 33) → ∀ f, K' k (mi + 1) f = K k (mi + 1) f := fun k hq f => hk k _ f (by omega)
  unfold MV
  rw [e12 0 (by omega), e12 4 (by omega), e12 5 (by omega), e12 8 (by omega), e12 9 (by omega), e13, e13, e13, e13, e1, e2, e3, g0, g1, g2, g3, frS_eq (fun j hj => hs j (by omega)), hs 11 (by omega), hs 12 (by omega), hs 13 (by omega), hs 14 (by omega), hs 20 (by omega), hs 166 (by omega), hs 288 (by omega)]
  refine ⟨by omega, ⟨b1, b2, by omega, b4, b5, b6, b7⟩, ⟨rfl, by omega⟩, Or.inr ⟨h8, ⟨by omega, by omega, rfl, rfl, rfl, rfl⟩, rfl, rfl, c1, c2⟩, fun z => ?_, l1, fun j j0 j1 => ?_, l3⟩
  · exact (d z).congr (eo 2 (by omega) 3) (fun j _ _ => ⟨eo 31 (by omega) j, eo 32 (by omega) j, eo 33 (by omega) j⟩)
  · rw [hk 35 mi j (by omega), hs _ (by omega)]; exact l2 j j0 j1
theorem MV.i90 {S S' : SS} {n : KN} {K : KS} {mi ta tb fa fb : Int} (h : MV S n K mi ta tb fa fb) (h8 : S 0 8 = 0) (h20 : S 0 20 = 0) (hs : ∀ j : Int, (j = 8 ∨ 11 ≤ j) → S' 0 j = S 0 j) : MV S' n K mi ta tb fa fb := by
  obtain ⟨a1, a2, a3, a4, a5, a6⟩ := h
  have b := a4.resolve_right (by omega)
  unfold MV
  rw [hs 8 (by omega), hs 11 (by omega), hs 12 (by omega), hs 13 (by omega), hs 14 (by omega), hs 20 (by omega), hs 166 (by omega), hs 288 (by omega)]
  exact ⟨a1, a2, a3, Or.inl b, fun z => by omega, a6.1, fun j j0 j1 => (a6.2.1 j j0 j1).trans (hs _ (by omega)).symm, a6.2.2⟩
/-- a machine as m says, its tracks old or new -/
def MG (S : SS) (n : KN) (K : KS) (mi ta tb m : Int) : Prop := ∃ ta' tb' fa' fb' : Int, MV S n K mi ta' tb' fa' fb' ∧ fa' = S 0 15 ∧ (S 0 8 = 1 → fb' = S 0 19) ∧ TkS ta tb m ta' ∧ TkS ta tb m tb'
/-- goS's numbers -/
def go6 (S : SS) (t : Int) : SS := up2 (up2 (up2 (goB (trkS S 16 (S 20 (17 * t + 1)) (S 20 (17 * t + 4) * 10000)) (S 20 (17 * t + 1))) 0 8 1) 0 9 t) 0 10 0
theorem go6_v {S : SS} {t to sy ph : Int} (hto : to = S 20 (17 * t + 1)) (hsy : sy = 1 ∧ (S 0 20 = 0 ∧ S 18 (S 0 12) ≠ 0 ∧ S 18 (S 0 12) = S 18 to) ∨ sy = 0 ∧ ¬ (S 0 20 = 0 ∧ S 18 (S 0 12) ≠ 0 ∧ S 18 (S 0 12) = S 18 to)) (h14 : S 0 14 ≤ 1000000) (hph : ph = if sy ≠ 0 then (if S 17 to ≠ 0 then min (S 0 14) 999999 else S 0 14) else S 20 (17 * t + 4) * 10000) :
    go6 S t 0 8 = 1 ∧ go6 S t 0 9 = t ∧ go6 S t 0 10 = 0 ∧ go6 S t 0 16 = to ∧ go6 S t 0 17 = 0 ∧ go6 S t 0 18 = ph ∧ go6 S t 0 19 = 1 ∧ ∀ j : Int, (j < 8 ∨ 10 < j ∧ j < 16 ∨ 19 < j) → go6 S t 0 j = S 0 j := by
  unfold go6
  rw [← hto]
  obtain ⟨q, hq⟩ : ∃ z, z = S 20 (17 * t + 4) * 10000 := ⟨_, rfl⟩
  rw [← hq] at hph ⊢
  obtain ⟨i1, i2, i3, i4⟩ := trkS_i S 16 to q
  have o : ∀ j : Int, (j < 16 ∨ 19 < j) → trkS S 16 to q 0 j = S 0 j := fun j hj => trkS_o (by omega)
  have f17 : trkS S 16 to q 17 = S 17 := trkS_f (by decide)
  have f18 : trkS S 16 to q 18 = S 18 := trkS_f (by decide)
  have bo : ∀ j : Int, j ≠ 18 → goB (trkS S 16 to q) to 0 j = trkS S 16 to q 0 j := fun j hj => goB_o hj
  refine ⟨by rw [up2_j _ _ _ _ (by omega), up2_j _ _ _ _ (by omega), up2_s], by rw [up2_j _ _ _ _ (by omega), up2_s], up2_s _ _ _ _, by rw [go3_o (by omega), bo _ (by omega)]; exact i1, by rw [go3_o (by omega), bo _ (by omega)]; exact i2, ?_, by rw [go3_o (by omega), bo _ (by omega)]; exact i4, fun j hj => by rw [go3_o (by omega), bo _ (by omega), o _ (by omega)]⟩
  rw [go3_o (by omega)]
  unfold goB
  rw [o 20 (by omega), o 12 (by omega), o 14 (by omega), i1, f17, f18]
  rcases hsy with ⟨z1, z2⟩ | ⟨z1, z2⟩
  · rw [if_pos z2, up2_s, hph, if_pos (show sy ≠ 0 by omega)]
    by_cases y : S 17 to ≠ 0
    · rw [if_pos y]
      by_cases x : S 0 14 = 1000000
      · rw [if_pos ⟨x, y⟩]; omega
      · rw [if_neg (fun w => x w.1)]; omega
    · rw [if_neg y, if_neg (fun w => y w.2)]
  · rw [if_neg z2, hph, if_neg (show ¬ (sy ≠ 0) by omega)]
    exact i3
theorem goS_6 {S : SS} {t : Int} : (S 20 (17 * t + 2) ≠ 0 → goS S t = go6 S t) ∧ (S 20 (17 * t + 2) = 0 → (∀ j : Int, j ≠ 9 → j ≠ 10 → goS S t 0 j = endS (go6 S t) 0 j)) := by
  have f20 : goB (trkS S 16 (S 20 (17 * t + 1)) (S 20 (17 * t + 4) * 10000)) (S 20 (17 * t + 1)) 20 = S 20 := by rw [goB_f (by decide), trkS_f (by decide)]
  constructor
  · intro h
    unfold goS goE go6
    rw [f20, if_neg h]
  · intro h j hj9 hj10
    unfold goS goE
    rw [f20, if_pos h]
    have key : ∀ (A : SS) (j : Int), j ≠ 9 ∧ j ≠ 10 → endS (up2 (up2 (up2 A 0 8 1) 0 9 t) 0 10 0) 0 j = endS A 0 j := by
      intro A j hj
      have z1 := endS_0 A
      have z2 := endS_0 (up2 (up2 (up2 A 0 8 1) 0 9 t) 0 10 0)
      by_cases y : j = 8 ∨ j = 11 ∨ j = 20 ∨ j = 21
      · rcases y with y | y | y | y
        · rw [y, z1.1, z2.1]
        · rw [y, z1.2.1, z2.2.1]
        · rw [y, z1.2.2.1, z2.2.2.1]
        · rw [y, z1.2.2.2, z2.2.2.2]
      · by_cases w : 12 ≤ j ∧ j < 16
        · rw [show j = 12 + (j - 12) by omega, endS_i (by omega), endS_i (by omega), go3_o (by omega)]
        · rw [endS_o (by omega), endS_o (by omega), go3_o (by omega)]
    unfold go6
    exact (key _ j ⟨hj9, hj10⟩).symm
