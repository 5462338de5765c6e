set_option linter.unusedVariables false
section KACMP
variable {x : YX} {cc : ByteArray} {own nm : String} {ret : Option FieldType} {nL : Nat} {RM : Room} {n : KN} {α : KA} {K : KS} {bc bs pc : Nat} {lv : List (Nat × Value)} {st : List Value}
/-- objects of a kind with different numbers stand apart -/
theorem y_inj {kd : Nat} (hk : ¬ kC kd) (k : (∀ i j : Int, 0 ≤ i → i < n kd → 0 ≤ j → j < n kd → α kd i = α kd j → i = j) → Y x n α K bc bs pc lv st) : Y x n α K bc bs pc lv st := by
  intro H locs ls cells slots hR hS hl hc hs
  obtain ⟨L, G, h1, h2, h3, h4, h5, h6⟩ := hR
  exact k (fun i j i0 i1 j0 j1 e => (h4 kd kd i j hk hk i0 i1 j0 j1 e).2) H locs ls cells slots ⟨L, G, h1, h2, h3, h4, h5, h6⟩ hS hl hc hs
theorem refO_eq {kd : Nat} {a b : Int} (hinj : ∀ i j : Int, 0 ≤ i → i < n kd → 0 ≤ j → j < n kd → α kd i = α kd j → i = j) (ha : a < n kd) (hb : b < n kd) : refO α kd a = refO α kd b ↔ a = b ∨ a < 0 ∧ b < 0 := by
  by_cases h1 : a < 0
  · by_cases h2 : b < 0
    · rw [refO_n h1, refO_n h2]; exact ⟨fun _ => Or.inr ⟨h1, h2⟩, fun _ => rfl⟩
    · rw [refO_n h1, refO_s (by omega)]; exact ⟨fun h => (by cases h), fun h => by omega⟩
  · by_cases h2 : b < 0
    · rw [refO_s (by omega), refO_n h2]; exact ⟨fun h => (by cases h), fun h => by omega⟩
    · rw [refO_s (by omega), refO_s (by omega)]
      constructor
      · intro h; left; exact hinj a b (by omega) ha (by omega) hb (Option.some.inj h)
      · intro h; rw [show a = b by omega]
theorem y_acmpE (hE : YE x cc own ret nm nL RM) {kd : Nat} {a b : Int} (hk : ¬ kC kd) (ha : a < n kd) (hb : b < n kd) {off : Int} (tgt : Nat) (ht : (pc : Int) + off = (tgt : Int)) (d : decode cc pc = .ok (.if_acmp .eq off, 3)) (kt : (a = b ∨ a < 0 ∧ b < 0) → Y x n α K bc bs tgt lv st) (kf : ¬ (a = b ∨ a < 0 ∧ b < 0) → Y x n α K bc bs (pc + 3) lv st) : Y x n α K bc bs pc lv (refV α kd b :: refV α kd a :: st) := by
  refine y_inj hk (fun hi => ?_)
  exact y_acmp_eq hE tgt ht d (fun h => kt ((refO_eq hi ha hb).mp h)) (fun h => kf (fun z => h ((refO_eq hi ha hb).mpr z)))
theorem y_acmpN (hE : YE x cc own ret nm nL RM) {kd : Nat} {a b : Int} (hk : ¬ kC kd) (ha : a < n kd) (hb : b < n kd) {off : Int} (tgt : Nat) (ht : (pc : Int) + off = (tgt : Int)) (d : decode cc pc = .ok (.if_acmp .ne off, 3)) (kt : ¬ (a = b ∨ a < 0 ∧ b < 0) → Y x n α K bc bs tgt lv st) (kf : (a = b ∨ a < 0 ∧ b < 0) → Y x n α K bc bs (pc + 3) lv st) : Y x n α K bc bs pc lv (refV α kd b :: refV α kd a :: st) := by
  refine y_inj hk (fun hi => ?_)
  exact y_acmp_ne hE tgt ht d (fun h => kt (fun z => h ((refO_eq hi ha hb).mpr z))) (fun h => kf ((refO_eq hi ha hb).mp h))
end KACMP
