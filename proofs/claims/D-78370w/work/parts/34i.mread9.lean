set_option linter.unusedVariables false
/-- the whole text is read: fine, place, how many, the store -/
abbrev AS : Type := Int × Int × Int × SS
def alS (Z Q : SS) (pa rm : Int) : AS := ((trR Z Q pa).1, sk Z (trR Z Q pa).2.1, rm + 1, (trR Z Q pa).2.2.2.2.2)
def alL (Z : SS) : Nat → AS → AS
  | 0, r => r
  | f + 1, r => if r.1 = 1 ∧ r.2.1 < Z 24 0 then alL Z f (alS Z r.2.2.2 (r.2.1 + 1) r.2.2.1) else r
def alA (Z : SS) (r : AS) : AS := alL Z (Z 24 0 - r.2.1).toNat r
def alR (Z Q : SS) : AS := alA Z (alS Z Q 0 0)
theorem atl_ge {Z : SS} (hW : WFs Z) : ∀ (f : Nat) (r : RS), 0 ≤ r.2.1 ∧ r.2.1 ≤ Z 24 0 → r.2.1 ≤ (atl Z f r).2.1 ∧ (atl Z f r).2.1 ≤ Z 24 0
  | 0, r, h => ⟨Int.le_refl _, h.2⟩
  | f + 1, r, h => by
    rw [atl]
    split
    · obtain ⟨a1, a2, -⟩ := atS_in hW h
      have := atl_ge hW f (atS Z r) ⟨by omega, a2⟩
      omega
    · exact ⟨Int.le_refl _, h.2⟩
theorem trR_ge {Z Q : SS} (hW : WFs Z) {pa : Int} (h : 0 ≤ pa ∧ pa ≤ Z 24 0) : pa ≤ (trR Z Q pa).2.1 ∧ (trR Z Q pa).2.1 ≤ Z 24 0 := by
  obtain ⟨b1, b2, b3, b4, b5, a1, a2, a3, a4, a5, a6⟩ := t_in hW (f0 := tF0 Z Q pa) h
  have a7 := sk_in a6
  have e : (tR6 Z Q pa).2.1 = sk Z (tA5 Z (tF0 Z Q pa) pa) := rfl
  have := atl_ge hW (atMs Z (tR6 Z Q pa)) (tR6 Z Q pa) (by omega)
  unfold trR attA
  omega
theorem alS_in {Z Q : SS} (hW : WFs Z) {pa rm : Int} (h : 0 ≤ pa ∧ pa ≤ Z 24 0) : pa ≤ (alS Z Q pa rm).2.1 ∧ (alS Z Q pa rm).2.1 ≤ Z 24 0 := by
  have a := trR_ge (Q := Q) hW h
  have b := sk_in a.2
  unfold alS
  dsimp only
  omega
theorem alL_st {Z : SS} (hW : WFs Z) : ∀ (f g : Nat) (r : AS), 0 ≤ r.2.1 ∧ r.2.1 ≤ Z 24 0 → (Z 24 0 - r.2.1).toNat ≤ f → (Z 24 0 - r.2.1).toNat ≤ g → alL Z f r = alL Z g r
  | 0, 0, r, h, _, _ => rfl
  | 0, g + 1, r, h, hf, hg => by
    rw [alL, alL, if_neg]
    rintro ⟨e1, e2⟩
    omega
  | f + 1, 0, r, h, hf, hg => by
    rw [alL, alL, if_neg]
    rintro ⟨e1, e2⟩
    omega
  | f + 1, g + 1, r, h, hf, hg => by
    rw [alL, alL]
    split
    · rename_i e
      have a := alS_in (Q := r.2.2.2) (rm := r.2.2.1) hW (pa := r.2.1 + 1) (by omega)
      exact alL_st hW f g _ ⟨by omega, a.2⟩ (by omega) (by omega)
    · rfl
theorem alA_y {Z : SS} (hW : WFs Z) {r : AS} (h : 0 ≤ r.2.1 ∧ r.2.1 ≤ Z 24 0) (e : r.1 = 1 ∧ r.2.1 < Z 24 0) : alA Z r = alA Z (alS Z r.2.2.2 (r.2.1 + 1) r.2.2.1) := by
  have a := alS_in (Q := r.2.2.2) (rm := r.2.2.1) hW (pa := r.2.1 + 1) (by omega)
  obtain ⟨q, hq⟩ : ∃ q, (Z 24 0 - r.2.1).toNat = q + 1 := ⟨(Z 24 0 - r.2.1).toNat - 1, by omega⟩
  unfold alA
  rw [hq, alL, if_pos e]
  exact alL_st hW q _ _ ⟨by omega, a.2⟩ (by omega) (Nat.le_refl _)
theorem alA_n {Z : SS} {r : AS} (e : ¬ (r.1 = 1 ∧ r.2.1 < Z 24 0)) : alA Z r = r := by
  unfold alA
  cases (Z 24 0 - r.2.1).toNat with
  | zero => rfl
  | succ f => rw [alL, if_neg e]
/-- what holds between two transitions -/
def AlI (Z S : SS) (r : AS) : Prop := (r.1 = 0 ∨ r.1 = 1) ∧ (0 ≤ r.2.1 ∧ r.2.1 ≤ Z 24 0) ∧ (0 ≤ r.2.2.1 ∧ r.2.2.1 ≤ r.2.1 + 1) ∧ SZ r.2.2.2 Z ∧ (0 ≤ r.2.2.2 21 0 ∧ r.2.2.2 21 0 ≤ 24) ∧ (r.1 = 1 → r.2.2.2 21 0 = S 21 0 + r.2.2.1)
theorem alS_ok {Z S Q : SS} (hW : WFs Z) (hQ : SZ Q Z) {pa rm : Int} (h : 0 ≤ pa ∧ pa ≤ Z 24 0) (hr : 0 ≤ rm ∧ rm ≤ pa) (hn : 0 ≤ Q 21 0 ∧ Q 21 0 ≤ 24) (he : Q 21 0 = S 21 0 + rm) : AlI Z S (alS Z Q pa rm) := by
  obtain ⟨g1, g2, g3, g4, g5, g6⟩ := trR_ok hW hQ h hn.1
  have a := trR_ge (Q := Q) hW h
  have b := sk_in a.2
  unfold AlI alS
  dsimp only
  refine ⟨g1, by omega, by omega, g5, ?_, fun z => ?_⟩
  · rcases g6 with ⟨q, -⟩ | ⟨q, -⟩
    · rw [q]; exact hn
    · omega
  · rcases g6 with ⟨-, q⟩ | ⟨q, -⟩ <;> omega
def oFault (S : SS) : Int × Int × SS := (0, if (alR S S).1 = 1 then -1 else (alR S S).2.1, S)
def oLoad (S : SS) : Int × Int × SS := if (alR S S).1 = 1 then (0, (alR S S).2.2.1, up2 (alR S S).2.2.2 24 0 0) else (1, 0, S)
theorem alA_ok {Z S : SS} (hW : WFs Z) : ∀ (f : Nat) (r : AS), AlI Z S r → AlI Z S (alL Z f r)
  | 0, r, h => h
  | f + 1, r, h => by
    rw [alL]
    split
    · rename_i e
      obtain ⟨g1, g2, g3, g4, g5, g6⟩ := h
      exact alA_ok hW f _ (alS_ok hW g4 (by omega) (by omega) g5 (g6 e.1))
    · exact h
theorem alR_ok {Z S : SS} (hW : WFs Z) (hz : SZ S Z) (h21 : 0 ≤ S 21 0 ∧ S 21 0 ≤ 24) : AlI Z S (alR Z S) := by
  have := hW.txt
  exact alA_ok hW _ _ (alS_ok hW hz (by omega) (by omega) h21 (by omega))
