set_option linter.unusedVariables false
/-- attributes are read: fine, place, number, what there were, how many conditions, the store -/
abbrev RS : Type := Int × Int × Int × Int × Int × SS
def atS (Z : SS) (r : RS) : RS := (atF Z r.2.1 r.2.2.2.1 r.2.2.2.2.1, sk Z (atA Z r.2.1 r.2.2.2.1 r.2.2.2.2.1), atN Z r.2.1 r.2.2.2.1 r.2.2.2.2.1 r.2.2.1, atE Z r.2.1 r.2.2.2.1 r.2.2.2.2.1, atC Z r.2.1 r.2.2.2.1 r.2.2.2.2.1, atQ Z r.2.2.2.2.2 r.2.1 r.2.2.2.1 r.2.2.2.2.1)
def goOn (Z : SS) (r : RS) : Prop := r.1 = 1 ∧ r.2.1 < Z 24 0 ∧ Z 23 r.2.1 ≠ 59
def atl (Z : SS) : Nat → RS → RS
  | 0, r => r
  | f + 1, r => if r.1 = 1 ∧ r.2.1 < Z 24 0 ∧ Z 23 r.2.1 ≠ 59 then atl Z f (atS Z r) else r
def atMs (Z : SS) (r : RS) : Nat := (Z 24 0 - r.2.1 + r.1).toNat
def attA (Z : SS) (r : RS) : RS := atl Z (atMs Z r) r
theorem atS_in {Z : SS} (hW : WFs Z) {r : RS} (h : 0 ≤ r.2.1 ∧ r.2.1 ≤ Z 24 0) : r.2.1 ≤ (atS Z r).2.1 ∧ (atS Z r).2.1 ≤ Z 24 0 ∧ ((atS Z r).1 = 1 → r.2.1 < (atS Z r).2.1) ∧ ((atS Z r).1 = 0 ∨ (atS Z r).1 = 1) := by
  obtain ⟨a1, a2, a3, a4⟩ := atA_in hW (we := r.2.2.2.1) (co := r.2.2.2.2.1) h
  have b := sk_in a2
  unfold atS
  dsimp only
  omega
theorem atS_ms {Z : SS} (hW : WFs Z) {r : RS} (h : 0 ≤ r.2.1 ∧ r.2.1 ≤ Z 24 0) (h1 : r.1 = 1) : atMs Z (atS Z r) < atMs Z r := by
  obtain ⟨a1, a2, a3, a4⟩ := atS_in hW h
  unfold atMs
  rcases a4 with e | e <;> omega
theorem atl_st {Z : SS} (hW : WFs Z) : ∀ (f g : Nat) (r : RS), 0 ≤ r.2.1 ∧ r.2.1 ≤ Z 24 0 → atMs Z r ≤ f → atMs Z r ≤ g → atl Z f r = atl Z g r
  | 0, 0, r, h, _, _ => rfl
  | 0, g + 1, r, h, hf, hg => by
    rw [atl, atl, if_neg]
    rintro ⟨e1, e2, -⟩
    unfold atMs at hf
    omega
  | f + 1, 0, r, h, hf, hg => by
    rw [atl, atl, if_neg]
    rintro ⟨e1, e2, -⟩
    unfold atMs at hg
    omega
  | f + 1, g + 1, r, h, hf, hg => by
    rw [atl, atl]
    split
    · rename_i e
      obtain ⟨a1, a2, a3, a4⟩ := atS_in hW h
      have := atS_ms hW h e.1
      exact atl_st hW f g _ ⟨by omega, a2⟩ (by omega) (by omega)
    · rfl
theorem attA_y {Z : SS} (hW : WFs Z) {r : RS} (h : 0 ≤ r.2.1 ∧ r.2.1 ≤ Z 24 0) (e : r.1 = 1 ∧ r.2.1 < Z 24 0 ∧ Z 23 r.2.1 ≠ 59) : attA Z r = attA Z (atS Z r) := by
  obtain ⟨a1, a2, a3, a4⟩ := atS_in hW h
  have hm := atS_ms hW h e.1
  obtain ⟨q, hq⟩ : ∃ q, atMs Z r = q + 1 := ⟨atMs Z r - 1, by omega⟩
  unfold attA
  rw [hq, atl, if_pos e]
  exact atl_st hW q _ _ ⟨by omega, a2⟩ (by omega) (Nat.le_refl _)
theorem attA_n {Z : SS} {r : RS} (e : ¬ (r.1 = 1 ∧ r.2.1 < Z 24 0 ∧ Z 23 r.2.1 ≠ 59)) : attA Z r = r := by
  unfold attA
  cases atMs Z r with
  | zero => rfl
  | succ f => rw [atl, if_neg e]
/-- a transition is read: the head's parts -/
def tF0 (Z Q : SS) (pa : Int) : Int := if sk Z pa < Z 24 0 ∧ Q 21 0 < 24 then 1 else 0
def tS1 (Z : SS) (pa : Int) : Int := stV Z (sk Z (sk Z pa)) 1
def tF1 (Z : SS) (f0 pa : Int) : Int := stF Z (sk Z pa) f0 1
def tA1 (Z : SS) (f0 pa : Int) : Int := sk Z (sk Z pa) + tF1 Z f0 pa
def tF2 (Z : SS) (f0 pa : Int) : Int := rdF Z (tA1 Z f0 pa) (tF1 Z f0 pa) 62
def tA2 (Z : SS) (f0 pa : Int) : Int := sk Z (tA1 Z f0 pa) + tF2 Z f0 pa
def tS2 (Z : SS) (f0 pa : Int) : Int := stV Z (sk Z (tA2 Z f0 pa)) 0
def tF3 (Z : SS) (f0 pa : Int) : Int := stF Z (tA2 Z f0 pa) (tF2 Z f0 pa) 0
def tA3 (Z : SS) (f0 pa : Int) : Int := sk Z (tA2 Z f0 pa) + tF3 Z f0 pa
def tF4 (Z : SS) (f0 pa : Int) : Int := rdF Z (tA3 Z f0 pa) (tF3 Z f0 pa) 47
def tA4 (Z : SS) (f0 pa : Int) : Int := sk Z (tA3 Z f0 pa) + tF4 Z f0 pa
def tF5 (Z : SS) (f0 pa : Int) : Int := nuF Z (tA4 Z f0 pa) (tF4 Z f0 pa) 60
def tA5 (Z : SS) (f0 pa : Int) : Int := nuA Z (tA4 Z f0 pa) (tF4 Z f0 pa) 60
def tV5 (Z : SS) (f0 pa : Int) : Int := nuV Z (tA4 Z f0 pa) (tF4 Z f0 pa)
def tQ5 (Z Q : SS) (f0 pa : Int) : SS := if tF5 Z f0 pa = 1 then newTr Q (tS1 Z pa) (tS2 Z f0 pa) (tV5 Z f0 pa) else Q
def tR6 (Z Q : SS) (pa : Int) : RS := (tF5 Z (tF0 Z Q pa) pa, sk Z (tA5 Z (tF0 Z Q pa) pa), tV5 Z (tF0 Z Q pa) pa, if tS1 Z pa = -1 then 1 else 0, 0, tQ5 Z Q (tF0 Z Q pa) pa)
def trR (Z Q : SS) (pa : Int) : RS := attA Z (tR6 Z Q pa)
theorem tF0_01 (Z Q : SS) (pa : Int) : tF0 Z Q pa = 0 ∨ tF0 Z Q pa = 1 := by unfold tF0; split <;> omega
theorem t_in {Z : SS} (hW : WFs Z) {f0 pa : Int} (h : 0 ≤ pa ∧ pa ≤ Z 24 0) : (tF1 Z f0 pa = 0 ∨ tF1 Z f0 pa = 1) ∧ (tF2 Z f0 pa = 0 ∨ tF2 Z f0 pa = 1) ∧ (tF3 Z f0 pa = 0 ∨ tF3 Z f0 pa = 1) ∧ (tF4 Z f0 pa = 0 ∨ tF4 Z f0 pa = 1) ∧ (tF5 Z f0 pa = 0 ∨ tF5 Z f0 pa = 1) ∧
    pa ≤ tA1 Z f0 pa ∧ tA1 Z f0 pa ≤ tA2 Z f0 pa ∧ tA2 Z f0 pa ≤ tA3 Z f0 pa ∧ tA3 Z f0 pa ≤ tA4 Z f0 pa ∧ tA4 Z f0 pa ≤ tA5 Z f0 pa ∧ tA5 Z f0 pa ≤ Z 24 0 := by
  have a0 := sk_in h.2
  have a1 := stF_in (fi := f0) (any := 1) a0.2
  rw [← tF1, ← tA1] at a1
  have a2 := rdF_in (fi := tF1 Z f0 pa) (c := 62) a1.2
  rw [← tF2, ← tA2] at a2
  have a2s := sk_in a1.2
  have a3 := stF_in (fi := tF2 Z f0 pa) (any := 0) a2.2
  rw [← tF3, ← tA3] at a3
  have a3s := sk_in a2.2
  have a4 := rdF_in (fi := tF3 Z f0 pa) (c := 47) a3.2
  rw [← tF4, ← tA4] at a4
  have a4s := sk_in a3.2
  have a5 := nuA_in (fi := tF4 Z f0 pa) (m := 60) a4.2
  rw [← tA5] at a5
  have b1 : tF1 Z f0 pa = 0 ∨ tF1 Z f0 pa = 1 := stF_01 _ _ _ _
  have b2 : tF2 Z f0 pa = 0 ∨ tF2 Z f0 pa = 1 := rdF_01 _ _ _ _
  have b3 : tF3 Z f0 pa = 0 ∨ tF3 Z f0 pa = 1 := stF_01 _ _ _ _
  have b4 : tF4 Z f0 pa = 0 ∨ tF4 Z f0 pa = 1 := rdF_01 _ _ _ _
  have b5 : tF5 Z f0 pa = 0 ∨ tF5 Z f0 pa = 1 := nuF_01 _ _ _ _
  have c0 := sk_in a0.2
  have d1 : tA1 Z f0 pa = sk Z (sk Z pa) + tF1 Z f0 pa := rfl
  have d2 : tA2 Z f0 pa = sk Z (tA1 Z f0 pa) + tF2 Z f0 pa := rfl
  have d3 : tA3 Z f0 pa = sk Z (tA2 Z f0 pa) + tF3 Z f0 pa := rfl
  have d4 : tA4 Z f0 pa = sk Z (tA3 Z f0 pa) + tF4 Z f0 pa := rfl
  omega
/-- what the store may be behind a transition's head and its attributes -/
def TrI (Z Q : SS) (r : RS) : Prop := (r.1 = 0 ∨ r.1 = 1) ∧ (0 ≤ r.2.1 ∧ r.2.1 ≤ Z 24 0) ∧ (0 ≤ r.2.2.2.1 ∧ r.2.2.2.1 ≤ 15) ∧ (0 ≤ r.2.2.2.2.1 ∧ r.2.2.2.2.1 ≤ 3) ∧ SZ r.2.2.2.2.2 Z ∧ (r.2.2.2.2.2 = Q ∧ r.1 = 0 ∨ (r.2.2.2.2.2 21 0 = Q 21 0 + 1 ∧ Q 21 0 < 24) ∧ (r.1 = 1 → r.2.2.2.2.2 20 (17 * Q 21 0 + 7) = r.2.2.2.2.1))
theorem zif_zif {ad : Int} {P Q S : SS} : zif ad P (zif ad Q S) = zif ad P S := by
  unfold zif
  split <;> rfl
theorem zif_z {ad : Int} {Q S Z : SS} (h : SZ Q Z) (h2 : SZ S Z) : SZ (zif ad Q S) Z := by
  unfold zif
  split
  · exact h
  · exact h2
theorem zer_i {S : SS} {g : Nat} {b i : Int} : ∀ k : Nat, 0 ≤ i → i < k → zer S g b k g (b + i) = 0
  | 0, h1, h2 => by omega
  | k + 1, h1, h2 => by
    rw [zer]
    by_cases e : i = k
    · subst e; rw [up2_s]
    · rw [up2_j _ _ _ _ (by omega)]; exact zer_i k h1 (by omega)
theorem newTr_f {S : SS} {fr to du : Int} {f : Nat} (h : f ≠ 20) (h2 : f ≠ 21) : newTr S fr to du f = S f := by
  funext j
  unfold newTr
  rw [up2_f _ _ _ _ h2, up2_f _ _ _ _ h, up2_f _ _ _ _ h, up2_f _ _ _ _ h, up2_f _ _ _ _ h, zer_f h]
theorem newTr_21 (S : SS) (fr to du : Int) : newTr S fr to du 21 0 = S 21 0 + 1 ∧ newTr S fr to du 20 (17 * S 21 0 + 7) = 0 := by
  unfold newTr
  refine ⟨up2_s _ _ _ _, ?_⟩
  rw [up2_f _ _ _ _ (by decide), up2_j _ _ _ _ (by omega), up2_j _ _ _ _ (by omega), up2_j _ _ _ _ (by omega), up2_j _ _ _ _ (by omega)]
  exact zer_i 17 (by omega) (by omega)
theorem cndS_f {S : SS} {t p o v : Int} {f : Nat} (h : f ≠ 20) : cndS S t p o v f = S f := by
  funext j
  unfold cndS cnd3
  rw [up2_f _ _ _ _ h, up2_f _ _ _ _ h, up2_f _ _ _ _ h, up2_f _ _ _ _ h]
theorem t_23 {Z Q : SS} {pa : Int} (h : tF5 Z (tF0 Z Q pa) pa = 1) : Q 21 0 < 24 := by
  have q4 := nuF_fi h
  have q3 : tF3 Z (tF0 Z Q pa) pa = 1 := by
    unfold tF4 rdF at q4
    split at q4
    · rename_i y; exact y.1
    · omega
  have q2 : tF2 Z (tF0 Z Q pa) pa = 1 := by
    unfold tF3 stF at q3
    split at q3
    · rename_i y; exact y.1
    · omega
  have q1 : tF1 Z (tF0 Z Q pa) pa = 1 := by
    unfold tF2 rdF at q2
    split at q2
    · rename_i y; exact y.1
    · omega
  have q0 : tF0 Z Q pa = 1 := by
    unfold tF1 stF at q1
    split at q1
    · rename_i y; exact y.1
    · omega
  unfold tF0 at q0
  split at q0
  · rename_i y; exact y.2
  · omega
theorem tr6_ok {Z Q : SS} (hW : WFs Z) (hQ : SZ Q Z) {pa : Int} (h : 0 ≤ pa ∧ pa ≤ Z 24 0) : TrI Z Q (tR6 Z Q pa) := by
  obtain ⟨b1, b2, b3, b4, b5, a1, a2, a3, a4, a5, a6⟩ := t_in hW (f0 := tF0 Z Q pa) h
  have a7 := sk_in a6
  unfold TrI tR6
  dsimp only
  refine ⟨b5, by omega, by split <;> omega, by omega, ?_, ?_⟩
  · unfold tQ5
    split
    · intro f h1 h2; rw [newTr_f h1 h2, hQ f h1 h2]
    · exact hQ
  · unfold tQ5
    by_cases e : tF5 Z (tF0 Z Q pa) pa = 1
    · rw [if_pos e]
      right
      have := newTr_21 Q (tS1 Z pa) (tS2 Z (tF0 Z Q pa) pa) (tV5 Z (tF0 Z Q pa) pa)
      exact ⟨⟨this.1, t_23 e⟩, fun _ => this.2⟩
    · rw [if_neg e]
      left; exact ⟨rfl, by omega⟩
theorem atS_ok {Z Q : SS} (hW : WFs Z) {r : RS} (h : TrI Z Q r) (hn : 0 ≤ Q 21 0) (h1 : r.1 = 1) : TrI Z Q (atS Z r) := by
  obtain ⟨g1, g2, g3, g4, g5, g6⟩ := h
  rcases g6 with ⟨-, g6⟩ | ⟨⟨g6, g8⟩, g7⟩
  · omega
  have g7 := g7 h1
  obtain ⟨c1, c2, c3, c4⟩ := atS_in hW g2
  have e21 : ∀ x : SS, (∀ f : Nat, f ≠ 20 → x f = r.2.2.2.2.2 f) → SZ x Z ∧ x 21 0 = Q 21 0 + 1 := fun x hx => ⟨fun f q1 q2 => by rw [hx f q1, g5 f q1 q2], by rw [hx 21 (by decide)]; exact g6⟩
  have hi : 17 * (r.2.2.2.2.2 21 0 - 1) = 17 * Q 21 0 := by omega
  have hf : ∀ f : Nat, f ≠ 20 → atQ Z r.2.2.2.2.2 r.2.1 r.2.2.2.1 r.2.2.2.2.1 f = r.2.2.2.2.2 f := fun f q => by
    unfold atQ
    split
    · rfl
    · split
      · unfold cdQ; split
        · exact cndS_f q
        · rfl
      · split
        · funext j; exact up2_f _ _ _ _ q
        · split
          · funext j; exact up2_f _ _ _ _ q
          · rfl
  obtain ⟨d1, d2⟩ := e21 _ hf
  refine ⟨c4, ⟨by omega, c2⟩, atE_in g3, atC_in g4, d1, Or.inr ⟨⟨d2, g8⟩, ?_⟩⟩
  unfold atS
  dsimp only
  unfold atF atQ atC
  by_cases q1 : at1 Z r.2.1 r.2.2.2.1 r.2.2.2.2.1 = 0
  · rw [if_pos q1]; intro z; omega
  · rw [if_neg q1, if_neg q1, if_neg q1]
    by_cases q4 : atW Z r.2.1 = 4
    · rw [if_pos q4, if_pos q4, if_pos q4]
      intro z
      unfold cdQ
      rw [if_pos z, hi.symm, cndS_n (by rw [hi]; omega), hi, g7]
    · rw [if_neg q4, if_neg q4, if_neg q4]
      intro z
      have w := atW_in Z r.2.1
      by_cases q3 : atW Z r.2.1 = 3
      · rw [if_pos q3, up2_j _ _ _ _ (by omega)]; exact g7
      · rw [if_neg q3]
        have q5 : at1 Z r.2.1 r.2.2.2.1 r.2.2.2.2.1 = 1 := by have := at1_01 Z r.2.1 r.2.2.2.1 r.2.2.2.2.1; omega
        have q6 : atW Z r.2.1 < 4 := by
          unfold at1 at q5
          split at q5
          · assumption
          · split at q5 <;> omega
        split
        · rw [up2_j _ _ _ _ (by omega)]; exact g7
        · exact g7
theorem attA_ok {Z Q : SS} (hW : WFs Z) (hn : 0 ≤ Q 21 0) : ∀ (f : Nat) (r : RS), TrI Z Q r → TrI Z Q (atl Z f r)
  | 0, r, h => h
  | f + 1, r, h => by
    rw [atl]
    split
    · rename_i e; exact attA_ok hW hn f _ (atS_ok hW h hn e.1)
    · exact h
theorem trR_ok {Z Q : SS} (hW : WFs Z) (hQ : SZ Q Z) {pa : Int} (h : 0 ≤ pa ∧ pa ≤ Z 24 0) (hn : 0 ≤ Q 21 0) : TrI Z Q (trR Z Q pa) := attA_ok hW hn _ _ (tr6_ok hW hQ h)
