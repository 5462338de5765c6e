set_option linter.unusedVariables false
/-- the fields of a machine that its view speaks of -/
abbrev MVe (mi : Int) (k : Nat) (i f : Int) : Prop := (k = 12 ∧ i = mi ∧ f ≤ 10) ∨ k = 13 ∨ ((k = 2 ∨ 31 ≤ k ∧ k ≤ 33) ∧ i = mi + 1) ∨ (k = 35 ∧ i = mi)
theorem MV.kfc {S : SS} {n : KN} {K K' : KS} {mi ta tb fa fb : Int} {P : Nat → Int → Int → Prop} (h : MV S n K mi ta tb fa fb) (hk : KF K K' P) (hp : ∀ k i f, P k i f → ¬ MVe mi k i f) : MV S n K' mi ta tb fa fb := by
  have e12 : ∀ f, f ≤ 10 → K' 12 mi f = K 12 mi f := fun f hf => hk 12 mi f (fun z => hp _ _ _ z (Or.inl ⟨rfl, rfl, hf⟩))
  have e13 : ∀ i f, K' 13 i f = K 13 i f := fun i f => hk 13 i f (fun z => hp _ _ _ z (Or.inr (Or.inl rfl)))
  have eo : ∀ k : Nat, (k = 2 ∨ 31 ≤ k ∧ k ≤ 33) → ∀ f, K' k (mi + 1) f = K k (mi + 1) f := fun k hq f => hk k _ f (fun z => hp _ _ _ z (Or.inr (Or.inr (Or.inl ⟨hq, rfl⟩))))
  have e35 : ∀ f, K' 35 mi f = K 35 mi f := fun f => hk 35 mi f (fun z => hp _ _ _ z (Or.inr (Or.inr (Or.inr ⟨rfl, rfl⟩))))
  obtain ⟨a1, a2, a3, a4, a5, a6⟩ := h
  unfold MV
  rw [e12 0 (by omega), e12 1 (by omega), e12 2 (by omega), e12 3 (by omega), e12 4 (by omega), e12 5 (by omega), e12 8 (by omega), e12 9 (by omega)]
  simp only [e13, e35]
  exact ⟨a1, a2, a3, a4, fun z => (a5 z).congr (eo 2 (by omega) 3) (fun j _ _ => ⟨eo 31 (by omega) j, eo 32 (by omega) j, eo 33 (by omega) j⟩), a6⟩
theorem ite10 {p : Prop} [Decidable p] : (if p then (1 : Int) else 0) = 1 ↔ p := by
  by_cases h : p
  · rw [if_pos h]; exact ⟨fun _ => h, fun _ => rfl⟩
  · rw [if_neg h]; exact ⟨fun z => absurd z (by decide), fun z => absurd z h⟩
theorem ite00 {p : Prop} [Decidable p] : (if p then (1 : Int) else 0) = 0 ↔ ¬ p := by
  by_cases h : p
  · rw [if_pos h]; exact ⟨fun z => absurd z (by decide), fun z => absurd h z⟩
  · rw [if_neg h]; exact ⟨fun _ => h, fun _ => rfl⟩
theorem cnI_1 {S : SS} {st b ps t tn bd dd c1 : Int} (hps : ps = 1 ∨ ps = 0) (hdd : dd = if S 0 8 = 0 then S 0 12 else S 0 16) (htn : tn = if S 0 8 = 0 then -1 else S 0 9) (hbd : bd = if b ≠ 0 ∧ S 0 8 = 1 ∧ S 20 (17 * S 0 9 + 6) ≠ 0 then 1 else 0)
    (hc1 : c1 = 1 ∧ (ps = 1 ∧ S 20 (17 * t) = -1 ∧ S 20 (17 * t + 1) ≠ dd ∨ ps = 0 ∧ S 20 (17 * t) = st) ∨ c1 = 0 ∧ ¬ (ps = 1 ∧ S 20 (17 * t) = -1 ∧ S 20 (17 * t + 1) ≠ dd ∨ ps = 0 ∧ S 20 (17 * t) = st)) : cnI S st b ps t = 1 ↔ c1 ≠ 0 ∧ t ≠ tn ∧ (bd ≠ 0 → t ≤ tn) := by
  unfold cnI
  rw [← hdd, ← htn]
  have e1 : (if ps = 1 then S 20 (17 * t) = -1 ∧ S 20 (17 * t + 1) ≠ dd else S 20 (17 * t) = st) ↔ c1 ≠ 0 := by
    rcases hps with h | h
    · rw [if_pos h]; omega
    · rw [if_neg (by omega)]; omega
  have e2 : (b ≠ 0 ∧ S 0 8 = 1 ∧ S 20 (17 * S 0 9 + 6) ≠ 0 → t ≤ S 0 9) ↔ (bd ≠ 0 → t ≤ tn) := by
    by_cases h : b ≠ 0 ∧ S 0 8 = 1 ∧ S 20 (17 * S 0 9 + 6) ≠ 0
    · rw [if_pos h] at hbd
      rw [if_neg (by omega)] at htn
      rw [htn, hbd]
      exact ⟨fun z _ => z h, fun z _ => z (by omega)⟩
    · rw [if_neg h] at hbd
      exact ⟨fun _ z => absurd hbd z, fun _ z => absurd z h⟩
  rw [ite10, e1, e2]
/-- a list of candidates: different numbers, in range -/
def COk (S : SS) (L : List (Int × Int)) : Prop := L.Pairwise (fun a b => a.1 ≠ b.1) ∧ ∀ e ∈ L, 0 ≤ e.1 ∧ e.1 < S 21 0 ∧ (e.2 = 0 ∨ e.2 = 1)
theorem COk.nil (S : SS) : COk S [] := ⟨List.Pairwise.nil, fun e he => by cases he⟩
theorem COk.p {S : SS} {st b ps : Int} {L : List (Int × Int)} (h : COk S L) (hb : b = 0 ∨ b = 1) {m : Nat} (hm : (m : Int) ≤ S 21 0) : COk S (cnP S st b ps L m) := by
  refine ⟨cnP_uq h.1 m, fun e he => ?_⟩
  rcases (cnP_mem m e.1 e.2).mp he with q | q
  · exact h.2 _ q
  · exact ⟨q.2.1, by omega, by omega⟩
theorem COk.len {S : SS} (hW : WFs S) {L : List (Int × Int)} (h : COk S L) : L.length ≤ 24 := by
  have w := hW.trs
  have := uq_len (S 21 0).toNat L h.1 (fun e he => by have := h.2 e he; omega)
  omega
theorem COk.cn {S : SS} (hW : WFs S) {st b : Int} {L : List (Int × Int)} (h : COk S L) (hb : b = 0 ∨ b = 1) : COk S (cnL S st b L) := by
  have w := hW.trs
  exact (h.p hb (by omega)).p hb (by omega)
def cnQ (S : SS) (st b : Int) (L : List (Int × Int)) (ps : Int) : List (Int × Int) := if ps = 1 then L else if ps = 0 then cnP S st b 1 L (S 21 0).toNat else cnL S st b L
theorem cnQ_s {S : SS} {st b ps : Int} {L : List (Int × Int)} (h : ps = 0 ∨ ps = 1) : cnP S st b ps (cnQ S st b L ps) (S 21 0).toNat = cnQ S st b L (ps + (-1)) := by
  rcases h with h | h
  · subst h
    unfold cnQ cnL
    rfl
  · subst h
    unfold cnQ
    rfl
theorem COk.q {S : SS} (hW : WFs S) {st b ps : Int} {L : List (Int × Int)} (h : COk S L) (hb : b = 0 ∨ b = 1) : COk S (cnQ S st b L ps) := by
  have w := hW.trs
  unfold cnQ
  split
  · exact h
  · split
    · exact h.p hb (by omega)
    · exact h.cn hW hb
/-- the candidates' arrays hold numbers of transitions -/
theorem CA.rng {S : SS} {L : List (Int × Int)} {mc : Int} {f g : Int → Int} (h : CA L mc f g) (hL : COk S L) {k : Int} (hk : 0 ≤ k ∧ k < mc) : 0 ≤ f k ∧ f k < S 21 0 ∧ (g k = 0 ∨ g k = 1) := by
  obtain ⟨hm, hl⟩ := h
  have hj : k.toNat < L.length := by omega
  have e := hl k.toNat L[k.toNat] (List.getElem?_eq_getElem hj)
  rw [show ((k.toNat : Nat) : Int) = k by omega] at e
  rw [e.1, e.2]
  exact hL.2 _ (List.getElem_mem hj)
theorem CA.nil (f g : Int → Int) : CA [] 0 f g := ⟨rfl, fun k e he => by simp at he⟩
