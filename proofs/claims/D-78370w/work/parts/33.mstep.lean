set_option linter.unusedVariables false
/-- a state is reached from another by m transitions -/
def Rch (S : SS) (a : Int) : Nat → Int → Prop
  | 0, z => z = a
  | m + 1, z => ∃ t y : Int, 0 ≤ t ∧ t < S 21 0 ∧ 0 ≤ y ∧ y < S 19 0 ∧ Rch S a m y ∧ inlI S t y = 1 ∧ z = S 20 (17 * t + 1)
/-- the number of steps (-1: not reached) -/
def stpP (S : SS) (a b r : Int) : Prop := r = -1 ∧ (∀ m : Nat, ¬ Rch S a m b) ∨ 0 ≤ r ∧ Rch S a r.toNat b ∧ ∀ m : Nat, m < r.toNat → ¬ Rch S a m b
theorem stpP_one {S : SS} {a b r r' : Int} (h : stpP S a b r) (h' : stpP S a b r') : r = r' := by
  rcases h with ⟨h1, h2⟩ | ⟨h1, h2, h3⟩ <;> rcases h' with ⟨g1, g2⟩ | ⟨g1, g2, g3⟩
  · omega
  · exact absurd g2 (h2 _)
  · exact absurd h2 (g2 _)
  · have a1 : ¬ r.toNat < r'.toNat := fun z => g3 _ z h2
    have a2 : ¬ r'.toNat < r.toNat := fun z => h3 _ z g2
    omega
theorem pig : ∀ (N k : Nat) (g : Nat → Int), (∀ e : Nat, e < k → 0 ≤ g e ∧ g e < N) → (∀ e e' : Nat, e < k → e' < k → g e = g e' → e = e') → k ≤ N
  | 0, k, g, h1, h2 => by
    by_cases hk : k = 0
    · omega
    · have := h1 0 (by omega); omega
  | N + 1, k, g, h1, h2 => by
    by_cases hx : ∃ e : Nat, e < k ∧ g e = N
    · obtain ⟨e0, he, hg⟩ := hx
      have := pig N (k - 1) (fun e => if e < e0 then g e else g (e + 1)) (fun e he1 => by
        split
        · have a := h1 e (by omega)
          have b : g e ≠ N := fun z => by have := h2 e e0 (by omega) he (z.trans hg.symm); omega
          omega
        · have a := h1 (e + 1) (by omega)
          have b : g (e + 1) ≠ N := fun z => by have := h2 (e + 1) e0 (by omega) he (z.trans hg.symm); omega
          omega) (fun e e' he1 he2 hh => by
        split at hh <;> split at hh
        · exact h2 e e' (by omega) (by omega) hh
        · have := h2 e (e' + 1) (by omega) (by omega) hh; omega
        · have := h2 (e + 1) e' (by omega) (by omega) hh; omega
        · have := h2 (e + 1) (e' + 1) (by omega) (by omega) hh; omega)
      omega
    · have := pig N k g (fun e he => by
        have a := h1 e he
        have b : g e ≠ N := fun z => hx ⟨e, he, z⟩
        omega) h2
      omega
theorem rch_least {S : SS} {a z : Int} : ∀ m : Nat, Rch S a m z → ∃ d : Nat, d ≤ m ∧ Rch S a d z ∧ ∀ e : Nat, e < d → ¬ Rch S a e z := by
  intro m
  induction m using Nat.strongRecOn with
  | _ m ih =>
    intro h
    by_cases hx : ∃ e : Nat, e < m ∧ Rch S a e z
    · obtain ⟨e, he, hr⟩ := hx
      obtain ⟨d, h1, h2⟩ := ih e he hr
      exact ⟨d, by omega, h2⟩
    · exact ⟨m, Nat.le_refl _, h, fun e he hr => hx ⟨e, he, hr⟩⟩
theorem rch_level {S : SS} {a : Int} : ∀ (k d : Nat) (z : Int), k ≤ d → Rch S a d z → (∀ e : Nat, e < d → ¬ Rch S a e z) → ∃ y, Rch S a (d - k) y ∧ ∀ e : Nat, e < d - k → ¬ Rch S a e y
  | 0, d, z, _, h1, h2 => ⟨z, h1, h2⟩
  | k + 1, d, z, hk, h1, h2 => by
    obtain ⟨y, g1, g2⟩ := rch_level k d z (by omega) h1 h2
    obtain ⟨q, hq⟩ : ∃ q, d - k = q + 1 := ⟨d - k - 1, by omega⟩
    rw [hq] at g1 g2
    obtain ⟨t, y2, a1, a2, a3, a4, a5, a6, a7⟩ := g1
    rw [show d - (k + 1) = q by omega]
    exact ⟨y2, a5, fun e he hr => g2 (e + 1) (by omega) ⟨t, y2, a1, a2, a3, a4, hr, a6, a7⟩⟩
theorem rch_in {S : SS} (hW : WFs S) {a : Int} (ha : 0 ≤ a ∧ a < S 19 0) : ∀ (m : Nat) (z : Int), Rch S a m z → 0 ≤ z ∧ z < S 19 0
  | 0, z, h => by have : z = a := h; omega
  | m + 1, z, h => by
    obtain ⟨t, y, a1, a2, a3, a4, a5, a6, a7⟩ := h
    have := hW.tr t a1 a2
    omega
theorem rch_short {S : SS} (hW : WFs S) {a z : Int} (ha : 0 ≤ a ∧ a < S 19 0) (m : Nat) (h : Rch S a m z) : ∃ d : Nat, d ≤ m ∧ (d : Int) < S 19 0 ∧ Rch S a d z := by
  obtain ⟨d, h1, h2, h3⟩ := rch_least m h
  refine ⟨d, h1, ?_, h2⟩
  have hl : ∀ e : Nat, ∃ y, e ≤ d → Rch S a e y ∧ ∀ e' : Nat, e' < e → ¬ Rch S a e' y := fun e => by
    by_cases he : e ≤ d
    · obtain ⟨y, g1, g2⟩ := rch_level (d - e) d z (by omega) h2 h3
      rw [show d - (d - e) = e by omega] at g1 g2
      exact ⟨y, fun _ => ⟨g1, g2⟩⟩
    · exact ⟨0, fun q => absurd q he⟩
  have := pig (S 19 0).toNat (d + 1) (fun e => Classical.choose (hl e)) (fun e he => by
    have := rch_in hW ha e _ (Classical.choose_spec (hl e) (by omega)).1
    omega) (fun e e' he he' hh => by
    have g1 := Classical.choose_spec (hl e) (by omega)
    have g2 := Classical.choose_spec (hl e') (by omega)
    rw [hh] at g1
    by_cases q : e < e'
    · exact absurd g1.1 (g2.2 e q)
    · by_cases q2 : e' < e
      · exact absurd g2.1 (g1.2 e' q2)
      · omega)
  omega
/-- the table of distances: sound; complete for so many steps; within a round -/
def FarOk (S : SS) (a : Int) (g : Int → Int) : Prop := ∀ z : Int, 0 ≤ z → z < S 19 0 → g z = 100 ∨ 0 ≤ g z ∧ g z < 100 ∧ Rch S a (g z).toNat z
def FarC (S : SS) (a : Int) (g : Int → Int) (R : Int) : Prop := ∀ m : Nat, (m : Int) ≤ R → ∀ z : Int, Rch S a m z → g z ≤ m
def FarT (S : SS) (g o : Int → Int) (t s : Int) : Prop := (∀ z : Int, 0 ≤ z → z < S 19 0 → g z ≤ o z) ∧ ∀ t' y : Int, 0 ≤ t' → t' < S 21 0 → 0 ≤ y → y < S 19 0 → (t' < t ∨ t' = t ∧ y < s) → inlI S t' y = 1 → g (S 20 (17 * t' + 1)) ≤ o y + 1
theorem far_step {S : SS} {a t s to : Int} {g g' o : Int → Int} (h1 : FarOk S a g) (h2 : FarT S g o t s) (ht : 0 ≤ t ∧ t < S 21 0) (hs : 0 ≤ s ∧ s < S 19 0) (hto : to = S 20 (17 * t + 1)) (htr : 0 ≤ to ∧ to < S 19 0)
    (hg : ∀ z, g' z = if z = to then (if inlI S t s = 1 ∧ g s + 1 < g to then g s + 1 else g to) else g z) : FarOk S a g' ∧ FarT S g' o t (s + 1) := by
  have hle : ∀ z, g' z ≤ g z := fun z => by
    rw [hg z]
    split
    · rename_i e; subst e; split <;> omega
    · exact Int.le_refl _
  have hs1 := h1 s hs.1 hs.2
  refine ⟨fun z z0 z1 => ?_, fun z z0 z1 => Int.le_trans (hle z) (h2.1 z z0 z1), fun t' y t0 t1 y0 y1 hl hi => ?_⟩
  · rw [hg z]
    split
    · rename_i e
      subst e
      split
      · rename_i q
        have hto1 := h1 z z0 z1
        right
        have hgs : 0 ≤ g s ∧ g s < 100 ∧ Rch S a (g s).toNat s := by
          rcases hs1 with h | h
          · omega
          · exact h
        refine ⟨by omega, by omega, ?_⟩
        rw [show (g s + 1).toNat = (g s).toNat + 1 by omega]
        exact ⟨t, s, ht.1, ht.2, hs.1, hs.2, hgs.2.2, q.1, hto⟩
      · exact h1 z z0 z1
    · exact h1 z z0 z1
  · by_cases e : t' = t ∧ y = s
    · obtain ⟨rfl, rfl⟩ := e
      rw [← hto, hg, if_pos rfl]
      have := h2.1 y y0 y1
      split <;> omega
    · exact Int.le_trans (hle _) (h2.2 t' y t0 t1 y0 y1 (by omega) hi)
theorem farT_next {S : SS} {g o : Int → Int} {t s : Int} (h : FarT S g o t s) (hs : S 19 0 ≤ s) : FarT S g o (t + 1) 0 := ⟨h.1, fun t' y t0 t1 y0 y1 hl hi => h.2 t' y t0 t1 y0 y1 (by omega) hi⟩
theorem farC_next {S : SS} (hW : WFs S) {a : Int} (ha : 0 ≤ a ∧ a < S 19 0) {g o : Int → Int} {t R : Int} (h : FarT S g o t 0) (ht : S 21 0 ≤ t) (hC : FarC S a o R) (hR : 0 ≤ R) : FarC S a g (R + 1) := by
  intro m hm z hz
  cases m with
  | zero =>
    have e : z = a := hz
    have := hC 0 (by omega) z hz
    have := h.1 z (by omega) (by omega)
    omega
  | succ m =>
    obtain ⟨t', y, a1, a2, a3, a4, a5, a6, a7⟩ := hz
    have b1 := hC m (by omega) y a5
    have b2 := h.2 t' y a1 a2 a3 a4 (by omega) a6
    rw [a7]
    omega
theorem far_end {S : SS} (hW : WFs S) {a b : Int} (ha : 0 ≤ a ∧ a < S 19 0) (hb : 0 ≤ b ∧ b < S 19 0) {g : Int → Int} (h1 : FarOk S a g) (h2 : FarC S a g (S 19 0)) : stpP S a b (if g b < 100 then g b else -1) := by
  have hst := hW.sts
  rcases h1 b hb.1 hb.2 with h | ⟨g1, g2, g3⟩
  · rw [if_neg (by omega)]
    left
    refine ⟨rfl, fun m hm => ?_⟩
    obtain ⟨d, d1, d2, d3⟩ := rch_short hW ha m hm
    have := h2 d (by omega) b d3
    omega
  · rw [if_pos g2]
    right
    refine ⟨g1, g3, fun m hm hr => ?_⟩
    obtain ⟨d, d1, d2, d3⟩ := rch_short hW ha m hr
    have := h2 d (by omega) b d3
    omega
