set_option linter.unusedVariables false
/-- a place of the cycle is crossed -/
def crossI (z be fr af ag : Int) : Int := if (if ag ≠ 0 ∧ (if fr ≠ 0 then be else be + 1) > z then ((if fr ≠ 0 then be else be + 1) - z + 1000000 - 1) / 1000000 else 0) * 1000000 + z ≥ (if fr ≠ 0 then be else be + 1) ∧ (if ag ≠ 0 ∧ (if fr ≠ 0 then be else be + 1) > z then ((if fr ≠ 0 then be else be + 1) - z + 1000000 - 1) / 1000000 else 0) * 1000000 + z ≤ af then 1 else 0
theorem crossI_01 (z be fr af ag : Int) : crossI z be fr af ag = 0 ∨ crossI z be fr af ag = 1 := by unfold crossI; generalize (if ag ≠ 0 ∧ (if fr ≠ 0 then be else be + 1) > z then ((if fr ≠ 0 then be else be + 1) - z + 1000000 - 1) / 1000000 else 0) * 1000000 + z = q; split <;> omega
/-- the log's first entry falls; an entry is noted -/
def shfS (S : SS) (k : Int) : SS := fun f j => if f = 0 ∧ 167 ≤ j ∧ j < 167 + k then S 0 (j + 4) else S f j
theorem shfS_0 (S : SS) : shfS S 0 = S := by funext f j; unfold shfS; rw [if_neg (by omega)]
theorem shfS_s {S : SS} {k : Int} (h : 0 ≤ k) : up2 (shfS S k) 0 (167 + k) (shfS S k 0 (167 + k + 4)) = shfS S (k + 1) := by
  funext f j
  unfold up2 shfS
  by_cases e : f = 0 ∧ j = 167 + k
  · rw [if_pos e, if_neg (show ¬ ((0 : Nat) = 0 ∧ 167 ≤ 167 + k + 4 ∧ 167 + k + 4 < 167 + k) by omega), if_pos (show f = 0 ∧ 167 ≤ j ∧ j < 167 + (k + 1) by omega), e.2]
  · rw [if_neg e]
    by_cases e2 : f = 0 ∧ 167 ≤ j ∧ j < 167 + k
    · rw [if_pos e2, if_pos (by omega)]
    · rw [if_neg e2, if_neg (by omega)]
def noteA (S : SS) : SS := if S 0 166 = 30 then up2 (shfS S 116) 0 166 (shfS S 116 0 166 - 1) else S
def noteX (S : SS) (tk id c st : Int) : SS := up2 (up2 (up2 (up2 S 0 (167 + 4 * S 0 166) tk) 0 (167 + 4 * S 0 166 + 1) id) 0 (167 + 4 * S 0 166 + 2) c) 0 (167 + 4 * S 0 166 + 3) st
def noteY (S : SS) : SS := up2 S 0 166 (S 0 166 + 1)
def noteZ (S : SS) : SS := up2 S 0 288 (S 0 288 + 1)
def noteS (S : SS) (tk id c st : Int) : SS := noteZ (noteY (noteX (noteA S) tk id c st))
theorem noteA_f {S : SS} {f : Nat} (h : f ≠ 0) : noteA S f = S f := by
  unfold noteA
  split
  · funext j; rw [up2_f _ _ _ _ h]; unfold shfS; rw [if_neg (fun z => h z.1)]
  · rfl
theorem noteA_o {S : SS} {j : Int} (h : j < 166 ∨ 283 ≤ j) : noteA S 0 j = S 0 j := by
  unfold noteA
  split
  · rw [up2_j _ _ _ _ (by omega)]; unfold shfS; rw [if_neg (by omega)]
  · rfl
theorem noteX_o {S : SS} {tk id c st j : Int} (h : j < 167 + 4 * S 0 166 ∨ 167 + 4 * S 0 166 + 3 < j) : noteX S tk id c st 0 j = S 0 j := by
  unfold noteX
  rw [up2_j _ _ _ _ (by omega), up2_j _ _ _ _ (by omega), up2_j _ _ _ _ (by omega), up2_j _ _ _ _ (by omega)]
theorem noteS_f {S : SS} {tk id c st : Int} {f : Nat} (h : f ≠ 0) : noteS S tk id c st f = S f := by
  funext j
  unfold noteS noteZ noteY noteX
  rw [up2_f _ _ _ _ h, up2_f _ _ _ _ h, up2_f _ _ _ _ h, up2_f _ _ _ _ h, up2_f _ _ _ _ h, up2_f _ _ _ _ h, noteA_f h]
/-- a log in order: U bounds its entries, V how many fired -/
def LogOk (S : SS) (U V : Int) : Prop := (0 ≤ S 0 166 ∧ S 0 166 ≤ 30) ∧ (∀ j : Int, 0 ≤ j → j < 4 * S 0 166 → 0 ≤ S 0 (167 + j) ∧ S 0 (167 + j) ≤ U) ∧ 0 ≤ S 0 288 ∧ S 0 288 ≤ V
theorem LogOk.mono {S : SS} {U V U' V' : Int} (h : LogOk S U V) (h1 : U ≤ U') (h2 : V ≤ V') : LogOk S U' V' := ⟨h.1, fun j a b => by have := h.2.1 j a b; omega, by have := h.2.2; omega⟩
theorem noteA_ok {S : SS} {U V : Int} (h : LogOk S U V) : LogOk (noteA S) U V ∧ noteA S 0 166 ≤ 29 := by
  obtain ⟨h1, h2, h3⟩ := h
  have e288 : noteA S 0 288 = S 0 288 := noteA_o (by omega)
  unfold LogOk
  rw [e288]
  unfold noteA
  by_cases e : S 0 166 = 30
  · have e1 : shfS S 116 0 166 = 30 := by unfold shfS; rw [if_neg (by omega)]; exact e
    rw [if_pos e, up2_s, e1]
    refine ⟨⟨by omega, fun j a b => ?_, h3⟩, by omega⟩
    rw [up2_j _ _ _ _ (by omega)]
    unfold shfS
    rw [if_pos (by omega), show 167 + j + 4 = 167 + (j + 4) by omega]
    exact h2 _ (by omega) (by omega)
  · rw [if_neg e]
    exact ⟨⟨h1, h2, h3⟩, by omega⟩
theorem noteA_29 {S : SS} (h : 0 ≤ S 0 166 ∧ S 0 166 ≤ 30) : 0 ≤ noteA S 0 166 ∧ noteA S 0 166 ≤ 29 := by
  unfold noteA
  split
  · have e1 : shfS S 116 0 166 = S 0 166 := by unfold shfS; rw [if_neg (by omega)]
    rw [up2_s, e1]; omega
  · omega
theorem noteS_ev {S : SS} {tk id c st : Int} (h : 0 ≤ S 0 166 ∧ S 0 166 ≤ 30) : 0 ≤ noteS S tk id c st 0 166 ∧ noteS S tk id c st 0 166 ≤ 30 := by
  have h2 := noteA_29 h
  unfold noteS noteZ noteY
  rw [up2_j _ _ _ _ (by omega), up2_s, noteX_o (by omega)]
  omega
theorem noteS_ok {S : SS} {U V tk id c st : Int} (h : LogOk S U V) (h1 : 0 ≤ tk ∧ tk ≤ U) (h2 : 0 ≤ id ∧ id ≤ U) (h3 : 0 ≤ c ∧ c ≤ U) (h4 : 0 ≤ st ∧ st ≤ U) : LogOk (noteS S tk id c st) U (V + 1) := by
  obtain ⟨⟨g1, g2, g3⟩, g4⟩ := noteA_ok h
  obtain ⟨R, hR⟩ : ∃ z, z = noteA S := ⟨_, rfl⟩
  unfold noteS
  rw [← hR] at g1 g2 g3 g4 ⊢
  have e1 : noteX R tk id c st 0 166 = R 0 166 := noteX_o (by omega)
  have e2 : noteX R tk id c st 0 288 = R 0 288 := noteX_o (by omega)
  have y1 : noteY (noteX R tk id c st) 0 166 = R 0 166 + 1 := by unfold noteY; rw [up2_s, e1]
  have y2 : noteY (noteX R tk id c st) 0 288 = R 0 288 := by unfold noteY; rw [up2_j _ _ _ _ (by omega), e2]
  have z1 : noteZ (noteY (noteX R tk id c st)) 0 166 = R 0 166 + 1 := by unfold noteZ; rw [up2_j _ _ _ _ (by omega), y1]
  have z2 : noteZ (noteY (noteX R tk id c st)) 0 288 = R 0 288 + 1 := by unfold noteZ; rw [up2_s, y2]
  unfold LogOk
  rw [z1, z2]
  refine ⟨by omega, fun j a b => ?_, by omega⟩
  unfold noteZ noteY
  rw [up2_j _ _ _ _ (by omega), up2_j _ _ _ _ (by omega)]
  by_cases q : j < 4 * R 0 166
  · rw [noteX_o (by omega)]; exact g2 j a q
  · unfold noteX up2
    (repeat' split) <;> first | assumption | omega
theorem noteS_o {S : SS} {U V tk id c st j : Int} (h : LogOk S U V) (hj : j < 166 ∨ j = 287 ∨ 289 ≤ j) : noteS S tk id c st 0 j = S 0 j := by
  obtain ⟨⟨g1, -⟩, g4⟩ := noteA_ok h
  unfold noteS noteZ noteY
  rw [up2_j _ _ _ _ (by omega), up2_j _ _ _ _ (by omega), noteX_o (by omega), noteA_o (by omega)]
/-- a clip is heard; the events of a clip; of all clips -/
def hrdI (S : SS) (st sh c : Int) : Int := if wt S 4 (S 15 st) sh c > 0 ∧ wt S 4 (S 15 st) sh c * 100 ≥ S 22 0 * 1000000 then 1 else 0
def firK (S : SS) (c st be fr af tk : Int) : Nat → SS
  | 0 => S
  | k + 1 => if crossI (firK S c st be fr af tk k 6 (5 * c + k) * 1000000 / firK S c st be fr af tk k 4 c) be fr af (firK S c st be fr af tk k 17 st) = 1 then noteS (firK S c st be fr af tk k) tk (firK S c st be fr af tk k 7 (5 * c + k)) c st else firK S c st be fr af tk k
def firC (S : SS) (st be fr af sh tk : Int) : Nat → SS
  | 0 => S
  | c + 1 => if hrdI S st sh c = 1 then firK (firC S st be fr af sh tk c) c st be fr af tk (S 5 c).toNat else firC S st be fr af sh tk c
def firS (S : SS) (st be fr af sh tk : Int) : SS := firC S st be fr af sh tk (S 8 0).toNat
theorem hrdI_01 (S : SS) (st sh c : Int) : hrdI S st sh c = 0 ∨ hrdI S st sh c = 1 := by unfold hrdI; split <;> omega
theorem firK_s {S : SS} {c st be fr af tk k : Int} (h : 0 ≤ k) : firK S c st be fr af tk (k + 1).toNat = if crossI (firK S c st be fr af tk k.toNat 6 (5 * c + k) * 1000000 / firK S c st be fr af tk k.toNat 4 c) be fr af (firK S c st be fr af tk k.toNat 17 st) = 1 then noteS (firK S c st be fr af tk k.toNat) tk (firK S c st be fr af tk k.toNat 7 (5 * c + k)) c st else firK S c st be fr af tk k.toNat := by
  rw [show (k + 1).toNat = k.toNat + 1 by omega, firK, show ((k.toNat : Nat) : Int) = k by omega]
theorem firC_s {S : SS} {st be fr af sh tk c : Int} (h : 0 ≤ c) : firC S st be fr af sh tk (c + 1).toNat = if hrdI S st sh c = 1 then firK (firC S st be fr af sh tk c.toNat) c st be fr af tk (S 5 c).toNat else firC S st be fr af sh tk c.toNat := by
  rw [show (c + 1).toNat = c.toNat + 1 by omega, firC, show ((c.toNat : Nat) : Int) = c by omega]
theorem firK_f {S : SS} {c st be fr af tk : Int} {f : Nat} (h : f ≠ 0) : ∀ k : Nat, firK S c st be fr af tk k f = S f
  | 0 => rfl
  | k + 1 => by
    rw [firK]
    split
    · rw [noteS_f h, firK_f h k]
    · exact firK_f h k
theorem firC_f {S : SS} {st be fr af sh tk : Int} {f : Nat} (h : f ≠ 0) : ∀ c : Nat, firC S st be fr af sh tk c f = S f
  | 0 => rfl
  | c + 1 => by
    rw [firC]
    split
    · rw [firK_f h, firC_f h c]
    · exact firC_f h c
theorem firS_f {S : SS} {st be fr af sh tk : Int} {f : Nat} (h : f ≠ 0) : firS S st be fr af sh tk f = S f := firC_f h _
theorem firK_ok {S S0 : SS} (hW : WFs S0) (hf : ∀ f : Nat, f ≠ 0 → S f = S0 f) {c st be fr af tk U V : Int} (hc : 0 ≤ c ∧ c < S0 8 0) (hst : 0 ≤ st ∧ st < S0 19 0) (hU : 99 ≤ U) (ht : 0 ≤ tk ∧ tk ≤ U) (h : LogOk S U V) : ∀ k : Nat, (k : Int) ≤ S0 5 c → LogOk (firK S c st be fr af tk k) U (V + k) ∧ ∀ j : Int, (j < 166 ∨ j = 287 ∨ 289 ≤ j) → firK S c st be fr af tk k 0 j = S 0 j
  | 0, _ => ⟨by rw [firK]; exact h.mono (Int.le_refl _) (by omega), fun _ _ => rfl⟩
  | k + 1, hk => by
    obtain ⟨h1, h2⟩ := firK_ok hW hf (be := be) (fr := fr) (af := af) hc hst hU ht h k (by omega)
    have w1 := hW.clips
    have w2 := hW.sts
    have w3 := hW.evt c k hc.1 hc.2 (by omega) (by omega)
    rw [firK]
    split
    · have e7 : firK S c st be fr af tk k 7 = S0 7 := by rw [firK_f (by decide), hf 7 (by decide)]
      refine ⟨(noteS_ok h1 ht (by rw [e7]; omega) (by omega) (by omega)).mono (Int.le_refl _) (by omega), fun j hj => ?_⟩
      rw [noteS_o h1 hj, h2 j hj]
    · exact ⟨h1.mono (Int.le_refl _) (by omega), h2⟩
theorem firC_ok {S : SS} (hW : WFs S) {st be fr af sh tk U V : Int} (hst : 0 ≤ st ∧ st < S 19 0) (hU : 99 ≤ U) (ht : 0 ≤ tk ∧ tk ≤ U) (h : LogOk S U V) : ∀ c : Nat, (c : Int) ≤ S 8 0 → LogOk (firC S st be fr af sh tk c) U (V + 5 * c) ∧ ∀ j : Int, (j < 166 ∨ j = 287 ∨ 289 ≤ j) → firC S st be fr af sh tk c 0 j = S 0 j
  | 0, _ => ⟨by rw [firC]; exact h.mono (Int.le_refl _) (by omega), fun _ _ => rfl⟩
  | c + 1, hc => by
    obtain ⟨h1, h2⟩ := firC_ok hW (be := be) (fr := fr) (af := af) (sh := sh) hst hU ht h c (by omega)
    have w1 := hW.clips
    have w3 := hW.evs c (by omega) (by omega)
    rw [firC]
    split
    · obtain ⟨h3, h4⟩ := firK_ok hW (fun f hf => firC_f hf c) (be := be) (fr := fr) (af := af) (c := c) ⟨by omega, by omega⟩ hst hU ht h1 (S 5 c).toNat (by omega)
      exact ⟨h3.mono (Int.le_refl _) (by omega), fun j hj => by rw [h4 j hj, h2 j hj]⟩
    · exact ⟨h1.mono (Int.le_refl _) (by omega), h2⟩
theorem firS_ok {S : SS} (hW : WFs S) {st be fr af sh tk U V : Int} (hst : 0 ≤ st ∧ st < S 19 0) (hU : 99 ≤ U) (ht : 0 ≤ tk ∧ tk ≤ U) (h : LogOk S U V) : LogOk (firS S st be fr af sh tk) U (V + 60) ∧ ∀ j : Int, (j < 166 ∨ j = 287 ∨ 289 ≤ j) → firS S st be fr af sh tk 0 j = S 0 j := by
  have w1 := hW.clips
  obtain ⟨h1, h2⟩ := firC_ok hW (be := be) (fr := fr) (af := af) (sh := sh) hst hU ht h (S 8 0).toNat (by omega)
  exact ⟨h1.mono (Int.le_refl _) (by omega), h2⟩
