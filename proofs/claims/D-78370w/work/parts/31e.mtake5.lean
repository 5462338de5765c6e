set_option linter.unusedVariables false
/-- the triggers of a transition's first k conditions are reset -/
def rsT (S : SS) (t : Int) : Nat → SS
  | 0 => S
  | k + 1 => up2 (rsT S t k) 0 (rsT S t k 20 (17 * t + 8 + 3 * (k : Int))) (if rsT S t k 2 (rsT S t k 20 (17 * t + 8 + 3 * (k : Int))) = 2 then 0 else rsT S t k 0 (rsT S t k 20 (17 * t + 8 + 3 * (k : Int))))
theorem rsT_s {S : SS} {t k : Int} (h : 0 ≤ k) : rsT S t (k + 1).toNat = up2 (rsT S t k.toNat) 0 (rsT S t k.toNat 20 (17 * t + 8 + 3 * k)) (if rsT S t k.toNat 2 (rsT S t k.toNat 20 (17 * t + 8 + 3 * k)) = 2 then 0 else rsT S t k.toNat 0 (rsT S t k.toNat 20 (17 * t + 8 + 3 * k))) := by
  rw [show (k + 1).toNat = k.toNat + 1 by omega, rsT, show ((k.toNat : Nat) : Int) = k by omega]
theorem rsT_f {S : SS} {t : Int} {f : Nat} (h : f ≠ 0) : ∀ k : Nat, rsT S t k f = S f
  | 0 => rfl
  | k + 1 => by funext j; rw [rsT, up2_f _ _ _ _ h]; exact congrFun (rsT_f h k) j
theorem rsT_in {S : SS} (hW : WFs S) (hv : WFv S) {t : Int} (ht : 0 ≤ t ∧ t < S 21 0) : ∀ k : Nat, (k : Int) ≤ S 20 (17 * t + 7) → (∀ j : Int, 8 ≤ j → rsT S t k 0 j = S 0 j) ∧ WFv (rsT S t k)
  | 0, _ => ⟨fun _ _ => rfl, hv⟩
  | k + 1, hk => by
    obtain ⟨h1, h2⟩ := rsT_in hW hv ht k (by omega)
    have wc := hW.cond t k ht.1 ht.2 (by omega) (by omega)
    have wp := hW.par
    rw [rsT]
    have e20 : rsT S t k 20 = S 20 := rsT_f (by decide) k
    rw [e20]
    refine ⟨fun j hj => by rw [up2_j _ _ _ _ (by omega)]; exact h1 j hj, fun p p0 p1 => ?_⟩
    by_cases e : p = S 20 (17 * t + 8 + 3 * (k : Int))
    · subst e
      rw [up2_s]
      have := h2 _ p0 p1
      split <;> omega
    · rw [up2_j _ _ _ _ e]; exact h2 p p0 p1
theorem rsT_ok {S : SS} (hW : WFs S) {T t : Int} (hX : WFm S 0 T) (ht : 0 ≤ t ∧ t < S 21 0) (k : Nat) (hk : (k : Int) ≤ S 20 (17 * t + 7)) : WFm (rsT S t k) 0 T := by
  obtain ⟨h1, h2⟩ := rsT_in hW hX.v ht k hk
  refine hX.ext (Int.le_refl _) (fun j a b => by rw [Int.zero_add]; exact h1 j a) (fun p a b => by rw [Int.zero_add]; exact h2 p a b) ?_ ?_ ?_ ?_ ?_ ?_
  · rw [rsT_f (by decide)]; exact Int.le_refl _
  · rw [rsT_f (by decide)]; exact fun z => z
  · rw [rsT_f (by decide)]; exact Int.le_refl _
  · rw [rsT_f (by decide)]; exact Int.le_refl _
  · intro s _ _; rw [rsT_f (by decide)]
  · intro s _ _; rw [rsT_f (by decide)]
/-- the machine takes its first possible candidate (1), or none (0) -/
def takL (S : SS) : Int := if S 0 8 = 1 ∧ S 20 (17 * S 0 9 + 5) = 4 then 2 else 1
def takl (S : SS) : Int := if fstS S (takL S) = -1 then 3 - takL S else takL S
def takt (S : SS) : Int := if fstS S (takL S) = -1 then fstS S (3 - takL S) else fstS S (takL S)
def takB (S : SS) (l : Int) : SS := if S 0 8 = 1 then frzS S l else up2 (up2 (up2 S 0 11 0) 0 20 0) 0 21 0
def takR (S : SS) : SS := rsT S (takt S) (S 20 (17 * takt S + 7)).toNat
def takS (S : SS) : Int × SS := if takt S = -1 then (0, S) else (1, goS (takB (takR S) (takl S)) (takt S))
theorem takL_12 (S : SS) : takL S = 1 ∨ takL S = 2 := by unfold takL; split <;> omega
theorem takt_in (S : SS) : (takl S = 1 ∨ takl S = 2) ∧ (takt S = -1 ∨ 0 ≤ takt S ∧ takt S < S 21 0 ∧ lstS S (takt S) = takl S ∧ agS S (takt S) (takl S) = 0) := by
  have h := takL_12 S
  unfold takl takt
  split
  · exact ⟨by omega, fstS_in S _⟩
  · exact ⟨by omega, fstS_in S _⟩
theorem takB_f {S : SS} {l : Int} {f : Nat} (h : f ≠ 0) : takB S l f = S f := by
  unfold takB
  split
  · exact frzS_f h
  · funext j; rw [up2_f _ _ _ _ h, up2_f _ _ _ _ h, up2_f _ _ _ _ h]
theorem takB_ok {S : SS} (hW : WFs S) {T l : Int} (hX : WFm S 0 T) (h11 : S 0 8 = 1 → S 0 11 < 2) : WFm (takB S l) 0 T := by
  unfold takB
  split
  · rename_i h; exact frzS_ok hW hX h (h11 h)
  · rename_i h8
    have x_inn := hX.inn; have x_cuts := hX.cuts; have x_fro := hX.fro; have x_many := hX.many; have x_evn := hX.evn; have x_tks := hX.tks; have x_ta := hX.ta; have x_tb := hX.tb; have x_fz := hX.fz; have x_tbr := hX.tbr; have x_frd := hX.frd; have x_evr := hX.evr; have x_kpt := hX.kpt; have x_vals := hX.vals
    simp only [Int.zero_add] at x_inn x_cuts x_fro x_many x_evn x_tks x_ta x_tb x_fz x_tbr x_frd x_evr x_kpt x_vals
    have o1 : ∀ j : Int, j ≠ 11 → j ≠ 20 → j ≠ 21 → up2 (up2 (up2 S 0 11 0) 0 20 0) 0 21 0 0 j = S 0 j := fun j a b c => by rw [up2_j _ _ _ _ c, up2_j _ _ _ _ b, up2_j _ _ _ _ a]
    have f1 : ∀ f : Nat, f ≠ 0 → up2 (up2 (up2 S 0 11 0) 0 20 0) 0 21 0 f = S f := fun f h => by funext j; rw [up2_f _ _ _ _ h, up2_f _ _ _ _ h, up2_f _ _ _ _ h]
    have v11 : up2 (up2 (up2 S 0 11 0) 0 20 0) 0 21 0 0 11 = 0 := by rw [up2_j _ _ _ _ (by omega), up2_j _ _ _ _ (by omega), up2_s]
    have v20 : up2 (up2 (up2 S 0 11 0) 0 20 0) 0 21 0 0 20 = 0 := by rw [up2_j _ _ _ _ (by omega), up2_s]
    have v21 : up2 (up2 (up2 S 0 11 0) 0 20 0) 0 21 0 0 21 = 0 := up2_s _ _ _ _
    obtain ⟨S1, hS1⟩ : ∃ z : SS, z = up2 (up2 (up2 S 0 11 0) 0 20 0) 0 21 0 := ⟨_, rfl⟩
    rw [← hS1] at o1 f1 v11 v20 v21 ⊢
    have w8 := o1 8 (by omega) (by omega) (by omega)
    refine WFm.z ?_ ?_ ?_ ?_ ?_ ?_ (fun z => ?_) (fun z => ?_) (fun z => ?_) ?_ ?_ (fun j j0 j1 => ?_) ?_ (fun p p0 p1 => ?_)
    · left; omega
    · omega
    · left; exact v20
    · omega
    · rw [o1 166 (by omega) (by omega) (by omega)]; exact x_evn
    · rw [o1 287 (by omega) (by omega) (by omega)]; exact x_tks
    · rw [f1 19 (by decide)] at z
      exact (x_ta z).at (o1 12 (by omega) (by omega) (by omega)) (o1 _ (by omega) (by omega) (by omega)) (o1 _ (by omega) (by omega) (by omega)) (o1 _ (by omega) (by omega) (by omega)) (f1 19 (by decide)) (f1 17 (by decide))
    · omega
    · omega
    · rw [o1 17 (by omega) (by omega) (by omega), o1 18 (by omega) (by omega) (by omega), o1 19 (by omega) (by omega) (by omega)]; exact x_tbr
    · rw [o1 288 (by omega) (by omega) (by omega)]; exact x_frd
    · rw [o1 166 (by omega) (by omega) (by omega)] at j1
      rw [o1 _ (by omega) (by omega) (by omega)]; exact x_evr j j0 j1
    · rw [o1 289 (by omega) (by omega) (by omega)]; exact x_kpt
    · rw [o1 p (by omega) (by omega) (by omega)]; exact x_vals p p0 p1
theorem takS_f {S : SS} {f : Nat} (h : f ≠ 0) : (takS S).2 f = S f := by
  unfold takS
  split
  · rfl
  · show goS _ _ f = S f
    rw [goS_f h, takB_f h, takR, rsT_f h]
theorem takR_ok {S : SS} (hW : WFs S) {T : Int} (hX : WFm S 0 T) (ht : takt S ≠ -1) : WFm (takR S) 0 T ∧ (takR S 0 8 = 1 → takR S 0 11 < 2) := by
  obtain ⟨h1, h2⟩ := takt_in S
  rcases h2 with h2 | ⟨h2, h3, h4, h5⟩
  · exact absurd h2 ht
  · have wt := hW.tr (takt S) h2 h3
    unfold takR
    refine ⟨rsT_ok hW hX ⟨h2, h3⟩ _ (by omega), fun z => ?_⟩
    have hi := (rsT_in hW hX.v ⟨h2, h3⟩ (S 20 (17 * takt S + 7)).toNat (by omega)).1
    rw [hi 8 (by omega)] at z
    rw [hi 11 (by omega)]
    exact (lstS_in (S := S) (t := takt S) (by omega) (by omega)).1
theorem takS_ok {S : SS} (hW : WFs S) {T : Int} (hX : WFm S 0 T) (hT : 0 ≤ T) : WFm (takS S).2 0 T := by
  unfold takS
  split
  · exact hX
  · rename_i ht
    obtain ⟨h1, h2⟩ := takt_in S
    rcases h2 with h2 | ⟨h2, h3, h4, h5⟩
    · exact absurd h2 ht
    · obtain ⟨g1, g2⟩ := takR_ok hW hX ht
      have hWR : WFs (takR S) := hW.congr (fun f h => by rw [takR, rsT_f h])
      have hWB : WFs (takB (takR S) (takl S)) := hWR.congr (fun f h => takB_f h)
      exact goS_ok hWB (takB_ok hWR g1 g2) hT ⟨h2, by rw [takB_f (by decide), takR, rsT_f (by decide)]; exact h3⟩
