set_option linter.unusedVariables false
/-- the present pose is frozen -/
def frzM (S : SS) (P : SP) : Nat → SS
  | 0 => S
  | k + 1 => up2 (up2 (up2 (frzM S P k) 0 (22 + 3 * (k : Int)) (eC P k)) 0 (22 + 3 * (k : Int) + 1) (eT P k)) 0 (22 + 3 * (k : Int) + 2) (eW P k)
def frzY (S : SS) (m : Int) : SS := up2 (up2 (up2 S 0 21 m) 0 20 1) 0 11 (S 0 11 + 1)
def frzS (S : SS) (l : Int) : SS := if l = 2 then cpyS (frzY (frzM S (poseS S) (poseS S).length) (poseS S).length) 16 12 4 else frzY (frzM S (poseS S) (poseS S).length) (poseS S).length
theorem frzM_s {S : SS} {P : SP} {k : Int} (h : 0 ≤ k) : frzM S P (k + 1).toNat = up2 (up2 (up2 (frzM S P k.toNat) 0 (22 + 3 * k) (eC P k)) 0 (22 + 3 * k + 1) (eT P k)) 0 (22 + 3 * k + 2) (eW P k) := by
  rw [show (k + 1).toNat = k.toNat + 1 by omega, frzM, show ((k.toNat : Nat) : Int) = k by omega]
theorem frzM_f {S : SS} {P : SP} {f : Nat} (h : f ≠ 0) : ∀ k : Nat, frzM S P k f = S f
  | 0 => rfl
  | k + 1 => by funext j; rw [frzM, up2_f _ _ _ _ h, up2_f _ _ _ _ h, up2_f _ _ _ _ h]; exact congrFun (frzM_f h k) j
theorem frzM_o {S : SS} {P : SP} {j : Int} : ∀ k : Nat, (j < 22 ∨ 22 + 3 * (k : Int) ≤ j) → frzM S P k 0 j = S 0 j
  | 0, _ => rfl
  | k + 1, h => by rw [frzM, up2_j _ _ _ _ (by omega), up2_j _ _ _ _ (by omega), up2_j _ _ _ _ (by omega)]; exact frzM_o k (by omega)
theorem frzM_i {S : SS} {P : SP} {i : Int} : ∀ k : Nat, (0 ≤ i ∧ i < k) → frzM S P k 0 (22 + 3 * i) = eC P i ∧ frzM S P k 0 (22 + 3 * i + 1) = eT P i ∧ frzM S P k 0 (22 + 3 * i + 2) = eW P i
  | 0, h => by omega
  | k + 1, h => by
    rw [frzM]
    by_cases e : i = k
    · subst e
      refine ⟨?_, ?_, ?_⟩
      · rw [up2_j _ _ _ _ (by omega), up2_j _ _ _ _ (by omega), up2_s]
      · rw [up2_j _ _ _ _ (by omega), up2_s]
      · rw [up2_s]
    · have h2 := frzM_i (S := S) (P := P) (i := i) k (by omega)
      rw [up2_j _ _ _ _ (by omega), up2_j _ _ _ _ (by omega), up2_j _ _ _ _ (by omega), up2_j _ _ _ _ (by omega), up2_j _ _ _ _ (by omega), up2_j _ _ _ _ (by omega), up2_j _ _ _ _ (by omega), up2_j _ _ _ _ (by omega), up2_j _ _ _ _ (by omega)]
      exact h2
theorem frzY_o {S : SS} {m j : Int} (h : j ≠ 11 ∧ j ≠ 20 ∧ j ≠ 21) : frzY S m 0 j = S 0 j := by unfold frzY; rw [up2_j _ _ _ _ (by omega), up2_j _ _ _ _ (by omega), up2_j _ _ _ _ (by omega)]
theorem frzY_f {S : SS} {m : Int} {f : Nat} (h : f ≠ 0) : frzY S m f = S f := by funext j; unfold frzY; rw [up2_f _ _ _ _ h, up2_f _ _ _ _ h, up2_f _ _ _ _ h]
theorem frzY_i (S : SS) (m : Int) : frzY S m 0 11 = S 0 11 + 1 ∧ frzY S m 0 20 = 1 ∧ frzY S m 0 21 = m := by
  unfold frzY
  refine ⟨up2_s _ _ _ _, by rw [up2_j _ _ _ _ (by omega), up2_s], by rw [up2_j _ _ _ _ (by omega), up2_j _ _ _ _ (by omega), up2_s]⟩
theorem frzS_f {S : SS} {l : Int} {f : Nat} (h : f ≠ 0) : frzS S l f = S f := by
  unfold frzS
  split
  · rw [cpyS_f h, frzY_f h, frzM_f h]
  · rw [frzY_f h, frzM_f h]
/-- the frozen pose is the present pose -/
theorem frz_frS {S' : SS} {P : SP} (hl : S' 0 21 = P.length) (h : ∀ i : Int, 0 ≤ i → i < P.length → S' 0 (22 + 3 * i) = eC P i ∧ S' 0 (22 + 3 * i + 1) = eT P i ∧ S' 0 (22 + 3 * i + 2) = eW P i) : frS S' 0 = P := by
  unfold frS
  apply List.ext_getElem?
  intro k
  rw [show (0 : Int) + 21 = 21 by omega, hl, Int.toNat_natCast, List.getElem?_map]
  by_cases e : k < P.length
  · rw [List.getElem?_range e, List.getElem?_eq_getElem e, Option.map_some]
    obtain ⟨a, b, c⟩ := h k (by omega) (by omega)
    rw [show (0 : Int) + 22 + 3 * (k : Int) = 22 + 3 * k by omega, show (0 : Int) + 23 + 3 * (k : Int) = 22 + 3 * k + 1 by omega, show (0 : Int) + 24 + 3 * (k : Int) = 22 + 3 * k + 2 by omega, a, b, c]
    unfold eC eT eW
    rw [Int.toNat_natCast, List.getElem?_eq_getElem e]
  · rw [List.getElem?_eq_none (by rw [List.length_range]; omega), List.getElem?_eq_none (by omega)]; rfl
theorem frzS_ok {S : SS} (hW : WFs S) {T l : Int} (hX : WFm S 0 T) (h8 : S 0 8 = 1) (h11 : S 0 11 < 2) : WFm (frzS S l) 0 T := by
  obtain ⟨hpo, hpl⟩ := poseS_ok hW hX
  have hpe : EOk (poseS S) := PoseB.eok hW (x := 1000000) hpo (Int.le_refl _)
  have x_inn := hX.inn; have x_cuts := hX.cuts; have x_fro := hX.fro; have x_many := hX.many; have x_evn := hX.evn; have x_tks := hX.tks; have x_ta := hX.ta; have x_tb := hX.tb; have x_fz := hX.fz; have x_tbr := hX.tbr; have x_frd := hX.frd; have x_evr := hX.evr; have x_kpt := hX.kpt; have x_vals := hX.vals
  simp only [Int.zero_add] at x_inn x_cuts x_fro x_many x_evn x_tks x_ta x_tb x_fz x_tbr x_frd x_evr x_kpt x_vals
  obtain ⟨Pz, hP⟩ : ∃ z, z = poseS S := ⟨_, rfl⟩
  unfold frzS
  rw [← hP] at hpo hpl hpe ⊢
  have hl32 : (Pz.length : Int) ≤ 32 := by omega
  obtain ⟨S1, hS1⟩ : ∃ z : SS, z = frzY (frzM S Pz Pz.length) Pz.length := ⟨_, rfl⟩
  rw [← hS1]
  have f1 : ∀ f : Nat, f ≠ 0 → S1 f = S f := fun f h => by rw [hS1, frzY_f h, frzM_f h]
  have o1 : ∀ j : Int, j ≠ 11 → j ≠ 20 → j < 21 ∨ 118 ≤ j → S1 0 j = S 0 j := fun j h1 h2 h3 => by rw [hS1, frzY_o (by omega), frzM_o _ (by omega)]
  obtain ⟨a11, a20, a21⟩ := frzY_i (frzM S Pz Pz.length) Pz.length
  rw [← hS1, frzM_o _ (by omega)] at a11
  rw [← hS1] at a20 a21
  have hfr : frS S1 0 = Pz := frz_frS a21 (fun i i0 i1 => by rw [hS1, frzY_o (by omega), frzY_o (by omega), frzY_o (by omega)]; exact frzM_i _ ⟨i0, i1⟩)
  have tbx := x_tb h8
  have hX1 : WFm S1 0 T := by
    refine WFm.z ?_ ?_ ?_ ?_ ?_ ?_ (fun z => ?_) (fun z => ?_) (fun z => ?_) ?_ ?_ (fun j j0 j1 => ?_) ?_ (fun p p0 p1 => ?_)
    · rw [o1 8 (by omega) (by omega) (by omega), f1 19 (by decide)]; exact x_inn
    · omega
    · rw [o1 8 (by omega) (by omega) (by omega)]; omega
    · omega
    · rw [o1 166 (by omega) (by omega) (by omega)]; exact x_evn
    · rw [o1 287 (by omega) (by omega) (by omega)]; exact x_tks
    · rw [f1 19 (by decide)] at z
      exact (x_ta z).at (o1 12 (by omega) (by omega) (by omega)) (o1 _ (by omega) (by omega) (by omega)) (o1 _ (by omega) (by omega) (by omega)) (o1 _ (by omega) (by omega) (by omega)) (f1 19 (by decide)) (f1 17 (by decide))
    · rw [o1 9 (by omega) (by omega) (by omega), o1 10 (by omega) (by omega) (by omega), f1 21 (by decide), f1 20 (by decide)]
      exact ⟨tbx.1.at (o1 16 (by omega) (by omega) (by omega)) (o1 _ (by omega) (by omega) (by omega)) (o1 _ (by omega) (by omega) (by omega)) (o1 _ (by omega) (by omega) (by omega)) (f1 19 (by decide)) (f1 17 (by decide)), tbx.2⟩
    · rw [hfr]; exact hpo.ext (by rw [f1 8 (by decide)]; omega)
    · rw [o1 17 (by omega) (by omega) (by omega), o1 18 (by omega) (by omega) (by omega), o1 19 (by omega) (by omega) (by omega)]; exact x_tbr
    · rw [o1 288 (by omega) (by omega) (by omega)]; exact x_frd
    · rw [o1 166 (by omega) (by omega) (by omega)] at j1
      rw [o1 _ (by omega) (by omega) (by omega)]; exact x_evr j j0 j1
    · rw [o1 289 (by omega) (by omega) (by omega)]; exact x_kpt
    · rw [o1 p (by omega) (by omega) (by omega)]; exact x_vals p p0 p1
  split
  · have hX := hX1
    have x_inn := hX.inn; have x_cuts := hX.cuts; have x_fro := hX.fro; have x_many := hX.many; have x_evn := hX.evn; have x_tks := hX.tks; have x_ta := hX.ta; have x_tb := hX.tb; have x_fz := hX.fz; have x_tbr := hX.tbr; have x_frd := hX.frd; have x_evr := hX.evr; have x_kpt := hX.kpt; have x_vals := hX.vals
    simp only [Int.zero_add] at x_inn x_cuts x_fro x_many x_evn x_tks x_ta x_tb x_fz x_tbr x_frd x_evr x_kpt x_vals
    have f2 : ∀ f : Nat, f ≠ 0 → cpyS S1 16 12 4 f = S1 f := fun f h => cpyS_f h
    have o2 : ∀ j : Int, j < 12 ∨ 16 ≤ j → cpyS S1 16 12 4 0 j = S1 0 j := fun j h => cpyS_r (by omega) 0
    have i2 : ∀ j : Int, 0 ≤ j → j < 4 → cpyS S1 16 12 4 0 (12 + j) = S1 0 (16 + j) := fun j h1 h2 => by rw [cpyS_i (by omega)]; congr 1; omega
    have z8 : S1 0 8 = 1 := by rw [o1 8 (by omega) (by omega) (by omega)]; exact h8
    have tb1 := x_tb z8
    refine WFm.z ?_ ?_ ?_ ?_ ?_ ?_ (fun z => ?_) (fun z => ?_) (fun z => ?_) ?_ ?_ (fun j j0 j1 => ?_) ?_ (fun p p0 p1 => ?_)
    · rw [o2 8 (by omega), f2 19 (by decide)]; exact x_inn
    · rw [o2 11 (by omega)]; exact x_cuts
    · rw [o2 8 (by omega), o2 20 (by omega)]; exact x_fro
    · rw [o2 11 (by omega), o2 21 (by omega)]; exact x_many
    · rw [o2 166 (by omega)]; exact x_evn
    · rw [o2 287 (by omega)]; exact x_tks
    · exact tb1.1.at (i2 0 (by omega) (by omega)) (i2 1 (by omega) (by omega)) (i2 2 (by omega) (by omega)) (i2 3 (by omega) (by omega)) (f2 19 (by decide)) (f2 17 (by decide))
    · rw [o2 9 (by omega), o2 10 (by omega), f2 21 (by decide), f2 20 (by decide)]
      exact ⟨tb1.1.at (o2 16 (by omega)) (o2 _ (by omega)) (o2 _ (by omega)) (o2 _ (by omega)) (f2 19 (by decide)) (f2 17 (by decide)), tb1.2⟩
    · rw [o2 20 (by omega)] at z
      rw [frS_eq (S := S1) (fun j h => o2 j (by omega))]
      exact (x_fz z).ext (by rw [f2 8 (by decide)]; omega)
    · rw [o2 17 (by omega), o2 18 (by omega), o2 19 (by omega)]; exact x_tbr
    · rw [o2 288 (by omega)]; exact x_frd
    · rw [o2 166 (by omega)] at j1
      rw [o2 _ (by omega)]; exact x_evr j j0 j1
    · rw [o2 289 (by omega)]; exact x_kpt
    · rw [o2 p (by omega)]; exact x_vals p p0 p1
  · exact hX1
