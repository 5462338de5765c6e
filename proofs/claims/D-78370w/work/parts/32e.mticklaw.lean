set_option linter.unusedVariables false
/-- a tick -/
def frI (x : Int) : Int := if x = 1 then 1 else 0
theorem frI_01 (x : Int) : frI x = 0 ∨ frI x = 1 := by unfold frI; split <;> omega
def tkA (S : SS) : SS := up2 S 0 287 (S 0 287 + 1)
def tak4 (S : SS) : Nat → SS
  | 0 => S
  | k + 1 => (takS (tak4 S k)).2
def tik1 (S : SS) : SS := advS S 12 (stpS S (S 0 12))
def tikA (S : SS) : SS := firS (tik1 S) (S 0 12) (prgS S 12) (frI (S 0 15)) (prgS (tik1 S) 12) 1000000 (tik1 S 0 287)
def tik6 (S : SS) : SS := up2 (bthS S) 0 10 (bthS S 0 10 + 1)
def tik7 (S : SS) : SS := if tik6 S 0 10 = tik6 S 20 (17 * tik6 S 0 9 + 2) then endS (tik6 S) else tik6 S
def tik8 (S : SS) : SS := if S 0 20 = 0 then firS (tik7 S) (S 0 12) (prgS S 12) (frI (S 0 15)) (prgS (bthS S) 12) (1000000 - shS (tik6 S)) (tik7 S 0 287) else tik7 S
def tikB (S : SS) : SS := firS (tik8 S) (S 0 16) (prgS S 16) (frI (S 0 19)) (prgS (bthS S) 16) (shS (tik6 S)) (tik8 S 0 287)
def tikC (S : SS) : SS := if S 0 8 = 0 then tikA S else tikB S
def tikS (S : SS) : SS := tikC (tak4 (tkA S) 4)
theorem tkA_f {S : SS} {f : Nat} (h : f ≠ 0) : tkA S f = S f := by funext j; exact up2_f _ _ _ _ h
theorem tkA_o {S : SS} {j : Int} (h : j ≠ 287) : tkA S 0 j = S 0 j := up2_j _ _ _ _ h
theorem tak4_f {S : SS} {f : Nat} (h : f ≠ 0) : ∀ k : Nat, tak4 S k f = S f
  | 0 => rfl
  | k + 1 => by rw [tak4, takS_f h, tak4_f h k]
theorem tak4_s {S : SS} {k : Int} (h : 0 ≤ k) : tak4 S (k + 1).toNat = (takS (tak4 S k.toNat)).2 := by
  rw [show (k + 1).toNat = k.toNat + 1 by omega, tak4]
theorem tak4_ok {S : SS} (hW : WFs S) {T : Int} (hX : WFm S 0 T) (hT : 0 ≤ T) : ∀ k : Nat, WFm (tak4 S k) 0 T
  | 0 => hX
  | k + 1 => takS_ok (hW.congr (fun f h => tak4_f h k)) (tak4_ok hW hX hT k) hT
/-- what a machine's track fields, elapsed time and log may do -/
theorem WFm.up {S S' : SS} {T T' : Int} (hX : WFm S 0 T) (hT : T ≤ T') (hf : ∀ f : Nat, f ≠ 0 → S' f = S f) (h8 : S' 0 8 = S 0 8) (h9 : S' 0 9 = S 0 9) (h11 : S' 0 11 = S 0 11) (h20 : S' 0 20 = S 0 20) (hfz : ∀ j : Int, 21 ≤ j → j < 166 → S' 0 j = S 0 j) (h287 : 0 ≤ S' 0 287 ∧ S' 0 287 ≤ T') (h289 : S' 0 289 = S 0 289) (hvl : ∀ j : Int, j < 8 → S' 0 j = S 0 j)
    (hA : 0 < S 19 0 → TkOk S' 12 T') (hB : S 0 8 = 1 → TkOk S' 16 T') (hB2 : 0 ≤ S' 0 17 ∧ S' 0 17 ≤ 5 * T' ∧ 0 ≤ S' 0 18 ∧ S' 0 18 ≤ 1000000 ∧ 0 ≤ S' 0 19 ∧ S' 0 19 ≤ 1) (h10 : S 0 8 = 1 → 0 ≤ S' 0 10 ∧ S' 0 10 < S 20 (17 * S 0 9 + 2)) (hL : LogOk S' (T' + 99) (120 * T')) : WFm S' 0 T' := by
  have x_inn := hX.inn; have x_cuts := hX.cuts; have x_fro := hX.fro; have x_many := hX.many; have x_evn := hX.evn; have x_tks := hX.tks; have x_ta := hX.ta; have x_tb := hX.tb; have x_fz := hX.fz; have x_tbr := hX.tbr; have x_frd := hX.frd; have x_evr := hX.evr; have x_kpt := hX.kpt; have x_vals := hX.vals
  simp only [Int.zero_add] at x_inn x_cuts x_fro x_many x_evn x_tks x_ta x_tb x_fz x_tbr x_frd x_evr x_kpt x_vals
  have hfr : frS S' 0 = frS S 0 := by
    unfold frS
    rw [hfz (0 + 21) (by omega) (by omega)]
    apply List.map_congr_left
    intro k hk
    have hk := List.mem_range.mp hk
    rw [Int.zero_add] at hk
    rw [hfz _ (by omega) (by omega), hfz _ (by omega) (by omega), hfz _ (by omega) (by omega)]
  refine WFm.z ?_ ?_ ?_ ?_ hL.1 h287 (fun z => ?_) (fun z => ?_) (fun z => ?_) hB2 hL.2.2 hL.2.1 ?_ (fun p p0 p1 => ?_)
  · rw [h8, hf 19 (by decide)]; exact x_inn
  · rw [h11]; exact x_cuts
  · rw [h20, h8]; exact x_fro
  · rw [h11, hfz 21 (by omega) (by omega)]; exact x_many
  · rw [hf 19 (by decide)] at z; exact hA z
  · rw [h8] at z
    have := x_tb z
    have := h10 z
    rw [h9, hf 21 (by decide), hf 20 (by decide)]
    exact ⟨hB z, by omega, by omega, by omega, by omega⟩
  · rw [h20] at z
    rw [hfr]
    exact (x_fz z).ext (by rw [hf 8 (by decide)]; exact Int.le_refl _)
  · rw [h289]; exact x_kpt
  · rw [hvl p (by omega)]; exact x_vals p p0 p1
theorem WFm.lg {S : SS} {T : Int} (hX : WFm S 0 T) : LogOk S (T + 99) (120 * T) := by
  have x_inn := hX.inn; have x_cuts := hX.cuts; have x_fro := hX.fro; have x_many := hX.many; have x_evn := hX.evn; have x_tks := hX.tks; have x_ta := hX.ta; have x_tb := hX.tb; have x_fz := hX.fz; have x_tbr := hX.tbr; have x_frd := hX.frd; have x_evr := hX.evr; have x_kpt := hX.kpt; have x_vals := hX.vals
  simp only [Int.zero_add] at x_inn x_cuts x_fro x_many x_evn x_tks x_ta x_tb x_fz x_tbr x_frd x_evr x_kpt x_vals
  exact ⟨x_evn, x_evr, x_frd⟩
theorem LogOk.at {S S' : SS} {U V : Int} (h : LogOk S U V) (e : ∀ j : Int, 166 ≤ j → j ≠ 287 → S' 0 j = S 0 j) : LogOk S' U V := by
  obtain ⟨h1, h2, h3⟩ := h
  unfold LogOk
  rw [e 166 (by omega) (by omega), e 288 (by omega) (by omega)]
  exact ⟨h1, fun j a b => by rw [e _ (by omega) (by omega)]; exact h2 j a b, h3⟩
theorem tkA_ok {S : SS} {T : Int} (hX : WFm S 0 T) : WFm (tkA S) 0 (T + 1) := by
  have x_inn := hX.inn; have x_cuts := hX.cuts; have x_fro := hX.fro; have x_many := hX.many; have x_evn := hX.evn; have x_tks := hX.tks; have x_ta := hX.ta; have x_tb := hX.tb; have x_fz := hX.fz; have x_tbr := hX.tbr; have x_frd := hX.frd; have x_evr := hX.evr; have x_kpt := hX.kpt; have x_vals := hX.vals
  simp only [Int.zero_add] at x_inn x_cuts x_fro x_many x_evn x_tks x_ta x_tb x_fz x_tbr x_frd x_evr x_kpt x_vals
  have o : ∀ j : Int, j ≠ 287 → tkA S 0 j = S 0 j := fun j h => tkA_o h
  have f : ∀ f : Nat, f ≠ 0 → tkA S f = S f := fun f h => tkA_f h
  refine hX.up (by omega) f (o 8 (by omega)) (o 9 (by omega)) (o 11 (by omega)) (o 20 (by omega)) (fun j a b => o j (by omega)) (by unfold tkA; rw [up2_s]; omega) (o 289 (by omega)) (fun j a => o j (by omega)) (fun z => ?_) (fun z => ?_) (by rw [o 17 (by omega), o 18 (by omega), o 19 (by omega)]; omega) (fun z => by rw [o 10 (by omega)]; exact (x_tb z).2.2.2) ((hX.lg.at (fun j a b => o j b)).mono (by omega) (by omega))
  · exact (x_ta z).ext (by omega) (o 12 (by omega)) (o _ (by omega)) (o _ (by omega)) (o _ (by omega)) (by rw [f 19 (by decide)]; exact Int.le_refl _) (fun s _ _ => by rw [f 17 (by decide)])
  · exact (x_tb z).1.ext (by omega) (o 16 (by omega)) (o _ (by omega)) (o _ (by omega)) (o _ (by omega)) (by rw [f 19 (by decide)]; exact Int.le_refl _) (fun s _ _ => by rw [f 17 (by decide)])
/-- events are fired -/
theorem fir_ok {S : SS} (hW : WFs S) {T U V : Int} (hX : WFm S 0 T) (hT : 0 ≤ T) {st be fr af sh : Int} (hst : 0 ≤ st ∧ st < S 19 0) (hL : LogOk S U V) (hU : T + 99 ≤ U) : LogOk (firS S st be fr af sh (S 0 287)) U (V + 60) ∧ ∀ j : Int, (j < 166 ∨ j = 287 ∨ 289 ≤ j) → firS S st be fr af sh (S 0 287) 0 j = S 0 j := by
  have x_inn := hX.inn; have x_cuts := hX.cuts; have x_fro := hX.fro; have x_many := hX.many; have x_evn := hX.evn; have x_tks := hX.tks; have x_ta := hX.ta; have x_tb := hX.tb; have x_fz := hX.fz; have x_tbr := hX.tbr; have x_frd := hX.frd; have x_evr := hX.evr; have x_kpt := hX.kpt; have x_vals := hX.vals
  simp only [Int.zero_add] at x_inn x_cuts x_fro x_many x_evn x_tks x_ta x_tb x_fz x_tbr x_frd x_evr x_kpt x_vals
  exact firS_ok hW hst (by omega) (by omega) hL
theorem WFm.fired {S S' : SS} {T T' : Int} (hX : WFm S 0 T) (hT : T ≤ T') (hf : ∀ f : Nat, f ≠ 0 → S' f = S f) (ho : ∀ j : Int, (j < 166 ∨ j = 287 ∨ 289 ≤ j) → S' 0 j = S 0 j) (hL : LogOk S' (T' + 99) (120 * T')) : WFm S' 0 T' := by
  have x_inn := hX.inn; have x_cuts := hX.cuts; have x_fro := hX.fro; have x_many := hX.many; have x_evn := hX.evn; have x_tks := hX.tks; have x_ta := hX.ta; have x_tb := hX.tb; have x_fz := hX.fz; have x_tbr := hX.tbr; have x_frd := hX.frd; have x_evr := hX.evr; have x_kpt := hX.kpt; have x_vals := hX.vals
  simp only [Int.zero_add] at x_inn x_cuts x_fro x_many x_evn x_tks x_ta x_tb x_fz x_tbr x_frd x_evr x_kpt x_vals
  refine hX.up hT hf (ho 8 (by omega)) (ho 9 (by omega)) (ho 11 (by omega)) (ho 20 (by omega)) (fun j a b => ho j (by omega)) (by rw [ho 287 (by omega)]; omega) (ho 289 (by omega)) (fun j a => ho j (by omega)) (fun z => ?_) (fun z => ?_) (by rw [ho 17 (by omega), ho 18 (by omega), ho 19 (by omega)]; omega) (fun z => by rw [ho 10 (by omega)]; exact (x_tb z).2.2.2) hL
  · exact (x_ta z).ext hT (ho 12 (by omega)) (ho _ (by omega)) (ho _ (by omega)) (ho _ (by omega)) (by rw [hf 19 (by decide)]; exact Int.le_refl _) (fun s _ _ => by rw [hf 17 (by decide)])
  · exact (x_tb z).1.ext hT (ho 16 (by omega)) (ho _ (by omega)) (ho _ (by omega)) (ho _ (by omega)) (by rw [hf 19 (by decide)]; exact Int.le_refl _) (fun s _ _ => by rw [hf 17 (by decide)])
theorem tik1_ok {S : SS} (hW : WFs S) {T : Int} (hX : WFm S 0 T) (h0 : 0 < S 19 0) (h8 : S 0 8 = 0) : WFm (tik1 S) 0 (T + 1) ∧ LogOk (tik1 S) (T + 99) (120 * T) := by
  have x_inn := hX.inn; have x_cuts := hX.cuts; have x_fro := hX.fro; have x_many := hX.many; have x_evn := hX.evn; have x_tks := hX.tks; have x_ta := hX.ta; have x_tb := hX.tb; have x_fz := hX.fz; have x_tbr := hX.tbr; have x_frd := hX.frd; have x_evr := hX.evr; have x_kpt := hX.kpt; have x_vals := hX.vals
  simp only [Int.zero_add] at x_inn x_cuts x_fro x_many x_evn x_tks x_ta x_tb x_fz x_tbr x_frd x_evr x_kpt x_vals
  have a := x_ta h0
  have o : ∀ j : Int, j ≤ 12 ∨ 15 < j → tik1 S 0 j = S 0 j := fun j h => advS_o (by omega)
  have f : ∀ f : Nat, f ≠ 0 → tik1 S f = S f := fun f h => advS_f h
  have hL : LogOk (tik1 S) (T + 99) (120 * T) := hX.lg.at (fun j a b => o j (by omega))
  refine ⟨hX.up (by omega) f (o 8 (by omega)) (o 9 (by omega)) (o 11 (by omega)) (o 20 (by omega)) (fun j a b => o j (by omega)) (by rw [o 287 (by omega)]; omega) (o 289 (by omega)) (fun j a => o j (by omega)) (fun z => ?_) (fun z => by omega) (by rw [o 17 (by omega), o 18 (by omega), o 19 (by omega)]; omega) (fun z => by omega) (hL.mono (by omega) (by omega)), hL⟩
  exact advS_ok a (stpS_in hW ⟨a.1, a.2.1⟩)
theorem tikA_ok {S : SS} (hW : WFs S) {T : Int} (hX : WFm S 0 T) (hT : 0 ≤ T) (h0 : 0 < S 19 0) (h8 : S 0 8 = 0) : WFm (tikA S) 0 (T + 1) := by
  obtain ⟨h1, h2⟩ := tik1_ok hW hX h0 h8
  have f : ∀ f : Nat, f ≠ 0 → tik1 S f = S f := fun f h => advS_f h
  have hW1 : WFs (tik1 S) := hW.congr f
  have a := hX.ta h0
  rw [Int.zero_add] at a
  have hs : 0 ≤ S 0 12 ∧ S 0 12 < tik1 S 19 0 := by rw [f 19 (by decide)]; exact ⟨a.1, a.2.1⟩
  obtain ⟨g1, g2⟩ := fir_ok hW1 h1 (by omega) (be := prgS S 12) (fr := frI (S 0 15)) (af := prgS (tik1 S) 12) (sh := 1000000) hs (h2.mono (show T + 99 ≤ T + 1 + 99 by omega) (Int.le_refl _)) (by omega)
  exact h1.fired (Int.le_refl _) (fun f h => firS_f h) g2 (g1.mono (Int.le_refl _) (by omega))
theorem shS6 {S : SS} (hW : WFs S) {T : Int} (hX : WFm S 0 T) (h8 : S 0 8 = 1) : (0 ≤ shS S ∧ shS S ≤ 1000000) ∧ (0 ≤ tik6 S 0 9 ∧ tik6 S 0 9 < tik6 S 21 0) ∧ (0 ≤ tik6 S 0 10 ∧ tik6 S 0 10 ≤ tik6 S 20 (17 * tik6 S 0 9 + 2) ∧ 0 < tik6 S 20 (17 * tik6 S 0 9 + 2)) ∧ tik6 S 0 9 = S 0 9 ∧ tik6 S 0 10 = S 0 10 + 1 ∧ tik6 S 20 = S 20 := by
  have x_inn := hX.inn; have x_cuts := hX.cuts; have x_fro := hX.fro; have x_many := hX.many; have x_evn := hX.evn; have x_tks := hX.tks; have x_ta := hX.ta; have x_tb := hX.tb; have x_fz := hX.fz; have x_tbr := hX.tbr; have x_frd := hX.frd; have x_evr := hX.evr; have x_kpt := hX.kpt; have x_vals := hX.vals
  simp only [Int.zero_add] at x_inn x_cuts x_fro x_many x_evn x_tks x_ta x_tb x_fz x_tbr x_frd x_evr x_kpt x_vals
  obtain ⟨y1, y2, y3, y4, y5⟩ := x_tb h8
  have e9 : tik6 S 0 9 = S 0 9 := by unfold tik6; rw [up2_j _ _ _ _ (by omega), bthS_o (by omega)]
  have e10 : tik6 S 0 10 = S 0 10 + 1 := by unfold tik6; rw [up2_s, bthS_o (by omega)]
  have e20 : tik6 S 20 = S 20 := by unfold tik6; funext j; rw [up2_f _ _ _ _ (by decide), bthS_f (by decide)]
  have e21 : tik6 S 21 = S 21 := by unfold tik6; funext j; rw [up2_f _ _ _ _ (by decide), bthS_f (by decide)]
  rw [e9, e10, e20, e21]
  exact ⟨shS_in (by omega), by omega, by omega, rfl, rfl, rfl⟩
theorem end10 {S : SS} {v : Int} : endS (up2 S 0 10 v) = up2 (endS S) 0 10 v := by
  funext f j
  by_cases hf : f = 0
  · subst hf
    by_cases q : j = 10
    · subst q; rw [endS_o (by omega), up2_s, up2_s]
    · rw [up2_j (endS S) 0 0 _ q]
      by_cases r : 12 ≤ j ∧ j < 16
      · obtain ⟨i, rfl⟩ : ∃ i, j = 12 + i := ⟨j - 12, by omega⟩
        rw [endS_i (by omega), endS_i (by omega), up2_j _ _ _ _ (by omega)]
      · obtain ⟨e8, e11, e20, e21⟩ := endS_0 S
        obtain ⟨g8, g11, g20, g21⟩ := endS_0 (up2 S 0 10 v)
        by_cases h8 : j = 8
        · subst h8; rw [e8, g8]
        · by_cases h11 : j = 11
          · subst h11; rw [e11, g11]
          · by_cases h20 : j = 20
            · subst h20; rw [e20, g20]
            · by_cases h21 : j = 21
              · subst h21; rw [e21, g21]
              · rw [endS_o (by omega), endS_o (by omega), up2_j _ _ _ _ q]
  · rw [endS_f hf, up2_f _ _ _ _ hf, up2_f _ _ _ _ hf, endS_f hf]
theorem tik7_ok {S : SS} (hW : WFs S) {T : Int} (hX : WFm S 0 T) (h8 : S 0 8 = 1) : WFm (tik7 S) 0 (T + 1) ∧ LogOk (tik7 S) (T + 99) (120 * T) ∧ (∀ f : Nat, f ≠ 0 → tik7 S f = S f) ∧ ∀ j : Int, j < 8 ∨ 166 ≤ j → tik7 S 0 j = S 0 j := by
  have x_inn := hX.inn; have x_cuts := hX.cuts; have x_fro := hX.fro; have x_many := hX.many; have x_evn := hX.evn; have x_tks := hX.tks; have x_ta := hX.ta; have x_tb := hX.tb; have x_fz := hX.fz; have x_tbr := hX.tbr; have x_frd := hX.frd; have x_evr := hX.evr; have x_kpt := hX.kpt; have x_vals := hX.vals
  simp only [Int.zero_add] at x_inn x_cuts x_fro x_many x_evn x_tks x_ta x_tb x_fz x_tbr x_frd x_evr x_kpt x_vals
  obtain ⟨y1, y2, y3, y4, y5⟩ := x_tb h8
  obtain ⟨z1, z2, z3, z4, z5, z6⟩ := shS6 hW hX h8
  have ya := x_ta (by omega)
  obtain ⟨b1, b2⟩ := bthS_ok hW ya y1 z1
  have o : ∀ j : Int, j ≤ 12 ∨ j = 16 ∨ 19 < j → bthS S 0 j = S 0 j := fun j h => bthS_o h
  have f : ∀ f : Nat, f ≠ 0 → bthS S f = S f := fun f h => bthS_f h
  have hL : LogOk (bthS S) (T + 99) (120 * T) := hX.lg.at (fun j a b => o j (by omega))
  have hb17 : 0 ≤ bthS S 0 17 ∧ bthS S 0 17 ≤ 5 * (T + 1) ∧ 0 ≤ bthS S 0 18 ∧ bthS S 0 18 ≤ 1000000 ∧ 0 ≤ bthS S 0 19 ∧ bthS S 0 19 ≤ 1 := by
    have c := b2; unfold TkOk at c
    exact ⟨c.2.2.1, c.2.2.2.1, c.2.2.2.2.1, c.2.2.2.2.2.1, c.2.2.2.2.2.2.2.1, c.2.2.2.2.2.2.2.2⟩
  have h5 : WFm (bthS S) 0 (T + 1) := hX.up (by omega) f (o 8 (by omega)) (o 9 (by omega)) (o 11 (by omega)) (o 20 (by omega)) (fun j a b => o j (by omega)) (by rw [o 287 (by omega)]; omega) (o 289 (by omega)) (fun j a => o j (by omega)) (fun _ => b1) (fun _ => b2) hb17 (fun z => by rw [o 10 (by omega)]; exact ⟨y4, y5⟩) (hL.mono (by omega) (by omega))
  have up10 : ∀ (R : SS) (v : Int), WFm R 0 (T + 1) → (R 0 8 = 1 → 0 ≤ v ∧ v < R 20 (17 * R 0 9 + 2)) → WFm (up2 R 0 10 v) 0 (T + 1) := fun R v hR hv => by
    have o : ∀ j : Int, j ≠ 10 → up2 R 0 10 v 0 j = R 0 j := fun j h => up2_j _ _ _ _ h
    have f : ∀ f : Nat, f ≠ 0 → up2 R 0 10 v f = R f := fun f h => by funext j; exact up2_f _ _ _ _ h
    have hX := hR
    have x_inn := hX.inn; have x_cuts := hX.cuts; have x_fro := hX.fro; have x_many := hX.many; have x_evn := hX.evn; have x_tks := hX.tks; have x_ta := hX.ta; have x_tb := hX.tb; have x_fz := hX.fz; have x_tbr := hX.tbr; have x_frd := hX.frd; have x_evr := hX.evr; have x_kpt := hX.kpt; have x_vals := hX.vals
    simp only [Int.zero_add] at x_inn x_cuts x_fro x_many x_evn x_tks x_ta x_tb x_fz x_tbr x_frd x_evr x_kpt x_vals
    exact hR.up (Int.le_refl _) f (o 8 (by omega)) (o 9 (by omega)) (o 11 (by omega)) (o 20 (by omega)) (fun j a b => o j (by omega)) (by rw [o 287 (by omega)]; exact x_tks) (o 289 (by omega)) (fun j a => o j (by omega))
      (fun z => (x_ta z).at (o 12 (by omega)) (o _ (by omega)) (o _ (by omega)) (o _ (by omega)) (f 19 (by decide)) (f 17 (by decide))) (fun z => (x_tb z).1.at (o 16 (by omega)) (o _ (by omega)) (o _ (by omega)) (o _ (by omega)) (f 19 (by decide)) (f 17 (by decide)))
      (by rw [o 17 (by omega), o 18 (by omega), o 19 (by omega)]; exact x_tbr) (fun z => by rw [up2_s]; exact hv z) (hR.lg.at (fun j a b => o j (by omega)))
  have l10 : ∀ (R : SS) (v : Int), LogOk R (T + 99) (120 * T) → LogOk (up2 R 0 10 v) (T + 99) (120 * T) := fun R v h => h.at (fun j a b => up2_j _ _ _ _ (by omega))
  have e10 : bthS S 0 10 = S 0 10 := o 10 (by omega)
  unfold tik7
  rw [z4, z5, z6]
  split
  · have hE := endS_ok h5 b2
    have e0 := endS_0 (bthS S)
    unfold tik6
    rw [end10]
    refine ⟨up10 _ _ hE (fun z => by omega), l10 _ _ (hL.at (fun j a b => endS_o (by omega))), fun f' h => ?_, fun j h => ?_⟩
    · funext j; rw [up2_f _ _ _ _ h, endS_f h, f f' h]
    · rw [up2_j _ _ _ _ (by omega), endS_o (by omega), o j (by omega)]
  · unfold tik6
    refine ⟨up10 _ _ h5 (fun z => by rw [o 9 (by omega), f 20 (by decide)]; omega), l10 _ _ hL, fun f' h => ?_, fun j h => ?_⟩
    · funext j; rw [up2_f _ _ _ _ h, f f' h]
    · rw [up2_j _ _ _ _ (by omega), o j (by omega)]
theorem tik8_ok {S : SS} (hW : WFs S) {T : Int} (hX : WFm S 0 T) (hT : 0 ≤ T) (h8 : S 0 8 = 1) : WFm (tik8 S) 0 (T + 1) ∧ LogOk (tik8 S) (T + 1 + 99) (120 * T + 60) ∧ (∀ f : Nat, f ≠ 0 → tik8 S f = S f) ∧ ∀ j : Int, j < 8 → tik8 S 0 j = S 0 j := by
  obtain ⟨g1, g2, g3, g4⟩ := tik7_ok hW hX h8
  have hW7 : WFs (tik7 S) := hW.congr g3
  have x_inn := hX.inn; have x_cuts := hX.cuts; have x_fro := hX.fro; have x_many := hX.many; have x_evn := hX.evn; have x_tks := hX.tks; have x_ta := hX.ta; have x_tb := hX.tb; have x_fz := hX.fz; have x_tbr := hX.tbr; have x_frd := hX.frd; have x_evr := hX.evr; have x_kpt := hX.kpt; have x_vals := hX.vals
  simp only [Int.zero_add] at x_inn x_cuts x_fro x_many x_evn x_tks x_ta x_tb x_fz x_tbr x_frd x_evr x_kpt x_vals
  have ya := x_ta (by omega)
  unfold tik8
  split
  · obtain ⟨k1, k2⟩ := fir_ok hW7 g1 (by omega) (st := S 0 12) (be := prgS S 12) (fr := frI (S 0 15)) (af := prgS (bthS S) 12) (sh := 1000000 - shS (tik6 S)) (by rw [g3 19 (by decide)]; exact ⟨ya.1, ya.2.1⟩) (g2.mono (show T + 99 ≤ T + 1 + 99 by omega) (Int.le_refl _)) (by omega)
    refine ⟨g1.fired (Int.le_refl _) (fun f h => firS_f h) k2 (k1.mono (Int.le_refl _) (by omega)), k1, fun f h => by rw [firS_f h, g3 f h], fun j h => by rw [k2 j (by omega), g4 j (by omega)]⟩
  · exact ⟨g1, g2.mono (by omega) (by omega), g3, fun j h => g4 j (by omega)⟩
theorem tikB_ok {S : SS} (hW : WFs S) {T : Int} (hX : WFm S 0 T) (hT : 0 ≤ T) (h8 : S 0 8 = 1) : WFm (tikB S) 0 (T + 1) := by
  obtain ⟨g1, g2, g3, g4⟩ := tik8_ok hW hX hT h8
  have hW8 : WFs (tik8 S) := hW.congr g3
  have x_inn := hX.inn; have x_cuts := hX.cuts; have x_fro := hX.fro; have x_many := hX.many; have x_evn := hX.evn; have x_tks := hX.tks; have x_ta := hX.ta; have x_tb := hX.tb; have x_fz := hX.fz; have x_tbr := hX.tbr; have x_frd := hX.frd; have x_evr := hX.evr; have x_kpt := hX.kpt; have x_vals := hX.vals
  simp only [Int.zero_add] at x_inn x_cuts x_fro x_many x_evn x_tks x_ta x_tb x_fz x_tbr x_frd x_evr x_kpt x_vals
  obtain ⟨y1, y2, y3, y4, y5⟩ := x_tb h8
  obtain ⟨k1, k2⟩ := fir_ok hW8 g1 (by omega) (st := S 0 16) (be := prgS S 16) (fr := frI (S 0 19)) (af := prgS (bthS S) 16) (sh := shS (tik6 S)) (by rw [g3 19 (by decide)]; exact ⟨y1.1, y1.2.1⟩) g2 (by omega)
  exact g1.fired (Int.le_refl _) (fun f h => firS_f h) k2 (k1.mono (Int.le_refl _) (by omega))
theorem tikC_f {S : SS} (hW : WFs S) {T : Int} (hX : WFm S 0 T) (hT : 0 ≤ T) (h0 : 0 < S 19 0) {f : Nat} (h : f ≠ 0) : tikC S f = S f := by
  have := hX.inn
  rw [Int.zero_add] at this
  unfold tikC
  split
  · unfold tikA; rw [firS_f h]; exact advS_f h
  · unfold tikB; rw [firS_f h]; exact (tik8_ok hW hX hT (by omega)).2.2.1 f h
theorem tikC_ok {S : SS} (hW : WFs S) {T : Int} (hX : WFm S 0 T) (hT : 0 ≤ T) (h0 : 0 < S 19 0) : WFm (tikC S) 0 (T + 1) := by
  have := hX.inn
  rw [Int.zero_add] at this
  unfold tikC
  split
  · rename_i h; exact tikA_ok hW hX hT h0 h
  · exact tikB_ok hW hX hT (by omega)
theorem tikS_ok {S : SS} (hW : WFs S) {T : Int} (hX : WFm S 0 T) (hT : 0 ≤ T) (h0 : 0 < S 19 0) : WFm (tikS S) 0 (T + 2) ∧ ∀ f : Nat, f ≠ 0 → tikS S f = S f := by
  have h1 := tkA_ok hX
  have hW1 : WFs (tkA S) := hW.congr (fun f h => tkA_f h)
  have h2 := tak4_ok hW1 h1 (by omega) 4
  have hW2 : WFs (tak4 (tkA S) 4) := hW1.congr (fun f h => tak4_f h 4)
  have e19 : 0 < tak4 (tkA S) 4 19 0 := by rw [tak4_f (by decide), tkA_f (by decide)]; exact h0
  unfold tikS
  refine ⟨?_, fun f h => ?_⟩
  · have h3 := tikC_ok hW2 h2 (by omega) e19
    rw [show T + 1 + 1 = T + 2 by omega] at h3
    exact h3
  · rw [tikC_f hW2 h2 (by omega) e19 h, tak4_f h, tkA_f h]
