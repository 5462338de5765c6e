set_option linter.unusedVariables false
theorem TkOk.ext {S S' : SS} {a T T' : Int} (h : TkOk S a T) (hT : T ≤ T') (h0 : S' 0 a = S 0 a) (h1 : S' 0 (a + 1) = S 0 (a + 1)) (h2 : S' 0 (a + 2) = S 0 (a + 2)) (h3 : S' 0 (a + 3) = S 0 (a + 3)) (h19 : S 19 0 ≤ S' 19 0) (h17 : ∀ s : Int, 0 ≤ s → s < S 19 0 → S' 17 s = S 17 s) : TkOk S' a T' := by
  unfold TkOk at *
  rw [h0, h1, h2, h3, h17 _ h.1 h.2.1]
  omega
theorem frS_ext {S S' : SS} {b : Int} (hm : 0 ≤ S 0 (b + 21) ∧ S 0 (b + 21) ≤ 24) (hs : ∀ j : Int, 8 ≤ j → j < 290 → S' 0 (b + j) = S 0 (b + j)) : frS S' b = frS S b := by
  unfold frS
  rw [hs 21 (by omega) (by omega)]
  apply List.map_congr_left
  intro k hk
  have hk := List.mem_range.mp hk
  have a1 := hs (22 + 3 * (k : Int)) (by omega) (by omega)
  have a2 := hs (23 + 3 * (k : Int)) (by omega) (by omega)
  have a3 := hs (24 + 3 * (k : Int)) (by omega) (by omega)
  rw [← Int.add_assoc] at a1 a2 a3
  rw [a1, a2, a3]
theorem PoseOk.ext {S S' : SS} {P : SP} (h : PoseOk S P) (h8 : S 8 0 ≤ S' 8 0) : PoseOk S' P := ⟨h.1, fun e he => by have := h.2.1 e he; omega, h.2.2⟩
/-- a machine lasts while the structure grows, its values change, ticks go on -/
theorem WFm.ext {S S' : SS} {b T T' : Int} (h : WFm S b T) (hT : T ≤ T') (hs : ∀ j : Int, 8 ≤ j → j < 290 → S' 0 (b + j) = S 0 (b + j)) (hv : ∀ p : Int, 0 ≤ p → p < 8 → -100 ≤ S' 0 (b + p) ∧ S' 0 (b + p) ≤ 100) (h19 : S 19 0 ≤ S' 19 0) (h190 : 0 < S' 19 0 → 0 < S 19 0) (h21 : S 21 0 ≤ S' 21 0) (h8 : S 8 0 ≤ S' 8 0)
    (h17 : ∀ s : Int, 0 ≤ s → s < S 19 0 → S' 17 s = S 17 s) (h20 : ∀ t : Int, 0 ≤ t → t < S 21 0 → S' 20 (17 * t + 2) = S 20 (17 * t + 2)) : WFm S' b T' := by
  have e : ∀ a c : Int, a + c < 290 → 8 ≤ a + c → S' 0 (b + a + c) = S 0 (b + a + c) := fun a c h1 h2 => by rw [Int.add_assoc]; exact hs _ h2 h1
  have a1 := h.inn; have a2 := h.cuts; have a3 := h.fro; have a4 := h.many; have a5 := h.evn; have a6 := h.tks; have a7 := h.ta; have a8 := h.tb; have a9 := h.fz; have b1 := h.tbr; have b2 := h.frd; have b3 := h.evr; have b4 := h.kpt
  unfold WFm
  rw [frS_ext (by omega) hs, hs 8 (by omega) (by omega), hs 9 (by omega) (by omega), hs 10 (by omega) (by omega), hs 11 (by omega) (by omega), hs 17 (by omega) (by omega), hs 18 (by omega) (by omega), hs 19 (by omega) (by omega), hs 20 (by omega) (by omega), hs 21 (by omega) (by omega), hs 166 (by omega) (by omega), hs 287 (by omega) (by omega), hs 288 (by omega) (by omega), hs 289 (by omega) (by omega)]
  refine ⟨by omega, a2, by omega, a4, a5, by omega, fun z => ?_, fun z => ?_, fun z => (a9 z).ext h8, by omega, by omega, fun j j0 j1 => ?_, b4, hv⟩
  · exact (a7 (h190 z)).ext hT (hs 12 (by omega) (by omega)) (e 12 1 (by omega) (by omega)) (e 12 2 (by omega) (by omega)) (e 12 3 (by omega) (by omega)) h19 h17
  · obtain ⟨c1, c2, c3, c4, c5⟩ := a8 z
    refine ⟨c1.ext hT (hs 16 (by omega) (by omega)) (e 16 1 (by omega) (by omega)) (e 16 2 (by omega) (by omega)) (e 16 3 (by omega) (by omega)) h19 h17, c2, by omega, c4, ?_⟩
    rw [h20 _ c2 c3]; exact c5
  · rw [e 167 j (by omega) (by omega)]
    have := b3 j j0 j1
    omega
/-- a machine at 0, plainly -/
theorem WFm.z {S : SS} {T : Int} (inn : S 0 8 = 0 ∨ S 0 8 = 1 ∧ 0 < S 19 0) (cuts : 0 ≤ S 0 11 ∧ S 0 11 ≤ 2) (fro : S 0 20 = 0 ∨ S 0 20 = 1 ∧ S 0 8 = 1)
    (many : 0 ≤ S 0 21 ∧ S 0 21 ≤ 8 + 8 * S 0 11) (evn : 0 ≤ S 0 166 ∧ S 0 166 ≤ 30) (tks : 0 ≤ S 0 287 ∧ S 0 287 ≤ T)
    (ta : 0 < S 19 0 → TkOk S 12 T) (tb : S 0 8 = 1 → TkOk S 16 T ∧ 0 ≤ S 0 9 ∧ S 0 9 < S 21 0 ∧ 0 ≤ S 0 10 ∧ S 0 10 < S 20 (17 * S 0 9 + 2))
    (fz : S 0 20 = 1 → PoseOk S (frS S 0)) (tbr : 0 ≤ S 0 17 ∧ S 0 17 ≤ 5 * T ∧ 0 ≤ S 0 18 ∧ S 0 18 ≤ 1000000 ∧ 0 ≤ S 0 19 ∧ S 0 19 ≤ 1) (frd : 0 ≤ S 0 288 ∧ S 0 288 ≤ 120 * T)
    (evr : ∀ j : Int, 0 ≤ j → j < 4 * S 0 166 → 0 ≤ S 0 (167 + j) ∧ S 0 (167 + j) ≤ T + 99) (kpt : 0 ≤ S 0 289 ∧ S 0 289 ≤ 8) (vals : ∀ p : Int, 0 ≤ p → p < 8 → -100 ≤ S 0 p ∧ S 0 p ≤ 100) : WFm S 0 T := by
  unfold WFm
  simp only [Int.zero_add]
  exact ⟨inn, cuts, fro, many, evn, tks, ta, tb, fz, tbr, frd, evr, kpt, vals⟩
theorem WFm.v {S : SS} {T : Int} (h : WFm S 0 T) : WFv S := fun p p0 p1 => by have := h.vals p p0 p1; rw [Int.zero_add] at this; exact this
theorem trkS_f {S : SS} {a s ph : Int} {f : Nat} (h : f ≠ 0) : trkS S a s ph f = S f := by funext j; unfold trkS; rw [up2_f _ _ _ _ h, up2_f _ _ _ _ h, up2_f _ _ _ _ h, up2_f _ _ _ _ h]
theorem trkS_o {S : SS} {a s ph j : Int} (h : j < a ∨ a + 3 < j) : trkS S a s ph 0 j = S 0 j := by unfold trkS; rw [up2_j _ _ _ _ (by omega), up2_j _ _ _ _ (by omega), up2_j _ _ _ _ (by omega), up2_j _ _ _ _ (by omega)]
theorem trkS_i (S : SS) (a s ph : Int) : trkS S a s ph 0 a = s ∧ trkS S a s ph 0 (a + 1) = 0 ∧ trkS S a s ph 0 (a + 2) = ph ∧ trkS S a s ph 0 (a + 3) = 1 := by
  unfold trkS up2
  refine ⟨?_, ?_, ?_, ?_⟩ <;> (repeat (first | rw [if_pos (by omega)] | rw [if_neg (by omega)]))
theorem cpyS_f {S : SS} {fr to m : Int} {f : Nat} (h : f ≠ 0) : cpyS S fr to m f = S f := by funext j; unfold cpyS; rw [if_neg (fun z => h z.1)]
theorem cpyS_i {S : SS} {fr to m j : Int} (h : to ≤ j ∧ j < to + m) : cpyS S fr to m 0 j = S 0 (j - to + fr) := by unfold cpyS; rw [if_pos ⟨rfl, h⟩]
/-- a transition ends -/
def endS (S : SS) : SS := up2 (up2 (up2 (up2 (cpyS S 16 12 4) 0 8 0) 0 11 0) 0 20 0) 0 21 0
theorem endS_f {S : SS} {f : Nat} (h : f ≠ 0) : endS S f = S f := by funext j; unfold endS; rw [up2_f _ _ _ _ h, up2_f _ _ _ _ h, up2_f _ _ _ _ h, up2_f _ _ _ _ h, cpyS_f h]
theorem endS_o {S : SS} {j : Int} (h : j ≠ 8 ∧ j ≠ 11 ∧ j ≠ 20 ∧ j ≠ 21 ∧ (j < 12 ∨ 16 ≤ j)) : endS S 0 j = S 0 j := by unfold endS; rw [up2_j _ _ _ _ (by omega), up2_j _ _ _ _ (by omega), up2_j _ _ _ _ (by omega), up2_j _ _ _ _ (by omega), cpyS_r (by omega)]
theorem endS_i {S : SS} {j : Int} (h : 0 ≤ j ∧ j < 4) : endS S 0 (12 + j) = S 0 (16 + j) := by unfold endS; rw [up2_j _ _ _ _ (by omega), up2_j _ _ _ _ (by omega), up2_j _ _ _ _ (by omega), up2_j _ _ _ _ (by omega), cpyS_i (by omega)]; congr 1; omega
theorem endS_0 (S : SS) : endS S 0 8 = 0 ∧ endS S 0 11 = 0 ∧ endS S 0 20 = 0 ∧ endS S 0 21 = 0 := by
  unfold endS up2
  refine ⟨?_, ?_, ?_, ?_⟩ <;> (repeat (first | rw [if_pos (by omega)] | rw [if_neg (by omega)]))
theorem TkOk.at {S S' : SS} {a a' T : Int} (h : TkOk S a T) (h0 : S' 0 a' = S 0 a) (h1 : S' 0 (a' + 1) = S 0 (a + 1)) (h2 : S' 0 (a' + 2) = S 0 (a + 2)) (h3 : S' 0 (a' + 3) = S 0 (a + 3)) (h19 : S' 19 = S 19) (h17 : S' 17 = S 17) : TkOk S' a' T := by
  unfold TkOk at *
  rw [h0, h1, h2, h3, h19, h17]
  exact h
theorem endS_ok {S : SS} {T : Int} (hX : WFm S 0 T) (hb : TkOk S 16 T) : WFm (endS S) 0 T := by
  have x_inn := hX.inn; have x_cuts := hX.cuts; have x_fro := hX.fro; have x_many := hX.many; have x_evn := hX.evn; have x_tks := hX.tks; have x_ta := hX.ta; have x_tb := hX.tb; have x_fz := hX.fz; have x_tbr := hX.tbr; have x_frd := hX.frd; have x_evr := hX.evr; have x_kpt := hX.kpt; have x_vals := hX.vals
  simp only [Int.zero_add] at x_inn x_cuts x_fro x_many x_evn x_tks x_ta x_tb x_fz x_tbr x_frd x_evr x_kpt x_vals
  obtain ⟨e8, e11, e20, e21⟩ := endS_0 S
  have f19 : endS S 19 = S 19 := endS_f (by decide)
  have f21 : endS S 21 = S 21 := endS_f (by decide)
  have eo : ∀ j : Int, 22 ≤ j → endS S 0 j = S 0 j := fun j h => endS_o (by omega)
  refine WFm.z (Or.inl e8) (by omega) (Or.inl e20) (by omega) (by rw [eo 166 (by omega)]; exact x_evn) (by rw [eo 287 (by omega)]; exact x_tks) (fun z => ?_) (fun z => by omega) (fun z => by omega) (by rw [endS_o (by omega), endS_o (by omega), endS_o (by omega)]; exact x_tbr) (by rw [eo 288 (by omega)]; exact x_frd) (fun j j0 j1 => ?_) (by rw [eo 289 (by omega)]; exact x_kpt) (fun p p0 p1 => by rw [endS_o (by omega)]; exact x_vals p p0 p1)
  · exact hb.at (endS_i (j := 0) (by omega)) (endS_i (j := 1) (by omega)) (endS_i (j := 2) (by omega)) (endS_i (j := 3) (by omega)) f19 (endS_f (by decide))
  · rw [eo 166 (by omega)] at j1
    rw [eo _ (by omega)]
    exact x_evr j j0 j1
/-- the target's phase if the two play together; a transition begins -/
def goB (S : SS) (to : Int) : SS := if S 0 20 = 0 ∧ S 18 (S 0 12) ≠ 0 ∧ S 18 (S 0 12) = S 18 (S 0 16) then up2 S 0 18 (if S 0 14 = 1000000 ∧ S 17 to ≠ 0 then 999999 else S 0 14) else S
def goE (S : SS) (t : Int) : SS := if S 20 (17 * t + 2) = 0 then endS S else up2 (up2 (up2 S 0 8 1) 0 9 t) 0 10 0
def goS (S : SS) (t : Int) : SS := goE (goB (trkS S 16 (S 20 (17 * t + 1)) (S 20 (17 * t + 4) * 10000)) (S 20 (17 * t + 1))) t
theorem goB_f {S : SS} {to : Int} {f : Nat} (h : f ≠ 0) : goB S to f = S f := by
  unfold goB
  split
  · funext j; rw [up2_f _ _ _ _ h]
  · rfl
theorem goB_o {S : SS} {to j : Int} (h : j ≠ 18) : goB S to 0 j = S 0 j := by
  unfold goB
  split
  · rw [up2_j _ _ _ _ h]
  · rfl
theorem goE_f {S : SS} {t : Int} {f : Nat} (h : f ≠ 0) : goE S t f = S f := by
  unfold goE
  split
  · exact endS_f h
  · funext j; rw [up2_f _ _ _ _ h, up2_f _ _ _ _ h, up2_f _ _ _ _ h]
theorem goS_f {S : SS} {t : Int} {f : Nat} (h : f ≠ 0) : goS S t f = S f := by unfold goS; rw [goE_f h, goB_f h, trkS_f h]
theorem go3_o {S : SS} {t j : Int} (h : j < 8 ∨ 10 < j) : up2 (up2 (up2 S 0 8 1) 0 9 t) 0 10 0 0 j = S 0 j := by rw [up2_j _ _ _ _ (by omega), up2_j _ _ _ _ (by omega), up2_j _ _ _ _ (by omega)]
theorem frS_eq {S S' : SS} (hs : ∀ j : Int, 21 ≤ j → S' 0 j = S 0 j) : frS S' 0 = frS S 0 := by
  unfold frS
  rw [hs _ (by omega)]
  apply List.map_congr_left
  intro k hk
  rw [hs _ (by omega), hs _ (by omega), hs _ (by omega)]
theorem goS_ok {S : SS} (hW : WFs S) {T t : Int} (hX : WFm S 0 T) (hT : 0 ≤ T) (ht : 0 ≤ t ∧ t < S 21 0) : WFm (goS S t) 0 T := by
  have wt := hW.tr t ht.1 ht.2
  have x_inn := hX.inn; have x_cuts := hX.cuts; have x_fro := hX.fro; have x_many := hX.many; have x_evn := hX.evn; have x_tks := hX.tks; have x_ta := hX.ta; have x_tb := hX.tb; have x_fz := hX.fz; have x_tbr := hX.tbr; have x_frd := hX.frd; have x_evr := hX.evr; have x_kpt := hX.kpt; have x_vals := hX.vals
  simp only [Int.zero_add] at x_inn x_cuts x_fro x_many x_evn x_tks x_ta x_tb x_fz x_tbr x_frd x_evr x_kpt x_vals
  have x_taa := x_ta (by omega)
  unfold goS
  obtain ⟨to, hto⟩ : ∃ z, z = S 20 (17 * t + 1) := ⟨_, rfl⟩
  obtain ⟨ph, hph⟩ : ∃ z, z = S 20 (17 * t + 4) * 10000 := ⟨_, rfl⟩
  rw [← hto, ← hph]
  obtain ⟨S1, hS1⟩ : ∃ z : SS, z = trkS S 16 to ph := ⟨_, rfl⟩
  rw [← hS1]
  have f1 : ∀ f : Nat, f ≠ 0 → S1 f = S f := fun f h => by rw [hS1]; exact trkS_f h
  have o1 : ∀ j : Int, j < 16 ∨ 19 < j → S1 0 j = S 0 j := fun j h => by rw [hS1]; exact trkS_o (by omega)
  have i1 := trkS_i S 16 to ph
  rw [← hS1] at i1
  obtain ⟨S2, hS2⟩ : ∃ z : SS, z = goB S1 to := ⟨_, rfl⟩
  rw [← hS2]
  have f2 : ∀ f : Nat, f ≠ 0 → S2 f = S f := fun f h => by rw [hS2, goB_f h, f1 f h]
  have o2 : ∀ j : Int, j < 16 ∨ 19 < j → S2 0 j = S 0 j := fun j h => by rw [hS2, goB_o (by omega), o1 j h]
  have p16 : S2 0 16 = to := by rw [hS2, goB_o (by omega)]; exact i1.1
  have p17 : S2 0 (16 + 1) = 0 := by rw [hS2, goB_o (by omega)]; exact i1.2.1
  have p19 : S2 0 (16 + 3) = 1 := by rw [hS2, goB_o (by omega)]; exact i1.2.2.2
  have p18 : 0 ≤ S2 0 (16 + 2) ∧ S2 0 (16 + 2) ≤ 1000000 ∧ (S 17 to ≠ 0 → S2 0 (16 + 2) < 1000000) := by
    have a14 := o1 14 (by omega)
    have a18 := i1.2.2.1
    have l17 := congrFun (f1 17 (by decide)) to
    have y2 := x_taa.2.2.2.2.1
    have y3 := x_taa.2.2.2.2.2.1
    rw [show (12 : Int) + 2 = 14 by rfl] at y2 y3
    rw [show (16 : Int) + 2 = 18 by rfl] at a18 ⊢
    rw [hS2]
    unfold goB
    split
    · rw [up2_s]
      split <;> omega
    · omega
  have hb : TkOk S2 16 T := by
    unfold TkOk
    rw [p16, p17, p19, f2 19 (by decide), f2 17 (by decide)]
    omega
  have hX2 : WFm S2 0 T := by
    refine WFm.z ?_ ?_ ?_ ?_ ?_ ?_ (fun z => ?_) (fun z => ?_) (fun z => ?_) ?_ ?_ (fun j j0 j1 => ?_) ?_ (fun p p0 p1 => ?_)
    · rw [o2 8 (by omega), f2 19 (by decide)]; exact x_inn
    · rw [o2 11 (by omega)]; exact x_cuts
    · rw [o2 8 (by omega), o2 20 (by omega)]; exact x_fro
    · rw [o2 11 (by omega), o2 21 (by omega)]; exact x_many
    · rw [o2 166 (by omega)]; exact x_evn
    · rw [o2 287 (by omega)]; exact x_tks
    · exact x_taa.at (o2 12 (by omega)) (o2 _ (by omega)) (o2 _ (by omega)) (o2 _ (by omega)) (f2 19 (by decide)) (f2 17 (by decide))
    · rw [o2 8 (by omega)] at z
      have := x_tb z
      rw [o2 9 (by omega), o2 10 (by omega), f2 21 (by decide), f2 20 (by decide)]
      exact ⟨hb, this.2⟩
    · rw [o2 20 (by omega)] at z
      rw [frS_eq (S := S) (fun j h => o2 j (by omega))]
      exact (x_fz z).ext (by rw [f2 8 (by decide)]; omega)
    · have a := hb.2.2.1; have b := hb.2.2.2.1; have c := p18.1; have d := p18.2.1
      rw [show (16 : Int) + 1 = 17 by rfl] at a b
      rw [show (16 : Int) + 2 = 18 by rfl] at c d
      rw [show (16 : Int) + 3 = 19 by rfl] at p19
      exact ⟨a, b, c, d, by omega, by omega⟩
    · rw [o2 288 (by omega)]; exact x_frd
    · rw [o2 166 (by omega)] at j1
      rw [o2 _ (by omega)]; exact x_evr j j0 j1
    · rw [o2 289 (by omega)]; exact x_kpt
    · rw [o2 p (by omega)]; exact x_vals p p0 p1
  unfold goE
  split
  · exact endS_ok hX2 hb
  · rename_i hdu
    rw [f2 20 (by decide)] at hdu
    have o3 : ∀ j : Int, j < 8 ∨ 10 < j → up2 (up2 (up2 S2 0 8 1) 0 9 t) 0 10 0 0 j = S2 0 j := fun j h => go3_o h
    have f3 : ∀ f : Nat, f ≠ 0 → up2 (up2 (up2 S2 0 8 1) 0 9 t) 0 10 0 f = S f := fun f h => by funext j; rw [up2_f _ _ _ _ h, up2_f _ _ _ _ h, up2_f _ _ _ _ h, f2 f h]
    have v8 : up2 (up2 (up2 S2 0 8 1) 0 9 t) 0 10 0 0 8 = 1 := by rw [up2_j _ _ _ _ (by omega), up2_j _ _ _ _ (by omega), up2_s]
    have v9 : up2 (up2 (up2 S2 0 8 1) 0 9 t) 0 10 0 0 9 = t := by rw [up2_j _ _ _ _ (by omega), up2_s]
    have v10 : up2 (up2 (up2 S2 0 8 1) 0 9 t) 0 10 0 0 10 = 0 := up2_s _ _ _ _
    obtain ⟨S3, hS3⟩ : ∃ z : SS, z = up2 (up2 (up2 S2 0 8 1) 0 9 t) 0 10 0 := ⟨_, rfl⟩
    rw [← hS3] at o3 f3 v8 v9 v10 ⊢
    have hX := hX2
    have x_inn := hX.inn; have x_cuts := hX.cuts; have x_fro := hX.fro; have x_many := hX.many; have x_evn := hX.evn; have x_tks := hX.tks; have x_ta := hX.ta; have x_tb := hX.tb; have x_fz := hX.fz; have x_tbr := hX.tbr; have x_frd := hX.frd; have x_evr := hX.evr; have x_kpt := hX.kpt; have x_vals := hX.vals
    simp only [Int.zero_add] at x_inn x_cuts x_fro x_many x_evn x_tks x_ta x_tb x_fz x_tbr x_frd x_evr x_kpt x_vals
    refine WFm.z ?_ ?_ ?_ ?_ ?_ ?_ (fun z => ?_) (fun z => ?_) (fun z => ?_) ?_ ?_ (fun j j0 j1 => ?_) ?_ (fun p p0 p1 => ?_)
    · rw [v8, f3 19 (by decide)]; omega
    · rw [o3 11 (by omega)]; exact x_cuts
    · rw [o3 20 (by omega), v8]; omega
    · rw [o3 11 (by omega), o3 21 (by omega)]; exact x_many
    · rw [o3 166 (by omega)]; exact x_evn
    · rw [o3 287 (by omega)]; exact x_tks
    · rw [f3 19 (by decide), ← f2 19 (by decide)] at z
      exact (x_ta z).at (o3 12 (by omega)) (o3 _ (by omega)) (o3 _ (by omega)) (o3 _ (by omega)) (by rw [f3 19 (by decide), f2 19 (by decide)]) (by rw [f3 17 (by decide), f2 17 (by decide)])
    · rw [v9, v10, f3 21 (by decide), f3 20 (by decide)]
      exact ⟨hb.at (o3 16 (by omega)) (o3 _ (by omega)) (o3 _ (by omega)) (o3 _ (by omega)) (by rw [f3 19 (by decide), f2 19 (by decide)]) (by rw [f3 17 (by decide), f2 17 (by decide)]), ht.1, ht.2, by omega, by omega⟩
    · rw [o3 20 (by omega)] at z
      rw [frS_eq (S := S2) (fun j h => o3 j (by omega))]
      exact (x_fz z).ext (by rw [f3 8 (by decide), f2 8 (by decide)]; omega)
    · rw [o3 17 (by omega), o3 18 (by omega), o3 19 (by omega)]; exact x_tbr
    · rw [o3 288 (by omega)]; exact x_frd
    · rw [o3 166 (by omega)] at j1
      rw [o3 _ (by omega)]; exact x_evr j j0 j1
    · rw [o3 289 (by omega)]; exact x_kpt
    · rw [o3 p (by omega)]; exact x_vals p p0 p1
