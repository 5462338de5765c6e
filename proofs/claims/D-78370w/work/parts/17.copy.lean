set_option linter.unusedVariables false
/-! ===== System.arraycopy ===== -/
theorem kD_upr {K : KS} {k : Nat} {i lo hi : Int} {g : Int → Int} (hk : k ≠ 8 ∧ k ≠ 16 ∧ k ≠ 27) (k' : Nat) (i' : Int) : kD (upr K k i lo hi g) k' i' = kD K k' i' := by
  have hx : ∀ q : Nat, q ≠ k → upr K k i lo hi g q i' 9 = K q i' 9 := fun q hq => upr_ko (fun z => hq z.1)
  unfold kD
  rw [hx 8 (Ne.symm hk.1), hx 16 (Ne.symm hk.2.1), hx 27 (Ne.symm hk.2.2)]
theorem wk_upr {n : KN} {K : KS} (hW : WK n K) {k : Nat} {i lo hi : Int} {g : Int → Int} (hk : k ≠ 8 ∧ k ≠ 16 ∧ k ≠ 27) (hlo : 0 ≤ lo) {q : Nat × Nat × Nat} (hd : kD K k i = .inr q) (hg : q.2.1 = 2 → ∀ f, lo ≤ f → f < hi → g f < n q.2.2) : WK n (upr K k i lo hi g) := by
  refine ⟨hW.1, fun k' i' h0 hl => ?_⟩
  rw [kD_upr hk]
  have h1 := hW.2 k' i' h0 hl
  by_cases hh : k' = k ∧ i' = i
  · obtain ⟨rfl, rfl⟩ := hh
    rw [hd] at h1 ⊢
    simp only at h1 ⊢
    rw [upr_out (by omega)]
    refine ⟨h1.1, h1.2.1, fun h2 j j0 jl => ?_⟩
    by_cases hj : lo ≤ j ∧ j < hi
    · rw [upr_in hj]; exact hg h2 j hj.1 hj.2
    · rw [upr_out (fun z => hj z.2.2)]; exact h1.2.2 h2 j j0 jl
  · rw [show upr K k i lo hi g k' i' = K k' i' from funext fun f => upr_ko hh]
    exact h1
section KCOPY
variable {x : YX} {cc : ByteArray} {own nm : String} {ret : Option FieldType} {nL : Nat} {RM : Room} {n : KN} {α : KA} {K : KS} {bc bs pc : Nat} {lv : List (Nat × Value)} {st : List Value}
theorem y_copyi (hE : YE x cc own ret nm nL RM) {k0 k1 index : Nat} {i0 i1 sp dp m : Int} (hk1 : ¬ kC k1) (ht : k1 ≠ 8 ∧ k1 ≠ 16 ∧ k1 ≠ 27) (hd0 : kD K k0 i0 = .inr (0, 0, 0)) (hd1 : kD K k1 i1 = .inr (0, 0, 0)) (hk0 : ¬ kC k0) (hi0 : 0 ≤ i0 ∧ i0 < n k0) (hi1 : 0 ≤ i1 ∧ i1 < n k1)
    (hq : Cond.methodLink own index arraycopyName ∈ lw_all) (hsp : 0 ≤ sp ∧ 0 ≤ m ∧ sp + m ≤ K k0 i0 (-1)) (hdp : 0 ≤ dp ∧ dp + m ≤ K k1 i1 (-1)) (hf : 1 ≤ RM.frames) (hlo : (st.map fun v => v.category).sum + 40 ≤ RM.locals) (d : decode cc pc = .ok (.invokestatic index, 3))
    (kk : Y x n α (upr K k1 i1 dp (dp + m) (fun f => K k0 i0 (sp + (f - dp)))) bc bs (pc + 3) lv st) : Y x n α K bc bs pc lv (.int (iI m) :: .int (iI dp) :: .ref (α k1 i1) :: .int (iI sp) :: .ref (α k0 i0) :: st) := by
  intro H locs ls cells slots hR hS hl hcb hs
  have hw0 := wk_len (cr_wk hR) hi0 hd0
  have hw1 := wk_len (cr_wk hR) hi1 hd1
  obtain ⟨L, G, hP, hD, h1, h2, h3, h4⟩ := hR
  obtain ⟨m1, m2⟩ := h1 k1 i1 hk1 hi1.1 hi1.2
  obtain ⟨q1, hq1⟩ := va_pl_get (X := []) (f := G) m1
  have hq1 : (va_pl L G)[q1]? = some (α k1 i1, G (α k1 i1)) := hq1
  have hq1' := hq1
  rw [m2, cont_a hd1] at hq1'
  obtain ⟨m3, m4⟩ := h1 k0 i0 hk0 hi0.1 hi0.2
  obtain ⟨q0, hq0⟩ := va_pl_get (X := []) (f := G) m3
  have hq0 : (va_pl L G)[q0]? = some (α k0 i0, G (α k0 i0)) := hq0
  rw [m4, cont_a hd0] at hq0
  obtain ⟨hx, hcb2, hml, hown, hts, -, -, -, hRM, hnL, -⟩ := id hE
  have esp : (iI sp).toNatClampNeg = sp.toNat := iI_cl hsp.1 (by omega)
  have edp : (iI dp).toNatClampNeg = dp.toNat := iI_cl hdp.1 (by omega)
  have em : (iI m).toNatClampNeg = m.toNat := iI_cl hsp.2.1 (by omega)
  have hng : ∀ z : Int, 0 ≤ z → z ≤ 2147483647 → ¬ iI z < 0 := fun z a b => by
    rw [show (0 : Int32) = iI 0 from rfl, iI_lt (by omega) (by omega)]; omega
  refine va_copyi hx hcb2 (by rw [hml, hl.1, hnL]) hown (hts _ hq) (hts _ q310) (hts _ q309) (hts _ q123) (yK hE) hP hD hS q0 q1 0 0 hq0 hq1' rfl rfl rfl (hng _ hsp.1 (by omega)) (hng _ hdp.1 (by omega)) (hng _ hsp.2.1 (by omega)) (by rw [esp, em]; omega) (by rw [edp, em]; omega) (fun _ _ => rfl) (by rw [hRM]; exact hf) (by rw [hRM]; exact Nat.le_trans (Nat.add_le_add_left (by decide +kernel) _) hlo) d (fun H1 locs1 hP1 hD1 hS1 => ?_)
  rw [esp, edp, em] at hP1 hD1
  refine kk H1 locs1 ls cells slots (cr_set hP hD h1 h2 h3 (wk_upr h4 ht hdp.1 hd1 (fun h => absurd h (by decide))) hk1 hi1 (fun k' i' g hne => upr_ko (fun z => by rcases hne with h | h; exact h z.1; exact h z.2)) hq1 ?_ hP1 hD1) hS1 hl hcb hs
  rw [cont_a (by rw [kD_upr ht]; exact hd1), upr_out (by omega)]
  show (.inl ((yW x).2.2.1 0, (K k1 i1 (-1)).toNat, .inl (va_cpy (fun j : Nat => iI (K k0 i0 j)) (fun j : Nat => iI (K k1 i1 j)) sp.toNat dp.toNat m.toNat)) : va_E) = .inl ((yW x).2.2.1 0, (K k1 i1 (-1)).toNat, .inl (fun j : Nat => iI (upr K k1 i1 dp (dp + m) (fun f => K k0 i0 (sp + (f - dp))) k1 i1 j)))
  congr 4
  funext j
  unfold va_cpy
  by_cases hj : dp.toNat ≤ j ∧ j < dp.toNat + m.toNat
  · rw [if_pos hj, upr_in (by omega)]
    dsimp only
    rw [show (((sp.toNat + (j - dp.toNat) : Nat)) : Int) = sp + ((j : Int) - dp) by omega]
  · rw [if_neg hj, upr_out (by omega)]
theorem y_copyq (hE : YE x cc own ret nm nL RM) {k0 k1 index ke a0 a1 ci : Nat} {i0 i1 sp dp m : Int} {E0 E1 : String} {codes : List (Nat × Nat)} {q : vw_C} (hk1 : ¬ kC k1) (ht : k1 ≠ 8 ∧ k1 ≠ 16 ∧ k1 ≠ 27) (hd0 : kD K k0 i0 = .inr (a0, 2, ke)) (hd1 : kD K k1 i1 = .inr (a1, 2, ke)) (hk0 : ¬ kC k0) (hi0 : 0 ≤ i0 ∧ i0 < n k0) (hi1 : 0 ≤ i1 ∧ i1 < n k1)
    (ha0 : kTyl[a0]? = some (.object E0)) (ha1 : kTyl[a1]? = some (.object E1)) (hde : ∀ i, 0 ≤ i → i < n ke → kD K ke i = .inl (ci, codes)) (hce : kCl[ci]? = some q) (hcast : q.1 = E1 ∨ Cond.castable q.1 E1 ∈ lw_tbl)
    (hq : Cond.methodLink own index arraycopyName ∈ lw_all) (hsp : 0 ≤ sp ∧ 0 ≤ m ∧ sp + m ≤ K k0 i0 (-1)) (hdp : 0 ≤ dp ∧ dp + m ≤ K k1 i1 (-1)) (hf : 1 ≤ RM.frames) (hlo : (st.map fun v => v.category).sum + 40 ≤ RM.locals) (d : decode cc pc = .ok (.invokestatic index, 3))
    (kk : Y x n α (upr K k1 i1 dp (dp + m) (fun f => K k0 i0 (sp + (f - dp)))) bc bs (pc + 3) lv st) : Y x n α K bc bs pc lv (.int (iI m) :: .int (iI dp) :: .ref (α k1 i1) :: .int (iI sp) :: .ref (α k0 i0) :: st) := by
  intro H locs ls cells slots hR hS hl hcb hs
  have hw0 := wk_len (cr_wk hR) hi0 hd0
  have hw1 := wk_len (cr_wk hR) hi1 hd1
  have hel := fun (i : Int) (h : 0 ≤ i ∧ i < n ke) => cr_recv hE hR hS h (hde i h.1 h.2) hce
  have hwa := fun (z : Int) (hz : 0 ≤ z ∧ z < K k0 i0 (-1)) => wk_a (cr_wk hR) hi0 hd0 hz
  obtain ⟨L, G, hP, hD, h1, h2, h3, h4⟩ := hR
  obtain ⟨m1, m2⟩ := h1 k1 i1 hk1 hi1.1 hi1.2
  obtain ⟨q1, hq1⟩ := va_pl_get (X := []) (f := G) m1
  have hq1 : (va_pl L G)[q1]? = some (α k1 i1, G (α k1 i1)) := hq1
  have hq1' := hq1
  rw [m2, cont_a hd1] at hq1'
  obtain ⟨m3, m4⟩ := h1 k0 i0 hk0 hi0.1 hi0.2
  obtain ⟨q0, hq0⟩ := va_pl_get (X := []) (f := G) m3
  have hq0 : (va_pl L G)[q0]? = some (α k0 i0, G (α k0 i0)) := hq0
  rw [m4, cont_a hd0] at hq0
  obtain ⟨hx, hcb2, hml, hown, hts, -, -, -, hRM, hnL, -⟩ := id hE
  have esp : (iI sp).toNatClampNeg = sp.toNat := iI_cl hsp.1 (by omega)
  have edp : (iI dp).toNatClampNeg = dp.toNat := iI_cl hdp.1 (by omega)
  have em : (iI m).toNatClampNeg = m.toNat := iI_cl hsp.2.1 (by omega)
  have hng : ∀ z : Int, 0 ≤ z → z ≤ 2147483647 → ¬ iI z < 0 := fun z a b => by
    rw [show (0 : Int32) = iI 0 from rfl, iI_lt (by omega) (by omega)]; omega
  refine va_copyq (C := q.1) hx hcb2 (by rw [hml, hl.1, hnL]) hown (hts _ hq) (hts _ q310) (hts _ q309) (hts _ q123) (yK hE) hP hD hS q0 q1 a0 a1 hq0 hq1' (kTys_at ha0) (kTys_at ha1) (hng _ hsp.1 (by omega)) (hng _ hdp.1 (by omega)) (hng _ hsp.2.1 (by omega)) (by rw [esp, em]; omega) (by rw [edp, em]; omega) (fun j hj y hy => ?_) (fun comp c0 e1 e2 => by
    rcases hcast with h | h
    · subst h; exact vb_asgS comp c0 e1 e2
    · exact vb_asgC (y_nwC hE h) comp c0 e1 e2) (by rw [hRM]; exact hf) (by rw [hRM]; exact Nat.le_trans (Nat.add_le_add_left (by decide +kernel) _) hlo) d (fun H1 locs1 hP1 hD1 hS1 => ?_)
  · simp only at hy
    rw [esp] at hy
    split at hy
    · next hlt =>
      by_cases hn : K k0 i0 ((sp.toNat + j : Nat) : Int) < 0
      · rw [refO_n hn] at hy; cases hy
      · rw [refO_s (by omega)] at hy
        cases hy
        exact hel _ ⟨by omega, hwa _ ⟨by omega, hlt⟩⟩
    · cases hy
  rw [esp, edp, em] at hP1 hD1
  refine kk H1 locs1 ls cells slots (cr_set hP hD h1 h2 h3 (wk_upr h4 ht hdp.1 hd1 (fun _ f f0 f1 => hwa _ (by omega))) hk1 hi1 (fun k' i' g hne => upr_ko (fun z => by rcases hne with h | h; exact h z.1; exact h z.2)) hq1 ?_ hP1 hD1) hS1 hl hcb hs
  rw [cont_a (by rw [kD_upr ht]; exact hd1), upr_out (by omega)]
  show (.inl ((yW x).2.2.1 a1, (K k1 i1 (-1)).toNat, .inr (.inr (.inr (.inr (va_cpy (fun j : Nat => if (j : Int) < K k0 i0 (-1) then refO α ke (K k0 i0 j) else none) (fun j : Nat => if (j : Int) < K k1 i1 (-1) then refO α ke (K k1 i1 j) else none) sp.toNat dp.toNat m.toNat))))) : va_E) = .inl ((yW x).2.2.1 a1, (K k1 i1 (-1)).toNat, .inr (.inr (.inr (.inr (fun j : Nat => if (j : Int) < upr K k1 i1 dp (dp + m) (fun f => K k0 i0 (sp + (f - dp))) k1 i1 (-1) then refO α ke (upr K k1 i1 dp (dp + m) (fun f => K k0 i0 (sp + (f - dp))) k1 i1 j) else none)))))
  rw [upr_out (by omega : ¬ (k1 = k1 ∧ i1 = i1 ∧ dp ≤ (-1 : Int) ∧ (-1 : Int) < dp + m))]
  congr 7
  funext j
  unfold va_cpy
  by_cases hj : dp.toNat ≤ j ∧ j < dp.toNat + m.toNat
  · rw [if_pos hj, if_pos (by omega), upr_in (by omega)]
    dsimp only
    rw [if_pos (by omega), show (((sp.toNat + (j - dp.toNat) : Nat)) : Int) = sp + ((j : Int) - dp) by omega]
  · rw [if_neg hj, upr_out (by omega)]
end KCOPY
