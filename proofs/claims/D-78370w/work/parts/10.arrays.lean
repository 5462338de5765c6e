set_option linter.unusedVariables false
/-! ===== references read, arrays, new objects, casts ===== -/
theorem arr_len {z : Int} (h : 0 ≤ z) : Int32.ofNat z.toNat = iI z := by
  rw [← Int32.ofInt_eq_ofNat, Int.toNat_of_nonneg h]
  rfl
theorem kTys_at {dA : Nat → ClassId} {a : Nat} {ty : FieldType} (h : kTyl[a]? = some ty) : (kTys dA)[a]? = some (dA a, ty) := by
  have hl : a < 8 := (List.getElem?_eq_some_iff.mp h).1
  match a, hl, h with
  | 0, _, h => cases h; rfl
  | 1, _, h => cases h; rfl
  | 2, _, h => cases h; rfl
  | 3, _, h => cases h; rfl
  | 4, _, h => cases h; rfl
  | 5, _, h => cases h; rfl
  | 6, _, h => cases h; rfl
  | 7, _, h => cases h; rfl
section KARR
variable {x : YX} {cc : ByteArray} {own nm : String} {ret : Option FieldType} {nL : Nat} {RM : Room} {n : KN} {α : KA} {K : KS} {bc bs pc : Nat} {lv : List (Nat × Value)} {st : List Value}
theorem wk_f {k : Nat} {i : Int} (hW : WK n K) (hi : 0 ≤ i ∧ i < n k) {ci : Nat} {codes : List (Nat × Nat)} (hd : kD K k i = .inl (ci, codes)) {f kd : Nat} {fi : Int} (hcode : codes[f]? = some (2, kd)) (hf : (f : Int) = fi) : K k i fi < n kd := by
  have h := hW.2 k i hi.1 hi.2
  rw [hd] at h
  rw [← hf]
  exact h f _ hcode rfl
theorem wk_len {k : Nat} {i : Int} (hW : WK n K) (hi : 0 ≤ i ∧ i < n k) {q : Nat × Nat × Nat} (hd : kD K k i = .inr q) : 0 ≤ K k i (-1) ∧ K k i (-1) ≤ 2147483647 := by
  have h := hW.2 k i hi.1 hi.2
  rw [hd] at h
  exact ⟨h.1, h.2.1⟩
theorem wk_a {k : Nat} {i : Int} (hW : WK n K) (hi : 0 ≤ i ∧ i < n k) {a kd : Nat} (hd : kD K k i = .inr (a, 2, kd)) {z : Int} (hz : 0 ≤ z ∧ z < K k i (-1)) : K k i z < n kd := by
  have h := hW.2 k i hi.1 hi.2
  rw [hd] at h
  exact h.2.2 rfl z hz.1 hz.2
theorem y_getv (hE : YE x cc own ret nm nL RM) {k : Nat} {i : Int} (f : Nat) (fi : Int) {ci N index kd : Nat} {T : u_T} {C ref : String} {codes : List (Nat × Nat)} (hd : kD K k i = .inl (ci, codes)) (hc : kCl[ci]? = some (C, T, N)) (hcode : codes[f]? = some (2, kd)) (hf : (f : Int) = fi)
    (hin : ∀ w ∈ u_ws C T N, w ∈ lw_all) (hfN : f < N) (hlink : Cond.fieldLink own index ref (T f).2.1 (T f).2.2.1 ∈ lw_all) (hsame : ∀ z, x.2.2.2.2.1.fieldFound? (T f).1 (T f).2.1 (T f).2.2.1 = some z → x.2.2.2.2.1.fieldFound? ref (T f).2.1 (T f).2.2.1 = some z)
    (hi : 0 ≤ i ∧ i < n k) (d : decode cc pc = .ok (.getfield index, 3)) (kk : K k i fi < n kd → Y x n α K bc bs (pc + 3) lv (refV α kd (K k i fi) :: st)) : Y x n α K bc bs pc lv (.ref (α k i) :: st) :=
  y_wk fun hW => y_get hE f fi hd hc hcode hf hin hfN hlink hsame hi d (kk (wk_f hW hi hd hcode hf))
theorem y_getr (hE : YE x cc own ret nm nL RM) {k : Nat} {i : Int} (f : Nat) (fi : Int) {ci N index kd : Nat} {T : u_T} {C ref : String} {codes : List (Nat × Nat)} (hd : kD K k i = .inl (ci, codes)) (hc : kCl[ci]? = some (C, T, N)) (hcode : codes[f]? = some (2, kd)) (hf : (f : Int) = fi)
    (hin : ∀ w ∈ u_ws C T N, w ∈ lw_all) (hfN : f < N) (hlink : Cond.fieldLink own index ref (T f).2.1 (T f).2.2.1 ∈ lw_all) (hsame : ∀ z, x.2.2.2.2.1.fieldFound? (T f).1 (T f).2.1 (T f).2.2.1 = some z → x.2.2.2.2.1.fieldFound? ref (T f).2.1 (T f).2.2.1 = some z)
    (hi : 0 ≤ i ∧ i < n k) (h0 : 0 ≤ K k i fi) (d : decode cc pc = .ok (.getfield index, 3)) (kk : K k i fi < n kd → Y x n α K bc bs (pc + 3) lv (.ref (α kd (K k i fi)) :: st)) : Y x n α K bc bs pc lv (.ref (α k i) :: st) :=
  y_getv hE f fi hd hc hcode hf hin hfN hlink hsame hi d (fun h => y_ref h0 (kk h))
theorem y_getvN (hE : YE x cc own ret nm nL RM) {k : Nat} {i : Int} (f : Nat) (fi : Int) {ci N index kd : Nat} {T : u_T} {C ref host : String} {codes : List (Nat × Nat)} (hd : kD K k i = .inl (ci, codes)) (hc : kCl[ci]? = some (C, T, N)) (hcode : codes[f]? = some (2, kd)) (hf : (f : Int) = fi)
    (hin : ∀ w ∈ u_ws C T N, w ∈ lw_all) (hfN : f < N) (hlink : Cond.fieldLinkNest own index ref (T f).2.1 (T f).2.2.1 host ∈ lw_tbl) (hsame : ∀ z, x.2.2.2.2.1.fieldFound? (T f).1 (T f).2.1 (T f).2.2.1 = some z → x.2.2.2.2.1.fieldFound? ref (T f).2.1 (T f).2.2.1 = some z)
    (hi : 0 ≤ i ∧ i < n k) (d : decode cc pc = .ok (.getfield index, 3)) (kk : K k i fi < n kd → Y x n α K bc bs (pc + 3) lv (refV α kd (K k i fi) :: st)) : Y x n α K bc bs pc lv (.ref (α k i) :: st) :=
  y_wk fun hW => y_getN hE f fi hd hc hcode hf hin hfN hlink hsame hi d (kk (wk_f hW hi hd hcode hf))
theorem y_getrN (hE : YE x cc own ret nm nL RM) {k : Nat} {i : Int} (f : Nat) (fi : Int) {ci N index kd : Nat} {T : u_T} {C ref host : String} {codes : List (Nat × Nat)} (hd : kD K k i = .inl (ci, codes)) (hc : kCl[ci]? = some (C, T, N)) (hcode : codes[f]? = some (2, kd)) (hf : (f : Int) = fi)
    (hin : ∀ w ∈ u_ws C T N, w ∈ lw_all) (hfN : f < N) (hlink : Cond.fieldLinkNest own index ref (T f).2.1 (T f).2.2.1 host ∈ lw_tbl) (hsame : ∀ z, x.2.2.2.2.1.fieldFound? (T f).1 (T f).2.1 (T f).2.2.1 = some z → x.2.2.2.2.1.fieldFound? ref (T f).2.1 (T f).2.2.1 = some z)
    (hi : 0 ≤ i ∧ i < n k) (h0 : 0 ≤ K k i fi) (d : decode cc pc = .ok (.getfield index, 3)) (kk : K k i fi < n kd → Y x n α K bc bs (pc + 3) lv (.ref (α kd (K k i fi)) :: st)) : Y x n α K bc bs pc lv (.ref (α k i) :: st) :=
  y_getvN hE f fi hd hc hcode hf hin hfN hlink hsame hi d (fun h => y_ref h0 (kk h))
theorem y_alen (hE : YE x cc own ret nm nL RM) {k : Nat} {i : Int} {ac c1 c2 : Nat} {ty : FieldType} (hd : kD K k i = .inr (ac, c1, c2)) (ht : kTyl[ac]? = some ty) (hi : 0 ≤ i ∧ i < n k) (d : decode cc pc = .ok (.arraylength, 1)) (kk : 0 ≤ K k i (-1) → K k i (-1) ≤ 2147483647 → Y x n α K bc bs (pc + 1) lv (.int (iI (K k i (-1))) :: st)) : Y x n α K bc bs pc lv (.ref (α k i) :: st) := by
  intro H locs ls cells slots hR hS hl hcb hs
  have hw := wk_len (cr_wk hR) hi hd
  obtain ⟨ws, q0, hP, hq⟩ := cr_any hE hR hS hi
  rw [cont_a hd] at hq
  have ht2 : (kTys (yW x).2.2.1)[ac]? = some ((yW x).2.2.1 ac, ty) := kTys_at ht
  exact va_alen hE.1 hE.2.1 (yK hE) hP q0 ac hq ht2 (arr_len hw.1) d (kk hw.1 hw.2 H locs ls cells slots hR hS hl hcb hs)
theorem y_iald (hE : YE x cc own ret nm nL RM) {k : Nat} {i z : Int} (hd : kD K k i = .inr (0, 0, 0)) (hi : 0 ≤ i ∧ i < n k) (hz : 0 ≤ z ∧ z < K k i (-1)) (d : decode cc pc = .ok (.iaload, 1)) (kk : Y x n α K bc bs (pc + 1) lv (.int (iI (K k i z)) :: st)) : Y x n α K bc bs pc lv (.int (iI z) :: .ref (α k i) :: st) := by
  intro H locs ls cells slots hR hS hl hcb hs
  have hw := wk_len (cr_wk hR) hi hd
  obtain ⟨ws, q0, hP, hq⟩ := cr_any hE hR hS hi
  rw [cont_a hd] at hq
  refine va_iald hE.1 hE.2.1 (yK hE) hP q0 0 hq rfl (iI_in hz.1 hz.2 (by omega)) d ?_
  rw [iI_cl hz.1 (by omega), Int.toNat_of_nonneg hz.1]
  exact kk H locs ls cells slots hR hS hl hcb hs
theorem y_lald (hE : YE x cc own ret nm nL RM) {k : Nat} {i z : Int} (hd : kD K k i = .inr (1, 1, 0)) (hi : 0 ≤ i ∧ i < n k) (hz : 0 ≤ z ∧ z < K k i (-1)) (d : decode cc pc = .ok (.laload, 1)) (kk : Y x n α K bc bs (pc + 1) lv (.long (iL (K k i z)) :: st)) : Y x n α K bc bs pc lv (.int (iI z) :: .ref (α k i) :: st) := by
  intro H locs ls cells slots hR hS hl hcb hs
  have hw := wk_len (cr_wk hR) hi hd
  obtain ⟨ws, q0, hP, hq⟩ := cr_any hE hR hS hi
  rw [cont_a hd] at hq
  refine va_lald hE.1 hE.2.1 (yK hE) hP q0 1 hq rfl (iI_in hz.1 hz.2 (by omega)) d ?_
  rw [iI_cl hz.1 (by omega), Int.toNat_of_nonneg hz.1]
  exact kk H locs ls cells slots hR hS hl hcb hs
theorem y_zald (hE : YE x cc own ret nm nL RM) {k : Nat} {i z : Int} (hd : kD K k i = .inr (2, 7, 0)) (hi : 0 ≤ i ∧ i < n k) (hz : 0 ≤ z ∧ z < K k i (-1)) (d : decode cc pc = .ok (.baload, 1)) (kk : Y x n α K bc bs (pc + 1) lv (.int (iI (K k i z)) :: st)) : Y x n α K bc bs pc lv (.int (iI z) :: .ref (α k i) :: st) := by
  intro H locs ls cells slots hR hS hl hcb hs
  have hw := wk_len (cr_wk hR) hi hd
  obtain ⟨ws, q0, hP, hq⟩ := cr_any hE hR hS hi
  rw [cont_a hd] at hq
  refine va_zald hE.1 hE.2.1 (yK hE) hP q0 2 hq rfl (iI_in hz.1 hz.2 (by omega)) d ?_
  rw [iI_cl hz.1 (by omega), Int.toNat_of_nonneg hz.1]
  exact kk H locs ls cells slots hR hS hl hcb hs
theorem y_bald (hE : YE x cc own ret nm nL RM) {k : Nat} {i z : Int} (hd : kD K k i = .inr (3, 8, 0)) (hi : 0 ≤ i ∧ i < n k) (hz : 0 ≤ z ∧ z < K k i (-1)) (d : decode cc pc = .ok (.baload, 1)) (kk : Y x n α K bc bs (pc + 1) lv (.int (iI (K k i z)) :: st)) : Y x n α K bc bs pc lv (.int (iI z) :: .ref (α k i) :: st) := by
  intro H locs ls cells slots hR hS hl hcb hs
  have hw := wk_len (cr_wk hR) hi hd
  obtain ⟨ws, q0, hP, hq⟩ := cr_any hE hR hS hi
  rw [cont_a hd] at hq
  refine va_bald hE.1 hE.2.1 (yK hE) hP q0 3 hq rfl (iI_in hz.1 hz.2 (by omega)) d ?_
  rw [iI_cl hz.1 (by omega), Int.toNat_of_nonneg hz.1]
  exact kk H locs ls cells slots hR hS hl hcb hs
theorem y_aaldv (hE : YE x cc own ret nm nL RM) {k : Nat} {i z : Int} {ac kd : Nat} {C : String} (hd : kD K k i = .inr (ac, 2, kd)) (ht : kTyl[ac]? = some (.object C)) (hi : 0 ≤ i ∧ i < n k) (hz : 0 ≤ z ∧ z < K k i (-1)) (d : decode cc pc = .ok (.aaload, 1)) (kk : K k i z < n kd → Y x n α K bc bs (pc + 1) lv (refV α kd (K k i z) :: st)) : Y x n α K bc bs pc lv (.int (iI z) :: .ref (α k i) :: st) := by
  intro H locs ls cells slots hR hS hl hcb hs
  have hw := wk_len (cr_wk hR) hi hd
  obtain ⟨ws, q0, hP, hq⟩ := cr_any hE hR hS hi
  rw [cont_a hd] at hq
  refine va_aldq hE.1 hE.2.1 (yK hE) hP q0 ac hq (kTys_at ht) (iI_in hz.1 hz.2 (by omega)) d ?_
  simp only
  rw [iI_cl hz.1 (by omega), Int.toNat_of_nonneg hz.1, if_pos hz.2]
  exact kk (wk_a (cr_wk hR) hi hd hz) H locs ls cells slots hR hS hl hcb hs
theorem y_aald (hE : YE x cc own ret nm nL RM) {k : Nat} {i z : Int} {ac kd : Nat} {C : String} (hd : kD K k i = .inr (ac, 2, kd)) (ht : kTyl[ac]? = some (.object C)) (hi : 0 ≤ i ∧ i < n k) (hz : 0 ≤ z ∧ z < K k i (-1)) (h0 : 0 ≤ K k i z) (d : decode cc pc = .ok (.aaload, 1)) (kk : K k i z < n kd → Y x n α K bc bs (pc + 1) lv (.ref (α kd (K k i z)) :: st)) : Y x n α K bc bs pc lv (.int (iI z) :: .ref (α k i) :: st) :=
  y_aaldv hE hd ht hi hz d (fun h => y_ref h0 (kk h))
theorem wk_put_a (hW : WK n K) {k : Nat} {i z v : Int} {q : Nat × Nat × Nat} (hd : kD K k i = .inr q) (ht : kTag k z = false) (hz : 0 ≤ z) (hv : q.2.1 = 2 → v < n q.2.2) : WK n (up3 K k i z v) := by
  refine wk_up hW ht ?_
  rw [hd]
  exact ⟨by omega, hv⟩
theorem y_iast (hE : YE x cc own ret nm nL RM) {k : Nat} {i z v : Int} (hk : ¬ kC k) (hd : kD K k i = .inr (0, 0, 0)) (ht : kTag k z = false) (hi : 0 ≤ i ∧ i < n k) (hz : 0 ≤ z ∧ z < K k i (-1)) (d : decode cc pc = .ok (.iastore, 1)) (kk : Y x n α (up3 K k i z v) bc bs (pc + 1) lv st) : Y x n α K bc bs pc lv (.int (iI v) :: .int (iI z) :: .ref (α k i) :: st) := by
  intro H locs ls cells slots hR hS hl hcb hs
  have hw := wk_len (cr_wk hR) hi hd
  obtain ⟨L, G, hP, hD, h1, h2, h3, h4⟩ := hR
  obtain ⟨m1, m2⟩ := h1 k i hk hi.1 hi.2
  obtain ⟨q0, hq⟩ := va_pl_get (X := []) (f := G) m1
  have hq : (va_pl L G)[q0]? = some (α k i, G (α k i)) := hq
  have hq2 := hq
  rw [m2, cont_a hd] at hq2
  refine va_iast hE.1 hE.2.1 (yK hE) hP hD hS q0 0 hq2 rfl (iI_in hz.1 hz.2 (by omega)) d (fun H1 locs1 hP1 hD1 hS1 => ?_)
  refine kk H1 locs1 ls cells slots (cr_set hP hD h1 h2 h3 (wk_put_a h4 hd ht hz.1 (fun h => absurd h (by decide))) hk hi (fun k' i' g hne => ?_) hq ?_ hP1 hD1) hS1 hl hcb hs
  · unfold up3
    rw [if_neg]
    rintro ⟨rfl, -, rfl⟩
    rcases hne with h | h <;> exact h rfl
  · rw [cont_a (by rw [kD_up ht]; exact hd), up3_f _ _ _ _ _ _ (by omega : (-1 : Int) ≠ z), iI_cl hz.1 (by omega)]
    show (.inl ((yW x).2.2.1 0, (K k i (-1)).toNat, .inl (upd (fun j : Nat => iI (K k i j)) z.toNat (iI v))) : va_E) = .inl ((yW x).2.2.1 0, (K k i (-1)).toNat, .inl (fun j : Nat => iI (up3 K k i z v k i j)))
    congr 4
    funext j
    unfold upd
    by_cases h : j = z.toNat
    · rw [if_pos h, h, Int.toNat_of_nonneg hz.1, up3_s]
    · rw [if_neg h, up3_f _ _ _ _ _ _ (by omega)]
theorem y_last (hE : YE x cc own ret nm nL RM) {k : Nat} {i z v : Int} (hk : ¬ kC k) (hd : kD K k i = .inr (1, 1, 0)) (ht : kTag k z = false) (hi : 0 ≤ i ∧ i < n k) (hz : 0 ≤ z ∧ z < K k i (-1)) (d : decode cc pc = .ok (.lastore, 1)) (kk : Y x n α (up3 K k i z v) bc bs (pc + 1) lv st) : Y x n α K bc bs pc lv (.long (iL v) :: .int (iI z) :: .ref (α k i) :: st) := by
  intro H locs ls cells slots hR hS hl hcb hs
  have hw := wk_len (cr_wk hR) hi hd
  obtain ⟨L, G, hP, hD, h1, h2, h3, h4⟩ := hR
  obtain ⟨m1, m2⟩ := h1 k i hk hi.1 hi.2
  obtain ⟨q0, hq⟩ := va_pl_get (X := []) (f := G) m1
  have hq : (va_pl L G)[q0]? = some (α k i, G (α k i)) := hq
  have hq2 := hq
  rw [m2, cont_a hd] at hq2
  refine va_last hE.1 hE.2.1 (yK hE) hP hD hS q0 1 hq2 rfl (iI_in hz.1 hz.2 (by omega)) d (fun H1 locs1 hP1 hD1 hS1 => ?_)
  refine kk H1 locs1 ls cells slots (cr_set hP hD h1 h2 h3 (wk_put_a h4 hd ht hz.1 (fun h => absurd h (by decide))) hk hi (fun k' i' g hne => ?_) hq ?_ hP1 hD1) hS1 hl hcb hs
  · unfold up3
    rw [if_neg]
    rintro ⟨rfl, -, rfl⟩
    rcases hne with h | h <;> exact h rfl
  · rw [cont_a (by rw [kD_up ht]; exact hd), up3_f _ _ _ _ _ _ (by omega : (-1 : Int) ≠ z), iI_cl hz.1 (by omega)]
    show (.inl ((yW x).2.2.1 1, (K k i (-1)).toNat, .inr (.inl (vp_updL (fun j : Nat => iL (K k i j)) z.toNat (iL v)))) : va_E) = .inl ((yW x).2.2.1 1, (K k i (-1)).toNat, .inr (.inl (fun j : Nat => iL (up3 K k i z v k i j))))
    congr 5
    funext j
    unfold vp_updL
    by_cases h : j = z.toNat
    · rw [if_pos h, h, Int.toNat_of_nonneg hz.1, up3_s]
    · rw [if_neg h, up3_f _ _ _ _ _ _ (by omega)]
theorem y_zast (hE : YE x cc own ret nm nL RM) {k : Nat} {i z v : Int} (hk : ¬ kC k) (hd : kD K k i = .inr (2, 7, 0)) (ht : kTag k z = false) (hi : 0 ≤ i ∧ i < n k) (hz : 0 ≤ z ∧ z < K k i (-1)) (hv : vp_nar .boolean (iI v) = iI v) (d : decode cc pc = .ok (.bastore, 1)) (kk : Y x n α (up3 K k i z v) bc bs (pc + 1) lv st) : Y x n α K bc bs pc lv (.int (iI v) :: .int (iI z) :: .ref (α k i) :: st) := by
  intro H locs ls cells slots hR hS hl hcb hs
  have hw := wk_len (cr_wk hR) hi hd
  obtain ⟨L, G, hP, hD, h1, h2, h3, h4⟩ := hR
  obtain ⟨m1, m2⟩ := h1 k i hk hi.1 hi.2
  obtain ⟨q0, hq⟩ := va_pl_get (X := []) (f := G) m1
  have hq : (va_pl L G)[q0]? = some (α k i, G (α k i)) := hq
  have hq2 := hq
  rw [m2, cont_a hd] at hq2
  refine va_zast hE.1 hE.2.1 (yK hE) hP hD hS q0 2 hq2 rfl (iI_in hz.1 hz.2 (by omega)) d (fun H1 locs1 hP1 hD1 hS1 => ?_)
  rw [hv] at hP1 hD1
  refine kk H1 locs1 ls cells slots (cr_set hP hD h1 h2 h3 (wk_put_a h4 hd ht hz.1 (fun h => absurd h (by decide))) hk hi (fun k' i' g hne => ?_) hq ?_ hP1 hD1) hS1 hl hcb hs
  · unfold up3
    rw [if_neg]
    rintro ⟨rfl, -, rfl⟩
    rcases hne with h | h <;> exact h rfl
  · rw [cont_a (by rw [kD_up ht]; exact hd), up3_f _ _ _ _ _ _ (by omega : (-1 : Int) ≠ z), iI_cl hz.1 (by omega)]
    show (.inl ((yW x).2.2.1 2, (K k i (-1)).toNat, .inl (upd (fun j : Nat => iI (K k i j)) z.toNat (iI v))) : va_E) = .inl ((yW x).2.2.1 2, (K k i (-1)).toNat, .inl (fun j : Nat => iI (up3 K k i z v k i j)))
    congr 4
    funext j
    unfold upd
    by_cases h : j = z.toNat
    · rw [if_pos h, h, Int.toNat_of_nonneg hz.1, up3_s]
    · rw [if_neg h, up3_f _ _ _ _ _ _ (by omega)]
theorem y_bast (hE : YE x cc own ret nm nL RM) {k : Nat} {i z v : Int} (hk : ¬ kC k) (hd : kD K k i = .inr (3, 8, 0)) (ht : kTag k z = false) (hi : 0 ≤ i ∧ i < n k) (hz : 0 ≤ z ∧ z < K k i (-1)) (hv : vp_nar .byte (iI v) = iI v) (d : decode cc pc = .ok (.bastore, 1)) (kk : Y x n α (up3 K k i z v) bc bs (pc + 1) lv st) : Y x n α K bc bs pc lv (.int (iI v) :: .int (iI z) :: .ref (α k i) :: st) := by
  intro H locs ls cells slots hR hS hl hcb hs
  have hw := wk_len (cr_wk hR) hi hd
  obtain ⟨L, G, hP, hD, h1, h2, h3, h4⟩ := hR
  obtain ⟨m1, m2⟩ := h1 k i hk hi.1 hi.2
  obtain ⟨q0, hq⟩ := va_pl_get (X := []) (f := G) m1
  have hq : (va_pl L G)[q0]? = some (α k i, G (α k i)) := hq
  have hq2 := hq
  rw [m2, cont_a hd] at hq2
  refine va_bast hE.1 hE.2.1 (yK hE) hP hD hS q0 3 hq2 rfl (iI_in hz.1 hz.2 (by omega)) d (fun H1 locs1 hP1 hD1 hS1 => ?_)
  rw [hv] at hP1 hD1
  refine kk H1 locs1 ls cells slots (cr_set hP hD h1 h2 h3 (wk_put_a h4 hd ht hz.1 (fun h => absurd h (by decide))) hk hi (fun k' i' g hne => ?_) hq ?_ hP1 hD1) hS1 hl hcb hs
  · unfold up3
    rw [if_neg]
    rintro ⟨rfl, -, rfl⟩
    rcases hne with h | h <;> exact h rfl
  · rw [cont_a (by rw [kD_up ht]; exact hd), up3_f _ _ _ _ _ _ (by omega : (-1 : Int) ≠ z), iI_cl hz.1 (by omega)]
    show (.inl ((yW x).2.2.1 3, (K k i (-1)).toNat, .inl (upd (fun j : Nat => iI (K k i j)) z.toNat (iI v))) : va_E) = .inl ((yW x).2.2.1 3, (K k i (-1)).toNat, .inl (fun j : Nat => iI (up3 K k i z v k i j)))
    congr 4
    funext j
    unfold upd
    by_cases h : j = z.toNat
    · rw [if_pos h, h, Int.toNat_of_nonneg hz.1, up3_s]
    · rw [if_neg h, up3_f _ _ _ _ _ _ (by omega)]
theorem y_aast (hE : YE x cc own ret nm nL RM) {k : Nat} {i z : Int} {ac kd : Nat} {E : String} (hk : ¬ kC k) (hd : kD K k i = .inr (ac, 2, kd)) (hE2 : kTyl[ac]? = some (.object E)) (ht : kTag k z = false) (hi : 0 ≤ i ∧ i < n k) (hz : 0 ≤ z ∧ z < K k i (-1)) {v : Int} (hv : 0 ≤ v ∧ v < n kd) {ci : Nat} {codes : List (Nat × Nat)} {q : vw_C} (hd2 : kD K kd v = .inl (ci, codes)) (hc2 : kCl[ci]? = some q) (hcast : q.1 = E ∨ Cond.castable q.1 E ∈ lw_tbl) (d : decode cc pc = .ok (.aastore, 1)) (kk : Y x n α (up3 K k i z v) bc bs (pc + 1) lv st) : Y x n α K bc bs pc lv (.ref (α kd v) :: .int (iI z) :: .ref (α k i) :: st) := by
  intro H locs ls cells slots hR hS hl hcb hs
  have hw := wk_len (cr_wk hR) hi hd
  have hrec := cr_recv hE hR hS hv hd2 hc2
  obtain ⟨L, G, hP, hD, h1, h2, h3, h4⟩ := hR
  obtain ⟨m1, m2⟩ := h1 k i hk hi.1 hi.2
  obtain ⟨q0, hq⟩ := va_pl_get (X := []) (f := G) m1
  have hq : (va_pl L G)[q0]? = some (α k i, G (α k i)) := hq
  have hq2 := hq
  rw [m2, cont_a hd] at hq2
  refine vb_astq (C := q.1) hE.1 hE.2.1 (yK hE) hP hD hS q0 ac hq2 (kTys_at hE2) hrec (fun comp c0 e1 e2 => by
    rcases hcast with h | h
    · subst h; exact vb_asgS comp c0 e1 e2
    · exact vb_asgC (y_nwC hE h) comp c0 e1 e2) (iI_in hz.1 hz.2 (by omega)) d (fun H1 locs1 hP1 hD1 hS1 => ?_)
  refine kk H1 locs1 ls cells slots (cr_set hP hD h1 h2 h3 (wk_put_a h4 hd ht hz.1 (fun _ => hv.2)) hk hi (fun k' i' g hne => ?_) hq ?_ hP1 hD1) hS1 hl hcb hs
  · unfold up3
    rw [if_neg]
    rintro ⟨rfl, -, rfl⟩
    rcases hne with h | h <;> exact h rfl
  · rw [cont_a (by rw [kD_up ht]; exact hd), up3_f _ _ _ _ _ _ (by omega : (-1 : Int) ≠ z), iI_cl hz.1 (by omega)]
    show (.inl ((yW x).2.2.1 ac, (K k i (-1)).toNat, .inr (.inr (.inr (.inr (va_up (fun j : Nat => if (j : Int) < K k i (-1) then refO α kd (K k i j) else none) z.toNat (some (α kd v))))))) : va_E) = .inl ((yW x).2.2.1 ac, (K k i (-1)).toNat, .inr (.inr (.inr (.inr (fun j : Nat => if (j : Int) < up3 K k i z v k i (-1) then refO α kd (up3 K k i z v k i j) else none)))))
    rw [up3_f _ _ _ _ _ _ (by omega : (-1 : Int) ≠ z)]
    congr 7
    funext j
    unfold va_up
    by_cases h : j = z.toNat
    · rw [if_pos h, h, Int.toNat_of_nonneg hz.1, up3_s, if_pos hz.2, refO_s hv.1]
    · rw [if_neg h, up3_f _ _ _ _ _ _ (by omega)]
theorem y_aastN (hE : YE x cc own ret nm nL RM) {k : Nat} {i z : Int} {ac kd : Nat} {E : String} (hk : ¬ kC k) (hd : kD K k i = .inr (ac, 2, kd)) (hE2 : kTyl[ac]? = some (.object E)) (ht : kTag k z = false) (hi : 0 ≤ i ∧ i < n k) (hz : 0 ≤ z ∧ z < K k i (-1)) (d : decode cc pc = .ok (.aastore, 1)) (kk : Y x n α (up3 K k i z (-1)) bc bs (pc + 1) lv st) : Y x n α K bc bs pc lv (.null :: .int (iI z) :: .ref (α k i) :: st) := by
  intro H locs ls cells slots hR hS hl hcb hs
  have hw := wk_len (cr_wk hR) hi hd
  obtain ⟨L, G, hP, hD, h1, h2, h3, h4⟩ := hR
  obtain ⟨m1, m2⟩ := h1 k i hk hi.1 hi.2
  obtain ⟨q0, hq⟩ := va_pl_get (X := []) (f := G) m1
  have hq : (va_pl L G)[q0]? = some (α k i, G (α k i)) := hq
  have hq2 := hq
  rw [m2, cont_a hd] at hq2
  refine va_astqN hE.1 hE.2.1 (yK hE) hP hD hS q0 ac hq2 (kTys_at hE2) (iI_in hz.1 hz.2 (by omega)) d (fun H1 locs1 hP1 hD1 hS1 => ?_)
  refine kk H1 locs1 ls cells slots (cr_set hP hD h1 h2 h3 (wk_put_a h4 hd ht hz.1 (fun _ => by have := h4.1 kd; simp only; omega)) hk hi (fun k' i' g hne => ?_) hq ?_ hP1 hD1) hS1 hl hcb hs
  · unfold up3
    rw [if_neg]
    rintro ⟨rfl, -, rfl⟩
    rcases hne with h | h <;> exact h rfl
  · rw [cont_a (by rw [kD_up ht]; exact hd), up3_f _ _ _ _ _ _ (by omega : (-1 : Int) ≠ z), iI_cl hz.1 (by omega)]
    show (.inl ((yW x).2.2.1 ac, (K k i (-1)).toNat, .inr (.inr (.inr (.inr (va_up (fun j : Nat => if (j : Int) < K k i (-1) then refO α kd (K k i j) else none) z.toNat none))))) : va_E) = .inl ((yW x).2.2.1 ac, (K k i (-1)).toNat, .inr (.inr (.inr (.inr (fun j : Nat => if (j : Int) < up3 K k i z (-1) k i (-1) then refO α kd (up3 K k i z (-1) k i j) else none)))))
    rw [up3_f _ _ _ _ _ _ (by omega : (-1 : Int) ≠ z)]
    congr 7
    funext j
    unfold va_up
    by_cases h : j = z.toNat
    · rw [if_pos h, h, Int.toNat_of_nonneg hz.1, up3_s, if_pos hz.2, refO_n (by omega)]
    · rw [if_neg h, up3_f _ _ _ _ _ _ (by omega)]
end KARR
