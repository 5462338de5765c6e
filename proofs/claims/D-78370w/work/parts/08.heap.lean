set_option linter.unusedVariables false
/-! ===== the heap's rows ===== -/
theorem cont_o {dA : Nat → ClassId} {α : KA} {K : KS} {k : Nat} {i : Int} {q : Nat × List (Nat × Nat)} (h : kD K k i = .inl q) : cont dA α K k i = .inr (q.1, fvs α (K k i) q.2 0) := by
  unfold cont
  rw [h]
  rfl
theorem cont_a {dA : Nat → ClassId} {α : KA} {K : KS} {k : Nat} {i : Int} {q : Nat × Nat × Nat} (h : kD K k i = .inr q) : cont dA α K k i = .inl (dA q.1, (K k i (-1)).toNat, arrC α q.2 (K k i)) := by
  unfold cont
  rw [h]
  rfl
section KHEAP
variable {x : YX} {cc : ByteArray} {own nm : String} {ret : Option FieldType} {nL : Nat} {RM : Room} {n : KN} {α : KA} {K : KS} {bc bs pc : Nat} {lv : List (Nat × Value)} {st : List Value}
/-- any live object that is no array: readable -/
theorem cr_any (hE : YE x cc own ret nm nL RM) {H : Heap} {locs : List Loc} (hR : CR (yW x) n α K H) (hS : va_S (kA (yW x)) x.2.2.2.2.1.heap H locs) {k : Nat} {i : Int} (hi : 0 ≤ i ∧ i < n k) : ∃ (ws : va_W) (q0 : Nat), va_P (yW x).2.1 kCl ws H ∧ ws[q0]? = some (α k i, cont (yW x).2.2.1 α K k i) := by
  by_cases hk : kC k
  · obtain ⟨L, G, -, -, -, -, h3, -⟩ := hR
    have h := h3 k i hk hi.1 hi.2
    refine ⟨[(α k i, cont (yW x).2.2.1 α K k i)], 0, fun j q hq => ?_, rfl⟩
    have hj : j < 1 := (List.getElem?_eq_some_iff.mp hq).1
    rw [show j = 0 by omega] at hq
    cases hq
    have hlt := h.lt
    have hI := hE.2.2.2.2.2.2.2.2.2.2.2.2
    exact h.kept ((hS.2.1 _ (Nat.lt_of_lt_of_le hlt hI.1) (fun z => absurd z (Nat.not_le.mpr hlt))).trans (hI.2.1 _ hlt))
  · obtain ⟨L, G, q0, hP, -, hq⟩ := cr_at hR hk hi
    exact ⟨_, q0, hP, hq⟩
theorem cr_recv (hE : YE x cc own ret nm nL RM) {H : Heap} {locs : List Loc} (hR : CR (yW x) n α K H) (hS : va_S (kA (yW x)) x.2.2.2.2.1.heap H locs) {k : Nat} {i : Int} (hi : 0 ≤ i ∧ i < n k) {ci : Nat} {codes : List (Nat × Nat)} {q : vw_C} (hd : kD K k i = .inl (ci, codes)) (hc : kCl[ci]? = some q) : ∃ cell : Cell, H[α k i]? = some cell ∧ cell.vm.isStatics = false ∧ x.2.2.2.2.1.vm.findClass q.1 = some cell.cls := by
  obtain ⟨ws, q0, hP, hq⟩ := cr_any hE hR hS hi
  rw [cont_o hd] at hq
  exact va_recv (yK hE) hP hc hq
/-- getfield: the store's field f of the object i of kind k -/
theorem y_get (hE : YE x cc own ret nm nL RM) {k : Nat} {i : Int} (f : Nat) (fi : Int) {ci N index : Nat} {T : u_T} {C ref : String} {codes : List (Nat × Nat)} {c : Nat × Nat} (hd : kD K k i = .inl (ci, codes)) (hc : kCl[ci]? = some (C, T, N)) (hcode : codes[f]? = some c) (hf : (f : Int) = fi)
    (hin : ∀ w ∈ u_ws C T N, w ∈ lw_all) (hfN : f < N) (hlink : Cond.fieldLink own index ref (T f).2.1 (T f).2.2.1 ∈ lw_all) (hsame : ∀ z, x.2.2.2.2.1.fieldFound? (T f).1 (T f).2.1 (T f).2.2.1 = some z → x.2.2.2.2.1.fieldFound? ref (T f).2.1 (T f).2.2.1 = some z)
    (hi : 0 ≤ i ∧ i < n k) (d : decode cc pc = .ok (.getfield index, 3)) (kk : Y x n α K bc bs (pc + 3) lv (fval α c (K k i fi) :: st)) : Y x n α K bc bs pc lv (.ref (α k i) :: st) := by
  intro H locs ls cells slots hR hS hl hcb hs
  obtain ⟨ws, q0, hP, hq⟩ := cr_any hE hR hS hi
  rw [cont_o hd] at hq
  refine va_get (C := C) (T := T) (N := N) hE.1 hE.2.1 hE.2.2.2.2.1 hin hE.2.2.2.1 (yK hE) hP q0 hq hc f hfN (hE.2.2.2.2.1 _ hlink) hsame (v := fval α c (K k i fi)) ?_ d ?_
  · rw [fvs_at, hcode, ← hf]
    simp
  · exact kk H locs ls cells slots hR hS hl hcb hs
/-- a word of the tables that doesn't ride -/
theorem y_nwF (hE : YE x cc own ret nm nL RM) {a b n d h : String} {i : Nat} (hq : Cond.fieldLinkNest a i b n d h ∈ lw_tbl) : (Cond.fieldLinkNest a i b n d h).before x.2.2.2.2.2.2.1 x.2.2.2.2.1 = true := by
  obtain ⟨-, -, -, -, -, -, -, -, -, -, -, hW, hI⟩ := hE
  exact va_Nw.use rfl (va_Nw.warmF hI.2.2 (va_Nw.of rfl (hW.2.1 _ hq)))
theorem y_nwM (hE : YE x cc own ret nm nL RM) {a h : String} {i : Nat} {y : MethodName} (hq : Cond.methodLinkNest a i y h ∈ lw_tbl) : va_Nw (.methodLinkNest a i y h) x.2.2.2.2.1 := by
  obtain ⟨-, -, -, -, -, -, -, -, -, -, -, hW, hI⟩ := hE
  exact va_Nw.warmM hI.2.2 (va_Nw.of rfl (hW.2.1 _ hq))
theorem y_nwC (hE : YE x cc own ret nm nL RM) {C T : String} (hq : Cond.castable C T ∈ lw_tbl) : va_Nw (.castable C T) x.2.2.2.2.1 := by
  obtain ⟨-, -, -, -, -, -, -, -, -, -, -, hW, hI⟩ := hE
  exact va_Nw.warmC hI.2.2 (va_Nw.of rfl (hW.2.1 _ hq))
theorem y_nwA (hE : YE x cc own ret nm nL RM) {C : String} (hq : Cond.arrayOver (.object C) ∈ lw_tbl) : va_AO C x.2.2.2.2.1 := by
  obtain ⟨-, -, -, -, -, -, -, -, -, -, -, hW, hI⟩ := hE
  exact va_AO.moved hI.2.2.alike (va_AO.of (hW.2.1 _ hq))
theorem y_getN (hE : YE x cc own ret nm nL RM) {k : Nat} {i : Int} (f : Nat) (fi : Int) {ci N index : Nat} {T : u_T} {C ref host : String} {codes : List (Nat × Nat)} {c : Nat × Nat} (hd : kD K k i = .inl (ci, codes)) (hc : kCl[ci]? = some (C, T, N)) (hcode : codes[f]? = some c) (hf : (f : Int) = fi)
    (hin : ∀ w ∈ u_ws C T N, w ∈ lw_all) (hfN : f < N) (hlink : Cond.fieldLinkNest own index ref (T f).2.1 (T f).2.2.1 host ∈ lw_tbl) (hsame : ∀ z, x.2.2.2.2.1.fieldFound? (T f).1 (T f).2.1 (T f).2.2.1 = some z → x.2.2.2.2.1.fieldFound? ref (T f).2.1 (T f).2.2.1 = some z)
    (hi : 0 ≤ i ∧ i < n k) (d : decode cc pc = .ok (.getfield index, 3)) (kk : Y x n α K bc bs (pc + 3) lv (fval α c (K k i fi) :: st)) : Y x n α K bc bs pc lv (.ref (α k i) :: st) := by
  intro H locs ls cells slots hR hS hl hcb hs
  obtain ⟨ws, q0, hP, hq⟩ := cr_any hE hR hS hi
  rw [cont_o hd] at hq
  refine va_getN (C := C) (T := T) (N := N) hE.1 hE.2.1 hE.2.2.2.2.1 hin hE.2.2.2.1 (yK hE) hP q0 hq hc f hfN (y_nwF hE hlink) hsame (v := fval α c (K k i fi)) ?_ d ?_
  · rw [fvs_at, hcode, ← hf]
    simp
  · exact kk H locs ls cells slots hR hS hl hcb hs
/-- a reference known not to be null -/
theorem y_ref {kd : Nat} {z : Int} (h : 0 ≤ z) (k : Y x n α K bc bs pc lv (.ref (α kd z) :: st)) : Y x n α K bc bs pc lv (refV α kd z :: st) := by rw [refV_s h]; exact k
theorem y_refN {kd : Nat} {z : Int} (h : z < 0) (k : Y x n α K bc bs pc lv (.null :: st)) : Y x n α K bc bs pc lv (refV α kd z :: st) := by rw [refV_n h]; exact k
/-- how a written object's cell is what the new store says -/
theorem cont_put {dA : Nat → ClassId} {k : Nat} {i fi z : Int} {f ci : Nat} {codes : List (Nat × Nat)} {c : Nat × Nat} (hd : kD K k i = .inl (ci, codes)) (ht : kTag k fi = false) (hcode : codes[f]? = some c) (hf : (f : Int) = fi) : (.inr (ci, (fvs α (K k i) codes 0).set f (fval α c z)) : va_E) = cont dA α (up3 K k i fi z) k i := by
  rw [cont_o (by rw [kD_up ht]; exact hd)]
  have := fvs_set α (K k i) (up3 K k i fi z k i) codes 0 f c hcode (fun j hj => up3_f _ _ _ _ _ _ (by rw [← hf]; omega))
  rw [show ((0 : Int) + (f : Int)) = fi by omega, up3_s] at this
  rw [this]
theorem wk_put (hW : WK n K) {k : Nat} {i fi z : Int} {f ci : Nat} {codes : List (Nat × Nat)} {c : Nat × Nat} (hd : kD K k i = .inl (ci, codes)) (ht : kTag k fi = false) (hcode : codes[f]? = some c) (hf : (f : Int) = fi) (hz : c.1 = 2 → z < n c.2) : WK n (up3 K k i fi z) := by
  refine wk_up hW ht ?_
  rw [hd]
  simp only
  intro g c' hg hc' h2
  have : g = f := by omega
  subst this
  rw [hcode] at hc'
  cases hc'
  exact hz h2
theorem y_put (hE : YE x cc own ret nm nL RM) {k : Nat} {i z : Int} (f : Nat) (fi : Int) {ci N index : Nat} {T : u_T} {C ref : String} {codes : List (Nat × Nat)} {c : Nat × Nat} (hk : ¬ kC k) (hd : kD K k i = .inl (ci, codes)) (hc : kCl[ci]? = some (C, T, N)) (hcode : codes[f]? = some c) (hf : (f : Int) = fi)
    (hin : ∀ w ∈ u_ws C T N, w ∈ lw_all) (ty0 : Nat → FieldType) (hty : ∀ k, k < N → parseFieldDescriptor (T k).2.2.1 = some (ty0 k)) (hnm : ∀ a, a < N → ∀ b, b < N → a ≠ b → (T a).2.1 ≠ (T b).2.1) (hfN : f < N) (hlen : codes.length = N) (hlink : Cond.fieldLink own index ref (T f).2.1 (T f).2.2.1 ∈ lw_all) (hsame : ∀ z, x.2.2.2.2.1.fieldFound? (T f).1 (T f).2.1 (T f).2.2.1 = some z → x.2.2.2.2.1.fieldFound? ref (T f).2.1 (T f).2.2.1 = some z)
    (hfin : (T f).2.2.2 = false) (ht : kTag k fi = false) {v : Value} (hv : v = fval α c z) (hn : narrow (ty0 f) v = v) (hfit : fits (ty0 f) v = true)
    (hi : 0 ≤ i ∧ i < n k) (hz : c.1 = 2 → z < n c.2) (d : decode cc pc = .ok (.putfield index, 3)) (kk : Y x n α (up3 K k i fi z) bc bs (pc + 3) lv st) : Y x n α K bc bs pc lv (v :: .ref (α k i) :: st) := by
  intro H locs ls cells slots hR hS hl hcb hs
  obtain ⟨L, G, hP, hD, h1, h2, h3, h4⟩ := hR
  obtain ⟨m1, m2⟩ := h1 k i hk hi.1 hi.2
  obtain ⟨q0, hq⟩ := va_pl_get (X := []) (f := G) m1
  have hq : (va_pl L G)[q0]? = some (α k i, G (α k i)) := hq
  have hq2 := hq
  rw [m2, cont_o hd] at hq2
  refine va_put (C := C) (T := T) (N := N) (ty := ty0 f) hE.1 hE.2.1 hE.2.2.2.2.1 hin ty0 hty hnm hE.2.2.2.1 (yK hE) hP hD hS q0 hq2 hc f hfN (hE.2.2.2.2.1 _ hlink) hsame hfin (hty f hfN) hn hfit (by rw [fvs_len, hlen]; exact hfN) d (fun H1 locs1 hP1 hD1 hS1 => ?_)
  subst hv
  refine kk H1 locs1 ls cells slots (cr_set hP hD h1 h2 h3 (wk_put h4 hd ht hcode hf hz) hk hi (fun k' i' g hne => ?_) hq (cont_put hd ht hcode hf) hP1 hD1) hS1 hl hcb hs
  unfold up3
  rw [if_neg]
  rintro ⟨rfl, -, rfl⟩
  rcases hne with h | h <;> exact h rfl
theorem y_putN (hE : YE x cc own ret nm nL RM) {k : Nat} {i z : Int} (f : Nat) (fi : Int) {ci N index : Nat} {T : u_T} {C ref host : String} {codes : List (Nat × Nat)} {c : Nat × Nat} (hk : ¬ kC k) (hd : kD K k i = .inl (ci, codes)) (hc : kCl[ci]? = some (C, T, N)) (hcode : codes[f]? = some c) (hf : (f : Int) = fi)
    (hin : ∀ w ∈ u_ws C T N, w ∈ lw_all) (ty0 : Nat → FieldType) (hty : ∀ k, k < N → parseFieldDescriptor (T k).2.2.1 = some (ty0 k)) (hnm : ∀ a, a < N → ∀ b, b < N → a ≠ b → (T a).2.1 ≠ (T b).2.1) (hfN : f < N) (hlen : codes.length = N) (hlink : Cond.fieldLinkNest own index ref (T f).2.1 (T f).2.2.1 host ∈ lw_tbl) (hsame : ∀ z, x.2.2.2.2.1.fieldFound? (T f).1 (T f).2.1 (T f).2.2.1 = some z → x.2.2.2.2.1.fieldFound? ref (T f).2.1 (T f).2.2.1 = some z)
    (hfin : (T f).2.2.2 = false) (ht : kTag k fi = false) {v : Value} (hv : v = fval α c z) (hn : narrow (ty0 f) v = v) (hfit : fits (ty0 f) v = true)
    (hi : 0 ≤ i ∧ i < n k) (hz : c.1 = 2 → z < n c.2) (d : decode cc pc = .ok (.putfield index, 3)) (kk : Y x n α (up3 K k i fi z) bc bs (pc + 3) lv st) : Y x n α K bc bs pc lv (v :: .ref (α k i) :: st) := by
  intro H locs ls cells slots hR hS hl hcb hs
  obtain ⟨L, G, hP, hD, h1, h2, h3, h4⟩ := hR
  obtain ⟨m1, m2⟩ := h1 k i hk hi.1 hi.2
  obtain ⟨q0, hq⟩ := va_pl_get (X := []) (f := G) m1
  have hq : (va_pl L G)[q0]? = some (α k i, G (α k i)) := hq
  have hq2 := hq
  rw [m2, cont_o hd] at hq2
  refine va_putN (C := C) (T := T) (N := N) (ty := ty0 f) hE.1 hE.2.1 hE.2.2.2.2.1 hin ty0 hty hnm hE.2.2.2.1 (yK hE) hP hD hS q0 hq2 hc f hfN (y_nwF hE hlink) hsame hfin (hty f hfN) hn hfit (by rw [fvs_len, hlen]; exact hfN) d (fun H1 locs1 hP1 hD1 hS1 => ?_)
  subst hv
  refine kk H1 locs1 ls cells slots (cr_set hP hD h1 h2 h3 (wk_put h4 hd ht hcode hf hz) hk hi (fun k' i' g hne => ?_) hq (cont_put hd ht hcode hf) hP1 hD1) hS1 hl hcb hs
  unfold up3
  rw [if_neg]
  rintro ⟨rfl, -, rfl⟩
  rcases hne with h | h <;> exact h rfl
end KHEAP
