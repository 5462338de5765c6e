set_option linter.unusedVariables false
/-! ===== the reference's object, read and written ===== -/
theorem KM.mono {w : KW} {y : MethodName} {b : ByteArray} {L : Nat} {ret : Option FieldType} {rm : Room} {rt : Nat × Nat} {av : List Value} {n : KN} {α : KA} {K : KS} {post post' : Int → KN → KA → KS → Prop} (h : KM w y b L ret rm rt av n α K post) (hi : ∀ r n' α' K', Ext n α n' α' → post r n' α' K' → post' r n' α' K') : KM w y b L ret rm rt av n α K post' := by
  unfold KM Met at *
  refine MetFree.mono h (fun _ _ h => h) (fun _ _ _ _ _ h => h) (fun a s o t _ hq => ?_)
  obtain ⟨⟨⟨r, n', α', K', h1, h2, h3, h4⟩, h5⟩, h6⟩ := hq
  exact ⟨⟨⟨r, n', α', K', h1, h2, h3, hi _ _ _ _ h3 h4⟩, h5⟩, h6⟩
/-- the reference's kinds -/
def MK (k : Nat) (i : Int) : Prop := k = 4 ∨ 100 ≤ k ∧ k < 150
theorem MObj.n4 {n : KN} {K : KS} (h : MObj n K) : n 4 = 1 := h.1
theorem MObj.r {n : KN} {K : KS} (h : MObj n K) (f : Nat) (hf : 0 < mLen f) : K 4 0 f = 0 := (h.2 f hf).2.1
theorem MObj.l {n : KN} {K : KS} (h : MObj n K) (f : Nat) (hf : 0 < mLen f) : K (100 + f) 0 (-1) = mLen f := (h.2 f hf).2.2
theorem MObj.s {n : KN} {K : KS} (h : MObj n K) {f0 : Nat} (hs : mLen f0 = 0) (v : Int) : MObj n (up3 K 4 0 f0 v) := by
  refine ⟨h.1, fun f hf => ?_⟩
  have hne : f ≠ f0 := fun e => by subst e; omega
  rw [up3_f _ _ _ _ _ _ (by omega), up3_k _ _ _ _ _ _ (by omega)]
  exact h.2 f hf
theorem MObj.a {n : KN} {K : KS} (h : MObj n K) {k : Nat} (hk : k ≠ 4) {j : Int} (hj : 0 ≤ j) (v : Int) : MObj n (up3 K k 0 j v) := by
  refine ⟨h.1, fun f hf => ?_⟩
  rw [up3_k _ _ _ _ _ _ (Ne.symm hk), up3_f _ _ _ _ _ _ (by omega)]
  exact h.2 f hf
theorem MRep.ra {S : SS} {n : KN} {K : KS} (h : MRep S n K) (f : Nat) (hf : mKeeps f = true) {j : Int} (h0 : 0 ≤ j) (hj : j < mLen f) : K (100 + f) 0 j = S f j := h.2.1 f hf j h0 hj
/-- a lasting array is written -/
theorem MRep.a {S : SS} {n : KN} {K : KS} (h : MRep S n K) (f : Nat) (hf : mKeeps f = true) {j : Int} (hj : 0 ≤ j) (v : Int) : MRep (up2 S f j v) n (up3 K (100 + f) 0 j v) := by
  refine ⟨h.1.a (by omega) hj v, fun g hg i h0 hl => ?_, ?_⟩
  · unfold up3 up2
    by_cases e : g = f ∧ i = j
    · rw [if_pos ⟨by rw [e.1], e.2, rfl⟩, if_pos e]
    · rw [if_neg (fun z => e ⟨by omega, z.2.1⟩), if_neg e]
      exact h.2.1 g hg i h0 hl
  · have hm : f ≠ 3 ∧ f ≠ 8 ∧ f ≠ 14 ∧ f ≠ 19 ∧ f ≠ 21 ∧ f ≠ 22 ∧ f ≠ 24 := by
      refine ⟨?_, ?_, ?_, ?_, ?_, ?_, ?_⟩ <;> (rintro rfl; revert hf; decide)
    simp only [up3_k K _ _ _ _ _ (show (4 : Nat) ≠ 100 + f by omega)]
    rw [up2_f _ _ _ _ (Ne.symm hm.1), up2_f _ _ _ _ (Ne.symm hm.2.1), up2_f _ _ _ _ (Ne.symm hm.2.2.1), up2_f _ _ _ _ (Ne.symm hm.2.2.2.1), up2_f _ _ _ _ (Ne.symm hm.2.2.2.2.1), up2_f _ _ _ _ (Ne.symm hm.2.2.2.2.2.1), up2_f _ _ _ _ (Ne.symm hm.2.2.2.2.2.2)]
    exact h.2.2
/-- a lasting scalar is written -/
theorem MRep.s {S : SS} {n : KN} {K : KS} (h : MRep S n K) (f : Nat) (hf : f ∈ [3, 8, 14, 19, 21, 22, 24]) (v : Int) : MRep (up2 S f 0 v) n (up3 K 4 0 f v) := by
  have hl : mLen f = 0 := by
    simp only [List.mem_cons, List.not_mem_nil, or_false] at hf
    rcases hf with rfl | rfl | rfl | rfl | rfl | rfl | rfl <;> rfl
  refine ⟨h.1.s hl v, fun g hg i h0 hi => ?_, ?_⟩
  · rw [up3_k _ _ _ _ _ _ (by omega), up2_f]
    · exact h.2.1 g hg i h0 hi
    · rintro rfl
      simp [mKeeps, hl] at hg
  · obtain ⟨h1, h2, h3, h4, h5, h6, h7⟩ := h.2.2
    simp only [List.mem_cons, List.not_mem_nil, or_false] at hf
    rcases hf with rfl | rfl | rfl | rfl | rfl | rfl | rfl <;> simp [up3, up2, h1, h2, h3, h4, h5, h6, h7]
/-- a scalar of the moment is written -/
theorem MRep.t {S : SS} {n : KN} {K : KS} (h : MRep S n K) (f : Nat) (hf : mLen f = 0 ∧ 24 < f) (v : Int) : MRep S n (up3 K 4 0 f v) := by
  refine ⟨h.1.s hf.1 v, fun g hg i h0 hi => ?_, ?_⟩
  · rw [up3_k _ _ _ _ _ _ (by omega)]
    exact h.2.1 g hg i h0 hi
  · have e : ∀ g : Int, g ≤ 24 → up3 K 4 0 f v 4 0 g = K 4 0 g := fun g hg => up3_f _ _ _ _ _ _ (by omega)
    rw [e 3 (by omega), e 8 (by omega), e 14 (by omega), e 19 (by omega), e 21 (by omega), e 22 (by omega), e 24 (by omega)]
    exact h.2.2
/-- an array of the moment is written -/
theorem MRep.u {S : SS} {n : KN} {K : KS} (h : MRep S n K) (f : Nat) (hf : 26 ≤ f) {j : Int} (hj : 0 ≤ j) (v : Int) : MRep S n (up3 K (100 + f) 0 j v) := by
  refine ⟨h.1.a (by omega) hj v, fun g hg i h0 hi => ?_, ?_⟩
  · have : g < 26 := by
      simp only [mKeeps, Bool.and_eq_true, decide_eq_true_eq] at hg
      exact hg.2
    rw [up3_k _ _ _ _ _ _ (by omega)]
    exact h.2.1 g hg i h0 hi
  · simp only [up3_k K _ _ _ _ _ (show (4 : Nat) ≠ 100 + f by omega)]
    exact h.2.2
/-- the component's side doesn't see it -/
theorem MRep.keep {S : SS} {n n' : KN} {K K' : KS} (h : MRep S n K) (hn : n' 4 = n 4 ∧ ∀ f : Nat, f < 50 → n' (100 + f) = n (100 + f)) (hk : ∀ (k : Nat) (i : Int), MK k i → ∀ f, K' k i f = K k i f) : MRep S n' K' := by
  have hf50 : ∀ f : Nat, 0 < mLen f → f < 50 := fun f hf => by
    by_cases h : f < 50
    · exact h
    · exfalso
      have : mLen f = 0 := by
        unfold mLen
        split <;> first | omega | rfl
      omega
  have e4 : ∀ f, K' 4 0 f = K 4 0 f := fun f => hk 4 0 (Or.inl rfl) f
  have ea : ∀ f : Nat, f < 50 → ∀ j, K' (100 + f) 0 j = K (100 + f) 0 j := fun f hf j => hk _ 0 (Or.inr (by omega)) j
  refine ⟨⟨hn.1.trans h.1.1, fun f hf => ?_⟩, fun f hf j h0 hj => ?_, ?_⟩
  · obtain ⟨h1, h2, h3⟩ := h.1.2 f hf
    exact ⟨(hn.2 f (hf50 f hf)).trans h1, (e4 _).trans h2, (ea f (hf50 f hf) _).trans h3⟩
  · have h26 : f < 26 := by
      simp only [mKeeps, Bool.and_eq_true, decide_eq_true_eq] at hf
      exact hf.2
    rw [ea f (by omega)]
    exact h.2.1 f hf j h0 hj
  · simp only [e4]
    exact h.2.2
