set_option linter.unusedVariables false
/-! ===== the world: read, written, grown ===== -/
theorem cr_at {w : KW} {n : KN} {α : KA} {K : KS} {H : Heap} (hR : CR w n α K H) {k : Nat} {i : Int} (hk : ¬ kC k) (hi : 0 ≤ i ∧ i < n k) : ∃ (L : List Nat) (G : Nat → va_E) (q0 : Nat), va_P w.2.1 kCl (va_pl L G) H ∧ va_D (kA w) (va_pl L G) ∧ (va_pl L G)[q0]? = some (α k i, cont w.2.2.1 α K k i) := by
  obtain ⟨L, G, hP, hD, h1, -⟩ := hR
  obtain ⟨m1, m2⟩ := h1 k i hk hi.1 hi.2
  obtain ⟨q0, hq⟩ := va_pl_get (X := []) (f := G) m1
  exact ⟨L, G, q0, hP, hD, by rw [← m2]; exact hq⟩
theorem cr_wk {w : KW} {n : KN} {α : KA} {K : KS} {H : Heap} (hR : CR w n α K H) : WK n K := by
  obtain ⟨L, G, -, -, -, -, -, h⟩ := hR
  exact h
/-- one object is written -/
theorem cr_set {w : KW} {n : KN} {α : KA} {K K' : KS} {H : Heap} {L : List Nat} {G : Nat → va_E} (hP : va_P w.2.1 kCl (va_pl L G) H) (hD : va_D (kA w) (va_pl L G))
    (h1 : ∀ (k : Nat) (i : Int), ¬ kC k → 0 ≤ i → i < n k → α k i ∈ L ∧ G (α k i) = cont w.2.2.1 α K k i)
    (h2 : ∀ (k k' : Nat) (i i' : Int), ¬ kC k → ¬ kC k' → 0 ≤ i → i < n k → 0 ≤ i' → i' < n k' → α k i = α k' i' → k = k' ∧ i = i') (h3 : CC w n α K) (hW : WK n K')
    {k : Nat} {i : Int} (hk : ¬ kC k) (hi : 0 ≤ i ∧ i < n k) (hK : ∀ (k' : Nat) (i' f : Int), (k' ≠ k ∨ i' ≠ i) → K' k' i' f = K k' i' f) {q0 : Nat} (hq : (va_pl L G)[q0]? = some (α k i, G (α k i))) {e : va_E} (he : e = cont w.2.2.1 α K' k i) {H1 : Heap}
    (hP1 : va_P w.2.1 kCl ((va_pl L G).set q0 (α k i, e)) H1) (hD1 : va_D (kA w) ((va_pl L G).set q0 (α k i, e))) : CR w n α K' H1 := by
  have hm := (h1 k i hk hi.1 hi.2).1
  have e1 : (va_pl L G).set q0 (α k i, e) = va_pl L (va_up G (α k i) e) := va_pl_set (X := []) hD hm hq
  rw [e1] at hP1 hD1
  refine ⟨L, va_up G (α k i) e, hP1, hD1, fun k' i' hk' h0 hl => ?_, h2, fun k' i' hc h0 hl => ?_, hW⟩
  · refine ⟨(h1 k' i' hk' h0 hl).1, ?_⟩
    by_cases hh : k' = k ∧ i' = i
    · obtain ⟨rfl, rfl⟩ := hh
      rw [va_up_self, he]
    · have hne : k' ≠ k ∨ i' ≠ i := by
        by_cases h : k' = k
        · exact Or.inr fun h4 => hh ⟨h, h4⟩
        · exact Or.inl h
      rw [va_up_ne _ _ (fun h => hh (h2 k' k i' i hk' hk h0 hl hi.1 hi.2 h)), (h1 k' i' hk' h0 hl).2]
      exact (cont_congr fun f => hK k' i' f hne).symm
  · have hne : k' ≠ k := fun h => hk (h ▸ hc)
    rw [cont_congr fun f => hK k' i' f (Or.inl hne)]
    exact h3 k' i' hc h0 hl
theorem cont_ext {dA : Nat → ClassId} {n : KN} {α α' : KA} {K : KS} (hW : WK n K) {k : Nat} {i : Int} (h0 : 0 ≤ i) (hl : i < n k) (ha : ∀ (j : Nat) (z : Int), 0 ≤ z → z < n j → α' j z = α j z) : cont dA α' K k i = cont dA α K k i := by
  have h := hW.2 k i h0 hl
  have hr : ∀ (j : Nat) (z : Int), z < n j → refO α' j z = refO α j z := by
    intro j z hz
    by_cases hn : z < 0
    · rw [refO_n hn, refO_n hn]
    · rw [refO_s (by omega), refO_s (by omega), ha j z (by omega) hz]
  unfold cont contD
  cases hd : kD K k i with
  | inl q =>
    rw [hd] at h
    simp only
    congr 2
    refine fvs_congr _ _ _ _ _ _ fun j c hj => ?_
    by_cases h2 : c.1 = 2
    · obtain ⟨c1, c2⟩ := c
      simp only at h2
      subst h2
      have h4 := h j _ hj rfl
      simp only at h4
      simp only [fval, refV, Int.zero_add]
      rw [hr c2 _ h4]
    · obtain ⟨c1, c2⟩ := c
      simp only at h2
      unfold fval
      simp only
      split
      · rfl
      · exact absurd rfl h2
      · rfl
      · rfl
  | inr q =>
    rw [hd] at h
    simp only at h ⊢
    congr 3
    by_cases h2 : q.2.1 = 2
    · obtain ⟨q1, q2, q3⟩ := q
      simp only at h2
      subst h2
      simp only [arrC]
      congr 4
      funext j
      by_cases hj : (j : Int) < K k i (-1)
      · rw [if_pos hj, if_pos hj]
        exact hr _ _ (h.2.2 rfl j (by omega) hj)
      · rw [if_neg hj, if_neg hj]
    · obtain ⟨q1, q2, q3⟩ := q
      simp only at h2
      unfold arrC
      simp only
      split
      · rfl
      · exact absurd rfl h2
      · rfl
theorem upn_le (n : KN) (k k' : Nat) : n k' ≤ upn n k k' := by
  unfold upn
  split
  · next e => subst e; omega
  · omega
theorem upn_new {n : KN} {k k' : Nat} {i' : Int} (h : i' < upn n k k') : i' < n k' ∨ (k' = k ∧ i' = n k) := by
  unfold upn at h
  split at h
  · next e =>
    subst e
    by_cases h4 : i' < n k'
    · exact Or.inl h4
    · exact Or.inr ⟨rfl, by omega⟩
  · exact Or.inl h
/-- one object is added -/
theorem cr_push {w : KW} {n : KN} {α : KA} {K : KS} {L : List Nat} {G : Nat → va_E}
    (h1 : ∀ (k : Nat) (i : Int), ¬ kC k → 0 ≤ i → i < n k → α k i ∈ L ∧ G (α k i) = cont w.2.2.1 α K k i)
    (h2 : ∀ (k k' : Nat) (i i' : Int), ¬ kC k → ¬ kC k' → 0 ≤ i → i < n k → 0 ≤ i' → i' < n k' → α k i = α k' i' → k = k' ∧ i = i') (h3 : CC w n α K) (hW : WK n K)
    {k : Nat} {g : Int → Int} {q : Nat} (hk : ¬ kC k) (hW' : WK (upn n k) (upo K k (n k) g)) {H1 : Heap} {e : va_E} (he : e = cont w.2.2.1 (upa α k (n k) q) (upo K k (n k) g) k (n k))
    (hP1 : va_P w.2.1 kCl (va_pl L G ++ [(q, e)]) H1) (hD1 : va_D (kA w) (va_pl L G ++ [(q, e)])) : CR w (upn n k) (upa α k (n k) q) (upo K k (n k) g) H1 ∧ Ext n α (upn n k) (upa α k (n k) q) := by
  have hq : q ∉ L := by
    intro hm
    obtain ⟨j, hj⟩ := va_pl_get (X := []) (f := G) hm
    have hj : (va_pl L G)[j]? = some (q, G q) := hj
    have hl := (List.getElem?_eq_some_iff.mp hj).1
    have e2 := hD1.1 j (va_pl L G).length (q, G q) (q, e) (by rw [List.getElem?_append_left hl]; exact hj) (by simp) rfl
    omega
  have hold : ∀ (j : Nat) (z : Int), 0 ≤ z → z < n j → upa α k (n k) q j z = α j z := by
    intro j z _ hz
    unfold upa
    rw [if_neg]
    rintro ⟨rfl, rfl⟩
    omega
  have hKo : ∀ (k' : Nat) (i' f : Int), i' < n k' → upo K k (n k) g k' i' f = K k' i' f := by
    intro k' i' f hl
    unfold upo
    rw [if_neg]
    rintro ⟨rfl, rfl⟩
    omega
  have hpl : va_pl L G ++ [(q, e)] = va_pl (L ++ [q]) (va_up G q e) := va_pl_push hq
  rw [hpl] at hP1 hD1
  have hlive : ∀ (k' : Nat) (i' : Int), 0 ≤ i' → i' < n k' → cont w.2.2.1 (upa α k (n k) q) (upo K k (n k) g) k' i' = cont w.2.2.1 α K k' i' := fun k' i' h0 hl => by
    rw [cont_congr fun f => hKo k' i' f hl]
    exact cont_ext hW h0 hl hold
  have hself : upa α k (n k) q k (n k) = q := by simp [upa]
  have hn0 : ∀ k' : Nat, n k' ≤ upn n k k' := upn_le n k
  refine ⟨⟨L ++ [q], va_up G q e, hP1, hD1, fun k' i' hk' h0 hl => ?_, fun k1 k2 i1 i2 hk1 hk2 a0 a1 b0 b1 hab => ?_, fun k' i' hc h0 hl => ?_, hW'⟩, fun k' => ⟨hn0 k', fun i' h0 hl => hold k' i' h0 hl⟩⟩
  · by_cases hh : i' < n k'
    · rw [hold k' i' h0 hh, hlive k' i' h0 hh]
      obtain ⟨g1, g2⟩ := h1 k' i' hk' h0 hh
      refine ⟨List.mem_append_left _ g1, ?_⟩
      rw [va_up_ne _ _ (fun (h : α k' i' = q) => hq (h ▸ g1)), g2]
    · rcases upn_new hl with h | ⟨rfl, rfl⟩
      · exact absurd h hh
      · rw [hself, va_up_self, he]
        exact ⟨List.mem_append_right _ (List.mem_singleton.mpr rfl), rfl⟩
  · by_cases c1 : i1 < n k1 <;> by_cases c2 : i2 < n k2
    · rw [hold k1 i1 a0 c1, hold k2 i2 b0 c2] at hab
      exact h2 k1 k2 i1 i2 hk1 hk2 a0 c1 b0 c2 hab
    · rcases upn_new b1 with h | ⟨rfl, rfl⟩
      · exact absurd h c2
      · rw [hold k1 i1 a0 c1, hself] at hab
        exact absurd (hab ▸ (h1 k1 i1 hk1 a0 c1).1) hq
    · rcases upn_new a1 with h | ⟨rfl, rfl⟩
      · exact absurd h c1
      · rw [hold k2 i2 b0 c2, hself] at hab
        exact absurd (hab.symm ▸ (h1 k2 i2 hk2 b0 c2).1) hq
    · rcases upn_new a1 with h | ⟨rfl, rfl⟩
      · exact absurd h c1
      · rcases upn_new b1 with h | ⟨rfl, rfl⟩
        · exact absurd h c2
        · exact ⟨rfl, rfl⟩
  · have hne : k' ≠ k := fun h => hk (h ▸ hc)
    have hl2 : i' < n k' := by
      unfold upn at hl
      rw [if_neg hne] at hl
      exact hl
    rw [hold k' i' h0 hl2, hlive k' i' h0 hl2]
    exact h3 k' i' hc h0 hl2
/-- the fields that say what an object is -/
def kTag (k : Nat) (f : Int) : Bool := f == 9 && (k == 8 || k == 16 || k == 27)
theorem kD_up {K : KS} {k : Nat} {i f v : Int} (h : kTag k f = false) (k' : Nat) (i' : Int) : kD (up3 K k i f v) k' i' = kD K k' i' := by
  have hx : ∀ q : Nat, (q = 8 ∨ q = 16 ∨ q = 27) → up3 K k i f v q i' 9 = K q i' 9 := by
    intro q hq
    unfold up3
    rw [if_neg]
    rintro ⟨rfl, rfl, rfl⟩
    rcases hq with rfl | rfl | rfl <;> simp [kTag] at h
  unfold kD
  rw [hx 8 (Or.inl rfl), hx 16 (Or.inr (Or.inl rfl)), hx 27 (Or.inr (Or.inr rfl))]
theorem wk_up {n : KN} {K : KS} (hW : WK n K) {k : Nat} {i f v : Int} (ht : kTag k f = false) (h : match kD K k i with
      | .inl q => ∀ (g : Nat) (c : Nat × Nat), (g : Int) = f → q.2[g]? = some c → c.1 = 2 → v < n c.2
      | .inr q => f ≠ -1 ∧ (q.2.1 = 2 → v < n q.2.2)) : WK n (up3 K k i f v) := by
  refine ⟨hW.1, fun k' i' h0 hl => ?_⟩
  rw [kD_up ht]
  have h1 := hW.2 k' i' h0 hl
  by_cases hh : k' = k ∧ i' = i
  · obtain ⟨rfl, rfl⟩ := hh
    cases hd : kD K k' i' with
    | inl q =>
      rw [hd] at h h1
      simp only at h h1 ⊢
      intro g c hg hc
      by_cases e : (g : Int) = f
      · subst e
        rw [up3_s]
        exact h g c rfl hg hc
      · rw [up3_f _ _ _ _ _ _ e]
        exact h1 g c hg hc
    | inr q =>
      rw [hd] at h h1
      simp only at h h1 ⊢
      rw [up3_f _ _ _ _ _ _ (Ne.symm h.1)]
      refine ⟨h1.1, h1.2.1, fun hq j j0 jl => ?_⟩
      by_cases e : j = f
      · subst e
        rw [up3_s]
        exact h.2 hq
      · rw [up3_f _ _ _ _ _ _ e]
        exact h1.2.2 hq j j0 jl
  · have e : ∀ g, up3 K k i f v k' i' g = K k' i' g := fun g => by
      unfold up3
      rw [if_neg fun q => hh ⟨q.1, q.2.2⟩]
    rw [show up3 K k i f v k' i' = K k' i' from funext e]
    exact h1
theorem kD_o {K : KS} {k : Nat} {i : Int} {g : Int → Int} {k' : Nat} {i' : Int} (h : k' ≠ k ∨ i' ≠ i) : kD (upo K k i g) k' i' = kD K k' i' := by
  apply kD_congr
  intro f
  unfold upo
  rw [if_neg]
  rintro ⟨rfl, rfl⟩
  rcases h with h | h <;> exact h rfl
theorem wk_push {n : KN} {K : KS} (hW : WK n K) {k : Nat} {g : Int → Int} (h : match kD (upo K k (n k) g) k (n k) with
      | .inl q => ∀ (f : Nat) (c : Nat × Nat), q.2[f]? = some c → c.1 = 2 → g f < 0
      | .inr q => 0 ≤ g (-1) ∧ g (-1) ≤ 2147483647 ∧ (q.2.1 = 2 → ∀ j : Int, 0 ≤ j → g j < 0)) : WK (upn n k) (upo K k (n k) g) := by
  have hn0 : ∀ k' : Nat, n k' ≤ upn n k k' := upn_le n k
  refine ⟨fun k' => Int.le_trans (hW.1 k') (hn0 k'), fun k' i' h0 hl => ?_⟩
  by_cases hh : k' = k ∧ i' = n k
  · obtain ⟨rfl, rfl⟩ := hh
    rw [show upo K k' (n k') g k' (n k') = g from funext fun f => upo_s _ _ _ _ _]
    cases hd : kD (upo K k' (n k') g) k' (n k') with
    | inl q =>
      rw [hd] at h
      simp only at h ⊢
      intro f c hf hc
      have h2 := h f c hf hc
      have h3 := hW.1 c.2
      have h4 := hn0 c.2
      omega
    | inr q =>
      rw [hd] at h
      simp only at h ⊢
      refine ⟨h.1, h.2.1, fun hq j j0 _ => ?_⟩
      have h2 := h.2.2 hq j j0
      have h3 := hW.1 q.2.2
      have h4 := hn0 q.2.2
      omega
  · have hl2 : i' < n k' := (upn_new hl).resolve_right hh
    have hne : k' ≠ k ∨ i' ≠ n k := by
      by_cases e : k' = k
      · exact Or.inr fun e2 => hh ⟨e, e2⟩
      · exact Or.inl e
    have h1 := hW.2 k' i' h0 hl2
    rw [kD_o hne]
    rw [show upo K k (n k) g k' i' = K k' i' from funext fun f => by unfold upo; rw [if_neg hh]]
    cases hd : kD K k' i' with
    | inl q =>
      rw [hd] at h1
      simp only at h1 ⊢
      intro f c hf hc
      exact Int.lt_of_lt_of_le (h1 f c hf hc) (hn0 c.2)
    | inr q =>
      rw [hd] at h1
      simp only at h1 ⊢
      exact ⟨h1.1, h1.2.1, fun hq j j0 jl => Int.lt_of_lt_of_le (h1.2.2 hq j j0 jl) (hn0 q.2.2)⟩
