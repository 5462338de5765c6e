set_option linter.unusedVariables false
/-- the candidates as the machine's arrays have them -/
def CA (L : List (Int × Int)) (mc : Int) (f g : Int → Int) : Prop := mc = L.length ∧ ∀ (k : Nat) (e : Int × Int), L[k]? = some e → f k = e.1 ∧ g k = e.2
theorem CA.congr {L : List (Int × Int)} {mc mc' : Int} {f g f' g' : Int → Int} (h : CA L mc f g) (hm : mc' = mc) (hf : ∀ k : Int, 0 ≤ k → f' k = f k ∧ g' k = g k) : CA L mc' f' g' := ⟨hm.trans h.1, fun k e he => by rw [(hf k (by omega)).1, (hf k (by omega)).2]; exact h.2 k e he⟩
theorem CA.app {L : List (Int × Int)} {mc t b : Int} {f g f' g' : Int → Int} (h : CA L mc f g) (h1 : f' mc = t ∧ g' mc = b) (h2 : ∀ k : Int, 0 ≤ k → k < mc → f' k = f k ∧ g' k = g k) : CA (L ++ [(t, b)]) (mc + 1) f' g' := by
  obtain ⟨hm, hl⟩ := h
  refine ⟨by rw [List.length_append, List.length_singleton]; omega, fun k e he => ?_⟩
  by_cases q : k < L.length
  · rw [List.getElem?_append_left q] at he
    rw [(h2 k (by omega) (by omega)).1, (h2 k (by omega) (by omega)).2]
    exact hl k e he
  · by_cases q2 : k = L.length
    · subst q2
      rw [List.getElem?_append_right (Nat.le_refl _), Nat.sub_self] at he
      simp only [List.getElem?_cons_zero, Option.some.injEq] at he
      subst he
      rw [← hm]
      exact h1
    · have : (L ++ [(t, b)])[k]? = none := List.getElem?_eq_none (by rw [List.length_append, List.length_singleton]; omega)
      rw [this] at he
      cases he
theorem CA.inC {L : List (Int × Int)} {mc t : Int} {f g : Int → Int} (h : CA L mc f g) : inC f t mc.toNat = 1 ↔ ∃ e ∈ L, e.1 = t := by
  obtain ⟨hm, hl⟩ := h
  rw [inC_iff]
  constructor
  · rintro ⟨j, j0, j1, j2⟩
    have hj : j.toNat < L.length := by omega
    have e := hl j.toNat L[j.toNat] (List.getElem?_eq_getElem hj)
    rw [show ((j.toNat : Nat) : Int) = j by omega] at e
    exact ⟨L[j.toNat], List.getElem_mem hj, by rw [← e.1, j2]⟩
  · rintro ⟨e, he, h1⟩
    obtain ⟨k, hk, hke⟩ := List.getElem_of_mem he
    have e2 := hl k e (by rw [List.getElem?_eq_getElem hk, hke])
    exact ⟨k, by omega, by omega, by rw [e2.1, h1]⟩
theorem flt_len {A : Type} (p : A → Bool) : ∀ L : List A, L.length = (L.filter p).length + (L.filter (fun e => !p e)).length
  | [] => rfl
  | a :: L => by
    have := flt_len p L
    by_cases h : p a = true <;> simp [List.filter_cons, h] <;> omega
/-- different numbers below m: not more than m -/
theorem uq_len : ∀ (m : Nat) (L : List (Int × Int)), L.Pairwise (fun a b => a.1 ≠ b.1) → (∀ e ∈ L, 0 ≤ e.1 ∧ e.1 < m) → L.length ≤ m
  | 0, [], _, _ => Nat.le_refl _
  | 0, e :: L, _, h => by have := h e List.mem_cons_self; omega
  | m + 1, L, hp, h => by
    have h1 := uq_len m (L.filter (fun e => e.1 != m)) (hp.filter _) (fun e he => by
      have a := List.mem_filter.mp he
      have b := h e a.1
      have c : e.1 ≠ m := by simpa using a.2
      omega)
    have h2 := flt_len (fun e : Int × Int => e.1 != m) L
    have h3 : ∀ M : List (Int × Int), M.Pairwise (fun a b => a.1 ≠ b.1) → (∀ e ∈ M, e.1 = (m : Int)) → M.length ≤ 1 := fun M hq hm => by
      match M, hq, hm with
      | [], _, _ => simp
      | [a], _, _ => simp
      | a :: b :: r, hq, hm =>
        have := (List.pairwise_cons.mp hq).1 b List.mem_cons_self
        have q1 := hm a List.mem_cons_self
        have q2 := hm b (List.mem_cons_of_mem _ List.mem_cons_self)
        omega
    have h4 := h3 _ (hp.filter (fun e : Int × Int => !(e.1 != (m : Int)))) (fun e he => by simpa using (List.mem_filter.mp he).2)
    omega
theorem cnP_uq {S : SS} {st b ps : Int} {L : List (Int × Int)} (hL : L.Pairwise (fun a b => a.1 ≠ b.1)) : ∀ m : Nat, (cnP S st b ps L m).Pairwise (fun a b => a.1 ≠ b.1)
  | 0 => hL
  | m + 1 => by
    rw [cnP]
    split
    · rename_i c
      rw [List.pairwise_append]
      refine ⟨cnP_uq hL m, List.pairwise_singleton _ _, fun x hx y hy => ?_⟩
      rw [List.mem_singleton] at hy
      subst hy
      exact c.2 x hx
    · exact cnP_uq hL m
