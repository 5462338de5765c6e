set_option linter.unusedVariables false
/-- a track goes on by a step -/
def advS (S : SS) (a step : Int) : SS := if S 17 (S 0 a) ≠ 0 then up2 (up2 (up2 S 0 (a + 1) ((prgS S a + step) / 1000000)) 0 (a + 2) ((prgS S a + step) % 1000000)) 0 (a + 3) 0 else up2 (up2 S 0 (a + 2) (if S 0 (a + 2) + step > 1000000 then 1000000 else S 0 (a + 2) + step)) 0 (a + 3) 0
theorem advS_f {S : SS} {a step : Int} {f : Nat} (h : f ≠ 0) : advS S a step f = S f := by
  unfold advS
  split
  · funext j; rw [up2_f _ _ _ _ h, up2_f _ _ _ _ h, up2_f _ _ _ _ h]
  · funext j; rw [up2_f _ _ _ _ h, up2_f _ _ _ _ h]
theorem advS_o {S : SS} {a step j : Int} (h : j ≤ a ∨ a + 3 < j) : advS S a step 0 j = S 0 j := by
  unfold advS
  split
  · rw [up2_j _ _ _ _ (by omega), up2_j _ _ _ _ (by omega), up2_j _ _ _ _ (by omega)]
  · rw [up2_j _ _ _ _ (by omega), up2_j _ _ _ _ (by omega)]
theorem advS_ok {S : SS} {a step T : Int} (h : TkOk S a T) (hs : 0 ≤ step ∧ step ≤ 4000000) : TkOk (advS S a step) a (T + 1) := by
  have h2 := h
  unfold TkOk at h2
  unfold TkOk
  rw [advS_o (j := a) (by omega), advS_f (f := 19) (by decide), advS_f (f := 17) (by decide)]
  unfold advS
  split
  · rw [up2_j _ _ _ _ (by omega), up2_j _ _ _ _ (by omega), up2_s, up2_j _ _ _ _ (by omega), up2_s, up2_s]
    unfold prgS
    omega
  · rename_i e
    rw [up2_j _ _ _ _ (by omega), up2_j _ _ _ _ (by omega), up2_j _ _ _ _ (by omega), up2_s, up2_s]
    split <;> omega
theorem advS_tk {S : SS} {a b step T : Int} (h : TkOk S b T) (hd : b + 3 ≤ a ∨ a + 3 < b) : TkOk (advS S a step) b T := h.at (advS_o (by omega)) (advS_o (by omega)) (advS_o (by omega)) (advS_o (by omega)) (advS_f (by decide)) (advS_f (by decide))
def mixS (S : SS) (x y : Int) : Int := ((1000000 - shS S) * x + shS S * y) / 1000000
def bstS (S : SS) : Int := 1000000 * mixS S (S 16 (S 0 12)) (S 16 (S 0 16)) / (100 * mixS S (lenS S (S 0 12)) (lenS S (S 0 16)))
def bthA (S : SS) : SS := if S 0 20 = 0 then advS S 12 (stpS S (S 0 12)) else S
def bthS (S : SS) : SS := if S 0 20 = 0 ∧ S 18 (S 0 12) ≠ 0 ∧ S 18 (S 0 12) = S 18 (S 0 16) then advS (advS S 12 (bstS S)) 16 (bstS S) else advS (bthA S) 16 (stpS (bthA S) (bthA S 0 16))
theorem mix_in {s a b m : Int} (hs : 0 ≤ s ∧ s ≤ 1000000) (ha : 1 ≤ a ∧ a ≤ m) (hb : 1 ≤ b ∧ b ≤ m) : 1000000 ≤ (1000000 - s) * a + s * b ∧ (1000000 - s) * a + s * b ≤ 1000000 * m := by
  have h1 := Int.mul_le_mul_of_nonneg_left ha.1 (show 0 ≤ 1000000 - s by omega)
  have h2 := Int.mul_le_mul_of_nonneg_left ha.2 (show 0 ≤ 1000000 - s by omega)
  have h3 := Int.mul_le_mul_of_nonneg_left hb.1 hs.1
  have h4 := Int.mul_le_mul_of_nonneg_left hb.2 hs.1
  have h5 : (1000000 - s) * m + s * m = 1000000 * m := by rw [← Int.add_mul]; congr 1; omega
  omega
theorem mixS_in {S : SS} {a b m : Int} (hs : 0 ≤ shS S ∧ shS S ≤ 1000000) (ha : 1 ≤ a ∧ a ≤ m) (hb : 1 ≤ b ∧ b ≤ m) : 1 ≤ mixS S a b ∧ mixS S a b ≤ m := by
  have h := mix_in hs ha hb
  unfold mixS
  omega
theorem bstS_in {S : SS} (hW : WFs S) (hs : 0 ≤ shS S ∧ shS S ≤ 1000000) (ha : 0 ≤ S 0 12 ∧ S 0 12 < S 19 0) (hb : 0 ≤ S 0 16 ∧ S 0 16 < S 19 0) : 0 ≤ bstS S ∧ bstS S ≤ 4000000 := by
  have wa := hW.st _ ha.1 ha.2
  have wb := hW.st _ hb.1 hb.2
  have h1 := mixS_in (m := 400) hs (a := S 16 (S 0 12)) (b := S 16 (S 0 16)) (by omega) (by omega)
  have h2 := mixS_in hs (lenS_in hW ha) (lenS_in hW hb)
  unfold bstS
  exact ⟨Int.ediv_nonneg (by omega) (by omega), Int.ediv_le_of_le_mul (by omega) (by omega)⟩
theorem bthA_f {S : SS} {f : Nat} (h : f ≠ 0) : bthA S f = S f := by
  unfold bthA
  split
  · exact advS_f h
  · rfl
theorem bthA_o {S : SS} {j : Int} (h : j ≤ 12 ∨ 15 < j) : bthA S 0 j = S 0 j := by
  unfold bthA
  split
  · exact advS_o (by omega)
  · rfl
theorem bthS_f {S : SS} {f : Nat} (h : f ≠ 0) : bthS S f = S f := by
  unfold bthS
  split
  · rw [advS_f h, advS_f h]
  · rw [advS_f h, bthA_f h]
theorem bthS_o {S : SS} {j : Int} (h : j ≤ 12 ∨ j = 16 ∨ 19 < j) : bthS S 0 j = S 0 j := by
  unfold bthS
  split
  · rw [advS_o (by omega), advS_o (by omega)]
  · rw [advS_o (by omega), bthA_o (by omega)]
theorem WFv.o {S S' : SS} (h : WFv S) (e : ∀ j : Int, j < 8 → S' 0 j = S 0 j) : WFv S' := fun p p0 p1 => by rw [e p p1]; exact h p p0 p1
theorem bthS_ok {S : SS} (hW : WFs S) {T : Int} (ha : TkOk S 12 T) (hb : TkOk S 16 T) (hs : 0 ≤ shS S ∧ shS S ≤ 1000000) : TkOk (bthS S) 12 (T + 1) ∧ TkOk (bthS S) 16 (T + 1) := by
  have a := ha.1; have a1 := ha.2.1; have b := hb.1; have b1 := hb.2.1
  have hst := bstS_in hW hs ⟨a, a1⟩ ⟨b, b1⟩
  unfold bthS
  split
  · exact ⟨advS_tk (advS_ok ha hst) (by omega), advS_ok (advS_tk hb (by omega)) hst⟩
  · have hWA : WFs (bthA S) := hW.congr (fun f h => bthA_f h)
    have eb : bthA S 0 16 = S 0 16 := bthA_o (by omega)
    have e19 : bthA S 19 0 = S 19 0 := congrFun (bthA_f (by decide)) 0
    have hA : TkOk (bthA S) 12 (T + 1) := by
      unfold bthA
      split
      · exact advS_ok ha (stpS_in hW ⟨a, a1⟩)
      · exact ha.ext (by omega) rfl rfl rfl rfl (Int.le_refl _) (fun _ _ _ => rfl)
    have hB : TkOk (bthA S) 16 T := by
      unfold bthA
      split
      · exact advS_tk hb (by omega)
      · exact hb
    exact ⟨advS_tk hA (by omega), advS_ok hB (stpS_in hWA (by omega))⟩
