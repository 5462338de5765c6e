set_option linter.unusedVariables false
/-- a node that is there, and complete; depths; sums -/
def NdOk (S : SS) (i : Int) : Prop := 0 ≤ i ∧ i < S 14 0 ∧ (S 9 i ≠ -1 ∨ 0 < S 11 i)
def DOk (S : SS) (D : Int → Int) : Prop := ∀ j : Int, 0 ≤ j → j < S 14 0 → 1 ≤ D j ∧ D j ≤ 4 ∧ ∀ k : Int, 0 ≤ k → k < S 11 j → D (S 12 (5 * j + k)) < D j
def bZ (S : SS) (i : Int) : Int := if bB S i < 0 then bA S i else bB S i
theorem chi_at {S : SS} (hW : WFs S) {D : Int → Int} (hD : DOk S D) {i z : Int} (hi : NdOk S i) (hz : 5 * i ≤ z ∧ z < 5 * i + S 11 i) : NdOk S (S 12 z) ∧ D (S 12 z) < D i ∧ -100 ≤ S 13 z ∧ S 13 z ≤ 100 := by
  obtain ⟨h0, h1, h2⟩ := hi
  have h := hW.chi i (z - 5 * i) h0 h1 (by omega) (by omega)
  have d := (hD i h0 h1).2.2 (z - 5 * i) (by omega) (by omega)
  rw [show 5 * i + (z - 5 * i) = z by omega] at h d
  exact ⟨⟨h.1, by omega, h.2.2.2.2⟩, d, h.2.2.1, h.2.2.2.1⟩
theorem one_in {S : SS} {i : Int} (hi : 0 ≤ i) (h11 : 0 < S 11 i) : 5 * i ≤ bZ S i ∧ bZ S i < 5 * i + S 11 i := by
  have h1 := blw_in S i (S 11 i).toNat
  have h2 := abv_in S i (S 11 i).toNat
  have h3 := ab_some S i (S 11 i).toNat (by omega) hi
  unfold bZ bB bA
  split <;> omega
theorem two_in {S : SS} (hW : WFs S) {i : Int} (hi : 0 ≤ i ∧ i < S 14 0) (h11 : 0 < S 11 i) (h : ¬ (bB S i < 0 ∨ bA S i < 0 ∨ bB S i = bA S i)) :
    (5 * i ≤ bB S i ∧ bB S i < 5 * i + S 11 i) ∧ (5 * i ≤ bA S i ∧ bA S i < 5 * i + S 11 i) ∧ S 13 (bB S i) ≤ lnV S i ∧ lnV S i ≤ S 13 (bA S i) ∧ S 13 (bB S i) < S 13 (bA S i) := by
  have h1 := blw_in S i (S 11 i).toNat
  have h2 := abv_in S i (S 11 i).toNat
  rw [← bB] at h1
  rw [← bA] at h2
  have hne : S 13 (bB S i) ≠ S 13 (bA S i) := fun e => by
    have h9 := hW.dis i (bB S i - 5 * i) (bA S i - 5 * i) hi.1 hi.2 (by omega) (by omega) (by omega) (by omega) (by rw [show 5 * i + (bB S i - 5 * i) = bB S i by omega, show 5 * i + (bA S i - 5 * i) = bA S i by omega]; exact e)
    omega
  omega
theorem bR_in {S : SS} (hW : WFs S) {i w : Int} (hi : 0 ≤ i ∧ i < S 14 0) (h11 : 0 < S 11 i) (h : ¬ (bB S i < 0 ∨ bA S i < 0 ∨ bB S i = bA S i)) (hw : 0 ≤ w) : 0 ≤ bR S i w ∧ bR S i w ≤ w := by
  obtain ⟨-, -, h3, h4, h5⟩ := two_in hW hi h11 h
  have hm0 : 0 ≤ w * (lnV S i - S 13 (bB S i)) := Int.mul_nonneg hw (by omega)
  have hm1 : w * (lnV S i - S 13 (bB S i)) ≤ w * (S 13 (bA S i) - S 13 (bB S i)) := Int.mul_le_mul_of_nonneg_left (by omega) hw
  exact ⟨Int.ediv_nonneg hm0 (by omega), Int.ediv_le_of_le_mul (by omega) hm1⟩
theorem wt_z {S : SS} (f : Nat) (i : Int) {w : Int} (c : Int) (h : w ≤ 0) : wt S f i w c = 0 := by
  cases f with
  | zero => rfl
  | succ f => rw [wt, if_pos h]
theorem wt_clip {S : SS} (f : Nat) {i w : Int} (c : Int) (h : 0 < w) (h9 : S 9 i ≠ -1) : wt S (f + 1) i w c = if c = S 9 i then w else 0 := by
  rw [wt, if_neg (by omega), if_pos h9]
theorem wt_line1 {S : SS} (f : Nat) {i w : Int} (c : Int) (h : 0 < w) (h9 : S 9 i = -1) (h1 : bB S i < 0 ∨ bA S i < 0 ∨ bB S i = bA S i) : wt S (f + 1) i w c = wt S f (S 12 (bZ S i)) w c := by
  rw [wt, if_neg (by omega), if_neg (fun z => z h9), if_pos h1, ← bZ]
theorem wt_line2 {S : SS} (f : Nat) {i w : Int} (c : Int) (h : 0 < w) (h9 : S 9 i = -1) (h1 : ¬ (bB S i < 0 ∨ bA S i < 0 ∨ bB S i = bA S i)) : wt S (f + 1) i w c = wt S f (S 12 (bA S i)) (bR S i w) c + wt S f (S 12 (bB S i)) (w - bR S i w) c := by
  rw [wt, if_neg (by omega), if_neg (fun z => z h9), if_neg h1]
theorem wt_st {S : SS} (hW : WFs S) {D : Int → Int} (hD : DOk S D) : ∀ (f : Nat) (i w c : Int), NdOk S i → D i ≤ f → wt S (f + 1) i w c = wt S f i w c
  | 0, i, w, c, hi, hd => by
    have := (hD i hi.1 hi.2.1).1
    omega
  | f + 1, i, w, c, hi, hd => by
    by_cases hw : w ≤ 0
    · rw [wt_z _ _ _ hw, wt_z _ _ _ hw]
    · by_cases h9 : S 9 i = -1
      · have h11 : 0 < S 11 i := by rcases hi.2.2 with h | h <;> omega
        by_cases h1 : bB S i < 0 ∨ bA S i < 0 ∨ bB S i = bA S i
        · have hz := one_in hi.1 h11
          obtain ⟨g1, g2, -⟩ := chi_at hW hD hi hz
          rw [wt_line1 _ _ (by omega) h9 h1, wt_line1 _ _ (by omega) h9 h1, wt_st hW hD f _ _ _ g1 (by omega)]
        · obtain ⟨z1, z2, -⟩ := two_in hW ⟨hi.1, hi.2.1⟩ h11 h1
          obtain ⟨g1, g2, -⟩ := chi_at hW hD hi z1
          obtain ⟨g3, g4, -⟩ := chi_at hW hD hi z2
          rw [wt_line2 _ _ (by omega) h9 h1, wt_line2 _ _ (by omega) h9 h1, wt_st hW hD f _ _ _ g1 (by omega), wt_st hW hD f _ _ _ g3 (by omega)]
      · rw [wt_clip _ _ (by omega) h9, wt_clip _ _ (by omega) h9]
theorem wt_nn {S : SS} (hW : WFs S) {D : Int → Int} (hD : DOk S D) : ∀ (f : Nat) (i w c : Int), NdOk S i → 0 ≤ wt S f i w c ∧ (0 ≤ w → wt S f i w c ≤ w)
  | 0, i, w, c, hi => ⟨Int.le_refl _, fun h => h⟩
  | f + 1, i, w, c, hi => by
    by_cases hw : w ≤ 0
    · rw [wt_z _ _ _ hw]; exact ⟨Int.le_refl _, fun h => h⟩
    · by_cases h9 : S 9 i = -1
      · have h11 : 0 < S 11 i := by rcases hi.2.2 with h | h <;> omega
        by_cases h1 : bB S i < 0 ∨ bA S i < 0 ∨ bB S i = bA S i
        · obtain ⟨g1, g2, -⟩ := chi_at hW hD hi (one_in hi.1 h11)
          rw [wt_line1 _ _ (by omega) h9 h1]
          exact wt_nn hW hD f _ _ _ g1
        · obtain ⟨z1, z2, -⟩ := two_in hW ⟨hi.1, hi.2.1⟩ h11 h1
          obtain ⟨g1, g2, -⟩ := chi_at hW hD hi z1
          obtain ⟨g3, g4, -⟩ := chi_at hW hD hi z2
          have hr := bR_in hW ⟨hi.1, hi.2.1⟩ h11 h1 (w := w) (by omega)
          rw [wt_line2 _ _ (by omega) h9 h1]
          have a1 := wt_nn hW hD f (S 12 (bA S i)) (bR S i w) c g3
          have a2 := wt_nn hW hD f (S 12 (bB S i)) (w - bR S i w) c g1
          exact ⟨by omega, fun _ => by have := a1.2 (by omega); have := a2.2 (by omega); omega⟩
      · rw [wt_clip _ _ (by omega) h9]
        split <;> omega
/-- only clips that are there have weights -/
theorem wt_out {S : SS} (hW : WFs S) {D : Int → Int} (hD : DOk S D) : ∀ (f : Nat) (i w c : Int), NdOk S i → ¬ (0 ≤ c ∧ c < S 8 0) → wt S f i w c = 0
  | 0, i, w, c, hi, hc => rfl
  | f + 1, i, w, c, hi, hc => by
    by_cases hw : w ≤ 0
    · rw [wt_z _ _ _ hw]
    · by_cases h9 : S 9 i = -1
      · have h11 : 0 < S 11 i := by rcases hi.2.2 with h | h <;> omega
        by_cases h1 : bB S i < 0 ∨ bA S i < 0 ∨ bB S i = bA S i
        · obtain ⟨g1, g2, -⟩ := chi_at hW hD hi (one_in hi.1 h11)
          rw [wt_line1 _ _ (by omega) h9 h1]
          exact wt_out hW hD f _ _ _ g1 hc
        · obtain ⟨z1, z2, -⟩ := two_in hW ⟨hi.1, hi.2.1⟩ h11 h1
          obtain ⟨g1, g2, -⟩ := chi_at hW hD hi z1
          obtain ⟨g3, g4, -⟩ := chi_at hW hD hi z2
          rw [wt_line2 _ _ (by omega) h9 h1, wt_out hW hD f _ _ _ g3 hc, wt_out hW hD f _ _ _ g1 hc]
          rfl
      · have := hW.nod i hi.1 hi.2.1
        rw [wt_clip _ _ (by omega) h9, if_neg (by omega)]
def sumTo (g : Int → Int) : Nat → Int
  | 0 => 0
  | k + 1 => sumTo g k + g k
theorem sumTo_add (g h : Int → Int) : ∀ k : Nat, sumTo (fun c => g c + h c) k = sumTo g k + sumTo h k
  | 0 => rfl
  | k + 1 => by simp only [sumTo, sumTo_add g h k]; omega
theorem sumTo_z (g : Int → Int) : ∀ k : Nat, (∀ j : Int, 0 ≤ j → j < k → g j = 0) → sumTo g k = 0
  | 0, _ => rfl
  | k + 1, h => by rw [sumTo, sumTo_z g k (fun j a b => h j a (by omega)), h k (by omega) (by omega)]; rfl
theorem sumTo_congr {g h : Int → Int} : ∀ k : Nat, (∀ j : Int, 0 ≤ j → j < k → g j = h j) → sumTo g k = sumTo h k
  | 0, _ => rfl
  | k + 1, e => by rw [sumTo, sumTo, sumTo_congr k (fun j a b => e j a (by omega)), e k (by omega) (by omega)]
theorem sumTo_one (x w : Int) : ∀ k : Nat, sumTo (fun c => if c = x then w else 0) k = if 0 ≤ x ∧ x < k then w else 0
  | 0 => by rw [sumTo, if_neg (by omega)]
  | k + 1 => by
    rw [sumTo, sumTo_one x w k]
    by_cases e : (k : Int) = x
    · rw [if_neg (by omega), if_pos e, if_pos (by omega)]; omega
    · rw [if_neg e]
      by_cases e2 : 0 ≤ x ∧ x < k
      · rw [if_pos e2, if_pos (by omega)]; omega
      · rw [if_neg e2, if_neg (by omega)]; rfl
theorem wt_sum {S : SS} (hW : WFs S) {D : Int → Int} (hD : DOk S D) : ∀ (f : Nat) (i w : Int), NdOk S i → 0 ≤ w → sumTo (wt S f i w) 12 ≤ w
  | 0, i, w, hi, hw => by rw [sumTo_z (wt S 0 i w) _ (fun _ _ _ => rfl)]; exact hw
  | f + 1, i, w, hi, hw0 => by
    by_cases hw : w ≤ 0
    · rw [sumTo_z _ _ (fun c _ _ => wt_z _ _ c hw)]; exact hw0
    · by_cases h9 : S 9 i = -1
      · have h11 : 0 < S 11 i := by rcases hi.2.2 with h | h <;> omega
        by_cases h1 : bB S i < 0 ∨ bA S i < 0 ∨ bB S i = bA S i
        · obtain ⟨g1, g2, -⟩ := chi_at hW hD hi (one_in hi.1 h11)
          rw [sumTo_congr 12 (fun c _ _ => wt_line1 f c (by omega) h9 h1)]
          exact wt_sum hW hD f _ _ g1 hw0
        · obtain ⟨z1, z2, -⟩ := two_in hW ⟨hi.1, hi.2.1⟩ h11 h1
          obtain ⟨g1, g2, -⟩ := chi_at hW hD hi z1
          obtain ⟨g3, g4, -⟩ := chi_at hW hD hi z2
          have hr := bR_in hW ⟨hi.1, hi.2.1⟩ h11 h1 (w := w) (by omega)
          rw [sumTo_congr 12 (fun c _ _ => wt_line2 f c (by omega) h9 h1), sumTo_add]
          have a1 := wt_sum hW hD f _ (bR S i w) g3 (by omega)
          have a2 := wt_sum hW hD f _ (w - bR S i w) g1 (by omega)
          omega
      · rw [sumTo_congr 12 (fun c _ _ => wt_clip f c (by omega) h9), sumTo_one]
        split <;> omega
/-- how many are above 0 -/
def cntP (g : Int → Int) : Nat → Int
  | 0 => 0
  | k + 1 => cntP g k + if g k > 0 then 1 else 0
theorem cntP_congr {g h : Int → Int} : ∀ k : Nat, (∀ j : Int, 0 ≤ j → j < k → g j = h j) → cntP g k = cntP h k
  | 0, _ => rfl
  | k + 1, e => by rw [cntP, cntP, cntP_congr k (fun j a b => e j a (by omega)), e k (by omega) (by omega)]
theorem cntP_z (g : Int → Int) : ∀ k : Nat, (∀ j : Int, 0 ≤ j → j < k → g j = 0) → cntP g k = 0
  | 0, _ => rfl
  | k + 1, h => by rw [cntP, cntP_z g k (fun j a b => h j a (by omega)), h k (by omega) (by omega)]; rfl
theorem cntP_add (g h : Int → Int) : ∀ k : Nat, cntP (fun c => g c + h c) k ≤ cntP g k + cntP h k
  | 0 => Int.le_refl _
  | k + 1 => by
    have := cntP_add g h k
    simp only [cntP]
    (repeat' split) <;> omega
theorem cntP_nn (g : Int → Int) : ∀ k : Nat, 0 ≤ cntP g k
  | 0 => Int.le_refl _
  | k + 1 => by have := cntP_nn g k; rw [cntP]; split <;> omega
theorem cntP_one (x w : Int) : ∀ k : Nat, cntP (fun c => if c = x then w else 0) k ≤ if x < k then 1 else 0
  | 0 => by rw [cntP]; split <;> omega
  | k + 1 => by
    have h := cntP_one x w k
    rw [cntP]
    by_cases e : (k : Int) = x
    · rw [if_neg (by omega)] at h
      rw [if_pos (show x < ((k + 1 : Nat) : Int) by omega)]
      split <;> omega
    · rw [if_neg e, if_neg (by omega)]
      have : (if x < (k : Int) then (1 : Int) else 0) ≤ if x < ((k + 1 : Nat) : Int) then 1 else 0 := by (repeat' split) <;> omega
      omega
def e2 : Nat → Int
  | 0 => 0
  | f + 1 => max 1 (2 * e2 f)
theorem wt_cnt {S : SS} : ∀ (f : Nat) (i w : Int), cntP (wt S f i w) 12 ≤ e2 f
  | 0, i, w => by rw [cntP_z (wt S 0 i w) _ (fun _ _ _ => rfl)]; exact Int.le_refl _
  | f + 1, i, w => by
    rw [e2]
    by_cases hw : w ≤ 0
    · rw [cntP_z _ _ (fun c _ _ => wt_z _ _ c hw)]; omega
    · by_cases h9 : S 9 i = -1
      · by_cases h1 : bB S i < 0 ∨ bA S i < 0 ∨ bB S i = bA S i
        · rw [cntP_congr (h := wt S f (S 12 (bZ S i)) w) 12 (fun c _ _ => wt_line1 f c (by omega) h9 h1)]
          have := wt_cnt (S := S) f (S 12 (bZ S i)) w
          have h0 : 0 ≤ cntP (wt S f (S 12 (bZ S i)) w) 12 := cntP_nn _ _
          omega
        · rw [cntP_congr 12 (fun c _ _ => wt_line2 f c (by omega) h9 h1)]
          have a0 := cntP_add (wt S f (S 12 (bA S i)) (bR S i w)) (wt S f (S 12 (bB S i)) (w - bR S i w)) 12
          have a1 := wt_cnt (S := S) f (S 12 (bA S i)) (bR S i w)
          have a2 := wt_cnt (S := S) f (S 12 (bB S i)) (w - bR S i w)
          omega
      · rw [cntP_congr 12 (fun c _ _ => wt_clip f c (by omega) h9)]
        have := cntP_one (S 9 i) w 12
        have h2 : (if S 9 i < ((12 : Nat) : Int) then (1 : Int) else 0) ≤ 1 := by split <;> omega
        omega
/-- the open nodes: sums of their weights for a clip; what is still to do -/
def opS (S : SS) (nd wg : Int → Int) (c : Int) : Nat → Int
  | 0 => 0
  | k + 1 => opS S nd wg c k + wt S 4 (nd k) (wg k) c
def pw (d : Int) : Int := if d ≤ 1 then 1 else if d = 2 then 3 else if d = 3 then 7 else 15
def opM (D nd : Int → Int) : Nat → Int
  | 0 => 0
  | k + 1 => opM D nd k + pw (D (nd k))
def Stk (S : SS) (D nd wg : Int → Int) (o : Int) : Prop := ∀ k : Int, 0 ≤ k → k < o → NdOk S (nd k) ∧ D (nd k) + k ≤ 4 ∧ 0 ≤ wg k ∧ wg k ≤ 1000000
theorem pw_pos (d : Int) : 1 ≤ pw d := by unfold pw; (repeat' split) <;> omega
theorem pw_lt {d d' : Int} (h1 : 1 ≤ d') (h2 : d' < d) (h3 : d ≤ 4) : 2 * pw d' < pw d := by unfold pw; (repeat' split) <;> omega
theorem opM_nn (D nd : Int → Int) : ∀ k : Nat, 0 ≤ opM D nd k
  | 0 => Int.le_refl _
  | k + 1 => by have := opM_nn D nd k; have := pw_pos (D (nd k)); rw [opM]; omega
theorem opS_s {S : SS} {nd wg : Int → Int} {c k : Int} (h : 0 ≤ k) : opS S nd wg c (k + 1).toNat = opS S nd wg c k.toNat + wt S 4 (nd k) (wg k) c := by
  rw [show (k + 1).toNat = k.toNat + 1 by omega, opS, show ((k.toNat : Nat) : Int) = k by omega]
theorem opM_s {D nd : Int → Int} {k : Int} (h : 0 ≤ k) : opM D nd (k + 1).toNat = opM D nd k.toNat + pw (D (nd k)) := by
  rw [show (k + 1).toNat = k.toNat + 1 by omega, opM, show ((k.toNat : Nat) : Int) = k by omega]
theorem opS_congr {S : SS} {nd nd' wg wg' : Int → Int} {c : Int} : ∀ k : Nat, (∀ j : Int, 0 ≤ j → j < k → nd' j = nd j ∧ wg' j = wg j) → opS S nd' wg' c k = opS S nd wg c k
  | 0, _ => rfl
  | k + 1, h => by rw [opS, opS, opS_congr k (fun j a b => h j a (by omega)), (h k (by omega) (by omega)).1, (h k (by omega) (by omega)).2]
theorem opM_congr {D nd nd' : Int → Int} : ∀ k : Nat, (∀ j : Int, 0 ≤ j → j < k → nd' j = nd j) → opM D nd' k = opM D nd k
  | 0, _ => rfl
  | k + 1, h => by rw [opM, opM, opM_congr k (fun j a b => h j a (by omega)), h k (by omega) (by omega)]
theorem opens_inv {S : SS} (hW : WFs S) {D : Int → Int} (hD : DOk S D) {nd wg nd' wg' : Int → Int} {o r : Int} (ho : 0 ≤ o) (hst : Stk S D nd wg (o + 1)) (h9 : S 9 (nd o) = -1) (hw : 0 < wg o)
    (hlo : ∀ j : Int, 0 ≤ j → j < o → nd' j = nd j ∧ wg' j = wg j)
    (hr : (bB S (nd o) < 0 ∨ bA S (nd o) < 0 ∨ bB S (nd o) = bA S (nd o)) ∧ r = o + 1 ∧ nd' o = S 12 (bZ S (nd o)) ∧ wg' o = wg o ∨
      ¬ (bB S (nd o) < 0 ∨ bA S (nd o) < 0 ∨ bB S (nd o) = bA S (nd o)) ∧ r = o + 2 ∧ nd' o = S 12 (bA S (nd o)) ∧ wg' o = bR S (nd o) (wg o) ∧ nd' (o + 1) = S 12 (bB S (nd o)) ∧ wg' (o + 1) = wg o - bR S (nd o) (wg o)) :
    Stk S D nd' wg' r ∧ (∀ c, opS S nd' wg' c r.toNat = opS S nd wg c (o + 1).toNat) ∧ opM D nd' r.toNat < opM D nd (o + 1).toNat ∧ 0 ≤ r ∧ r ≤ 5 := by
  obtain ⟨hn, hd, hw0, hw1⟩ := hst o ho (by omega)
  have d1 := hD (nd o) hn.1 hn.2.1
  have h11 : 0 < S 11 (nd o) := by rcases hn.2.2 with h | h <;> omega
  have q1 : opM D nd' o.toNat = opM D nd o.toNat := opM_congr _ (fun j a b => (hlo j a (by omega)).1)
  have q2 : ∀ c, opS S nd' wg' c o.toNat = opS S nd wg c o.toNat := fun c => opS_congr _ (fun j a b => hlo j a (by omega))
  rcases hr with ⟨h1, rfl, e1, e2⟩ | ⟨h1, rfl, e1, e2, e3, e4⟩
  · obtain ⟨g1, g2, -⟩ := chi_at hW hD hn (one_in hn.1 h11)
    have d2 := hD _ g1.1 g1.2.1
    refine ⟨fun k k0 k1 => ?_, fun c => ?_, ?_, by omega, by omega⟩
    · by_cases e : k = o
      · subst e; rw [e1, e2]; exact ⟨g1, by omega, hw0, hw1⟩
      · obtain ⟨a, b⟩ := hlo k k0 (by omega)
        rw [a, b]; exact hst k k0 (by omega)
    · rw [opS_s ho, opS_s ho, q2, e1, e2, wt_line1 3 c hw h9 h1, wt_st hW hD 3 _ _ _ g1 (by omega)]
    · have := pw_lt d2.1 g2 d1.2.1
      have := pw_pos (D (S 12 (bZ S (nd o))))
      rw [opM_s ho, opM_s ho, q1, e1]; omega
  · obtain ⟨z1, z2, -⟩ := two_in hW ⟨hn.1, hn.2.1⟩ h11 h1
    obtain ⟨g1, g2, -⟩ := chi_at hW hD hn z1
    obtain ⟨g3, g4, -⟩ := chi_at hW hD hn z2
    have d2 := hD _ g1.1 g1.2.1
    have d3 := hD _ g3.1 g3.2.1
    have hr := bR_in hW ⟨hn.1, hn.2.1⟩ h11 h1 (w := wg o) (by omega)
    refine ⟨fun k k0 k1 => ?_, fun c => ?_, ?_, by omega, by omega⟩
    · by_cases e : k = o
      · subst e; rw [e1, e2]; exact ⟨g3, by omega, by omega, by omega⟩
      · by_cases e5 : k = o + 1
        · subst e5; rw [e3, e4]; exact ⟨g1, by omega, by omega, by omega⟩
        · obtain ⟨a, b⟩ := hlo k k0 (by omega)
          rw [a, b]; exact hst k k0 (by omega)
    · rw [show o + 2 = o + 1 + 1 by omega, opS_s (by omega), opS_s ho, opS_s ho, q2, e1, e2, e3, e4, wt_line2 3 c hw h9 h1, wt_st hW hD 3 _ _ _ g1 (by omega), wt_st hW hD 3 _ _ _ g3 (by omega)]
      omega
    · have := pw_lt d2.1 g2 d1.2.1
      have := pw_lt d3.1 g4 d1.2.1
      rw [show o + 2 = o + 1 + 1 by omega, opM_s (by omega), opM_s ho, opM_s ho, q1, e1, e3]; omega
