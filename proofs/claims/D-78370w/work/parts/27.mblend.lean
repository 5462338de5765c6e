set_option linter.unusedVariables false
/-- a line's value; the place of the child at or below it, at or above it (-1: none), of the first k children -/
def lnV (S : SS) (i : Int) : Int := S 0 (S 10 i)
def blw (S : SS) (i : Int) : Nat → Int
  | 0 => -1
  | k + 1 => if S 13 (5 * i + k) ≤ lnV S i ∧ (blw S i k < 0 ∨ S 13 (5 * i + k) > S 13 (blw S i k)) then 5 * i + k else blw S i k
def abv (S : SS) (i : Int) : Nat → Int
  | 0 => -1
  | k + 1 => if S 13 (5 * i + k) ≥ lnV S i ∧ (abv S i k < 0 ∨ S 13 (5 * i + k) < S 13 (abv S i k)) then 5 * i + k else abv S i k
def bB (S : SS) (i : Int) : Int := blw S i (S 11 i).toNat
def bA (S : SS) (i : Int) : Int := abv S i (S 11 i).toNat
def bR (S : SS) (i w : Int) : Int := w * (lnV S i - S 13 (bB S i)) / (S 13 (bA S i) - S 13 (bB S i))
/-- the weight of the clip c in the blend of the node i with the weight w -/
def wt (S : SS) : Nat → Int → Int → Int → Int
  | 0, _, _, _ => 0
  | f + 1, i, w, c => if w ≤ 0 then 0 else if S 9 i ≠ -1 then (if c = S 9 i then w else 0) else
    if bB S i < 0 ∨ bA S i < 0 ∨ bB S i = bA S i then wt S f (S 12 (if bB S i < 0 then bA S i else bB S i)) w c else wt S f (S 12 (bA S i)) (bR S i w) c + wt S f (S 12 (bB S i)) (w - bR S i w) c
theorem blw_s {S : SS} {i a : Int} (h : 5 * i ≤ a) : blw S i (a + 1 - 5 * i).toNat = if S 13 a ≤ lnV S i ∧ (blw S i (a - 5 * i).toNat < 0 ∨ S 13 a > S 13 (blw S i (a - 5 * i).toNat)) then a else blw S i (a - 5 * i).toNat := by
  obtain ⟨k, rfl⟩ : ∃ k : Nat, a = 5 * i + k := ⟨(a - 5 * i).toNat, by omega⟩
  rw [show (5 * i + (k : Int) + 1 - 5 * i).toNat = k + 1 by omega, show (5 * i + (k : Int) - 5 * i).toNat = k by omega, blw]
theorem abv_s {S : SS} {i a : Int} (h : 5 * i ≤ a) : abv S i (a + 1 - 5 * i).toNat = if S 13 a ≥ lnV S i ∧ (abv S i (a - 5 * i).toNat < 0 ∨ S 13 a < S 13 (abv S i (a - 5 * i).toNat)) then a else abv S i (a - 5 * i).toNat := by
  obtain ⟨k, rfl⟩ : ∃ k : Nat, a = 5 * i + k := ⟨(a - 5 * i).toNat, by omega⟩
  rw [show (5 * i + (k : Int) + 1 - 5 * i).toNat = k + 1 by omega, show (5 * i + (k : Int) - 5 * i).toNat = k by omega, abv]
/-- where they are -/
theorem blw_in (S : SS) (i : Int) : ∀ k : Nat, blw S i k = -1 ∨ 5 * i ≤ blw S i k ∧ blw S i k < 5 * i + k ∧ S 13 (blw S i k) ≤ lnV S i
  | 0 => Or.inl rfl
  | k + 1 => by
    rw [blw]
    split
    · right; rename_i h; exact ⟨by omega, by omega, h.1⟩
    · rcases blw_in S i k with h | h
      · left; exact h
      · right; exact ⟨h.1, by omega, h.2.2⟩
theorem abv_in (S : SS) (i : Int) : ∀ k : Nat, abv S i k = -1 ∨ 5 * i ≤ abv S i k ∧ abv S i k < 5 * i + k ∧ S 13 (abv S i k) ≥ lnV S i
  | 0 => Or.inl rfl
  | k + 1 => by
    rw [abv]
    split
    · right; rename_i h; exact ⟨by omega, by omega, h.1⟩
    · rcases abv_in S i k with h | h
      · left; exact h
      · right; exact ⟨h.1, by omega, h.2.2⟩
theorem ab_some (S : SS) (i : Int) : ∀ k : Nat, 0 < k → 0 ≤ i → 0 ≤ blw S i k ∨ 0 ≤ abv S i k
  | 0, h, _ => absurd h (Nat.lt_irrefl _)
  | k + 1, _, hi => by
    rw [blw, abv]
    by_cases e : S 13 (5 * i + k) ≤ lnV S i
    · left
      split
      · omega
      · rename_i h
        have := blw_in S i k
        omega
    · right
      split
      · omega
      · rename_i h
        have := abv_in S i k
        omega
set_option maxHeartbeats 4000000 in
set_option maxRecDepth 100000 in
theorem m_X4_opens {w : KW} {n : KN} {α : KA} {K : KS} (S : SS) (i wg o : Int) (h40 : (0 : Int) ≤ 0 ∧ 0 < n 4) (hM : MRep S n K) (hW : WFs S) (hv0 : WFv S) (hi : 0 ≤ i ∧ i < S 14 0 ∧ S 9 i = -1 ∧ 0 < S 11 i) (hw : 0 < wg ∧ wg ≤ 1000000) (ho : 0 ≤ o ∧ o + 1 < 32) : KM w yX4_opens cX4_opens 10 (some (.int)) { frames := 0, cells := 0, slots := 0, locals := 0 } (0, 0) [.ref (α 4 0), .int (iI i), .long (iL wg), .int (iI o)] n α K (fun r n' α' K' => n = n' ∧ α = α' ∧ MRep (S) n K' ∧ KO K K' (fun k _ => k = 128 ∨ k = 129) ∧ ((bB S i < 0 ∨ bA S i < 0 ∨ bB S i = bA S i) ∧ r = o + 1 ∧ K' = up3 (up3 K 128 0 o (S 12 (if bB S i < 0 then bA S i else bB S i))) 129 0 o wg ∨ ¬ (bB S i < 0 ∨ bA S i < 0 ∨ bB S i = bA S i) ∧ r = o + 2 ∧ K' = up3 (up3 (up3 (up3 K 128 0 o (S 12 (bA S i))) 129 0 o (bR S i wg)) 128 0 (o + 1) (S 12 (bB S i))) 129 0 (o + 1) (wg - bR S i wg))) := by
  refine y_start (by decide) (Nat.le_of_ble_eq_true rfl) (fun x hE hQ => ?_)
  have hw := hQ.2
  subst hw
  have hE : YE x cX4_opens RX4 (some (.int)) "opens" 10 { frames := 0, cells := 0, slots := 0, locals := 0 } := hE
  refine y_wk (fun hWK => ?_)
  have hn0 := hWK.1
  refine y_bud (bc' := 0) (bs' := 0) (Nat.le_refl _) (Nat.le_refl _) ?_
  refine y_to (lv' := [(0, .ref (α 4 0)), (1, .int (iI i)), (2, .long (iL wg)), (4, .int (iI o))]) (st' := []) rfl rfl rfl ?_
  have wpar := hW.par
  have wclips := hW.clips
  have wnodes := hW.nodes
  have wsts := hW.sts
  have wtrs := hW.trs
  have wthr := hW.thr
  have wtxt := hW.txt
  have wn := hW.nod i (by omega) (by omega)
  have wv : -100 ≤ lnV S i ∧ lnV S i ≤ 100 := hv0 (S 10 i) (by omega) (by omega)
  refine y_aload_n hE rfl 0 rfl dX4_opens_0 ?_
  refine gX4_7r (z := 0) hE h40 (MObj.r hM.1 0 (by decide)) (by omega) dX4_opens_1 (fun hl_1 => ?_)
  refine y_iconst hE dX4_opens_4 ?_
  refine y_aload_n hE rfl 0 rfl dX4_opens_5 ?_
  refine gX4_35r (z := 0) hE h40 (MObj.r hM.1 10 (by decide)) (by omega) dX4_opens_6 (fun hl_6 => ?_)
  refine y_iload_n hE rfl 1 rfl dX4_opens_9 ?_
  refine y_iald hE rfl hl_6 (by have hL : K 110 0 (-1) = 20 := (MObj.l hM.1 10 (by decide)); omega) dX4_opens_10 ?_
  refine y_to (st' := [.int (iI (S 10 i)), .int (iI 0), .ref (α 100 0)]) rfl rfl (by rw [show K 110 0 i = S 10 i from (MRep.ra hM 10 rfl (by omega) (by first | omega | (show _ < (20 : Int); omega)))]) ?_
  refine y_iadd hE dX4_opens_11 ?_
  refine y_to (st' := [.int (iI (S 10 i)), .ref (α 100 0)]) rfl rfl (by rw [Int.zero_add]) ?_
  refine y_iald hE rfl hl_1 (by have hL : K 100 0 (-1) = 1160 := (MObj.l hM.1 0 (by decide)); omega) dX4_opens_12 ?_
  refine y_to (st' := [.int (iI (lnV S i))]) rfl rfl (by rw [show K 100 0 (S 10 i) = (lnV S i) from (MRep.ra hM 0 rfl (by omega) (by show _ < (1160 : Int); omega))]) ?_
  refine y_istore hE [(5, .int (iI (lnV S i))), (0, .ref (α 4 0)), (1, .int (iI i)), (2, .long (iL wg)), (4, .int (iI o))] (by decide) rfl dX4_opens_13 ?_
  refine y_iconst hE dX4_opens_15 ?_
  refine y_istore hE [(6, .int (iI (-1))), (5, .int (iI (lnV S i))), (0, .ref (α 4 0)), (1, .int (iI i)), (2, .long (iL wg)), (4, .int (iI o))] (by decide) rfl dX4_opens_16 ?_
  refine y_iconst hE dX4_opens_18 ?_
  refine y_istore hE [(7, .int (iI (-1))), (6, .int (iI (-1))), (5, .int (iI (lnV S i))), (0, .ref (α 4 0)), (1, .int (iI i)), (2, .long (iL wg)), (4, .int (iI o))] (by decide) rfl dX4_opens_19 ?_
  refine y_iconst hE dX4_opens_21 ?_
  refine y_iload_n hE rfl 4 rfl dX4_opens_22 ?_
  refine y_imul hE dX4_opens_23 ?_
  refine y_istore hE [(8, .int (iI (5 * i))), (7, .int (iI (-1))), (6, .int (iI (-1))), (5, .int (iI (lnV S i))), (0, .ref (α 4 0)), (1, .int (iI i)), (2, .long (iL wg)), (4, .int (iI o))] (by decide) rfl dX4_opens_24 ?_
  have L26 : ∀ (fuel : Nat) (b a k : Int), (5 * i ≤ k ∧ k ≤ 5 * i + S 11 i) → (b = blw S i (k - 5 * i).toNat) → (a = abv S i (k - 5 * i).toNat) → (b = -1 ∨ 5 * i ≤ b ∧ b < k) → (a = -1 ∨ 5 * i ≤ a ∧ a < k) → (5 * i + S 11 i - k).toNat < fuel → Y x n α K 0 0 26 [(8, .int (iI k)), (7, .int (iI a)), (6, .int (iI b)), (5, .int (iI (lnV S i))), (0, .ref (α 4 0)), (1, .int (iI i)), (2, .long (iL wg)), (4, .int (iI o))] [] := by
    intro fuel26
    induction fuel26 with
    | zero => intro b a k hk hb ha hb1 ha1 hfu26; exact absurd hfu26 (Nat.not_lt_zero _)
    | succ fuel26 ih26 =>
      intro b a k hk hb ha hb1 ha1 hfu26
      refine y_iload hE 0 rfl dX4_opens_26 ?_
      refine y_iconst hE dX4_opens_28 ?_
      refine y_iload_n hE rfl 5 rfl dX4_opens_29 ?_
      refine y_imul hE dX4_opens_30 ?_
      refine y_aload_n hE rfl 4 rfl dX4_opens_31 ?_
      refine gX4_38r (z := 0) hE h40 (MObj.r hM.1 11 (by decide)) (by omega) dX4_opens_32 (fun hl_32 => ?_)
      refine y_iload_n hE rfl 5 rfl dX4_opens_35 ?_
      refine y_iald hE rfl hl_32 (by have hL : K 111 0 (-1) = 20 := (MObj.l hM.1 11 (by decide)); omega) dX4_opens_36 ?_
      refine y_to (st' := [.int (iI (S 11 i)), .int (iI (5 * i)), .int (iI k)]) rfl rfl (by rw [show K 111 0 i = S 11 i from (MRep.ra hM 11 rfl (by omega) (by first | omega | (show _ < (20 : Int); omega)))]) ?_
      refine y_iadd hE dX4_opens_37 ?_
      refine y_icmp_ge hE 133 (by decide) (by omega) (by omega) dX4_opens_38 (fun c_38 => ?_) (fun c_38 => ?_)
      · have hbb : b = bB S i := by rw [hb, bB, show k - 5 * i = S 11 i by omega]
        have haa : a = bA S i := by rw [ha, bA, show k - 5 * i = S 11 i by omega]
        have hsm := ab_some S i (S 11 i).toNat (by omega) (by omega)
        rw [← bB, ← bA, ← hbb, ← haa] at hsm
        refine y_iload hE 2 rfl dX4_opens_133 ?_
        have J150 : (b < 0 ∨ a < 0 ∨ b = a) → Y x n α K 0 0 150 [(8, .int (iI k)), (7, .int (iI a)), (6, .int (iI b)), (5, .int (iI (lnV S i))), (0, .ref (α 4 0)), (1, .int (iI i)), (2, .long (iL wg)), (4, .int (iI o))] [] := by
          intro hone
          refine y_aload_n hE rfl 4 rfl dX4_opens_150 ?_
          refine gX4_76r (z := 0) hE h40 (MObj.r hM.1 28 (by decide)) (by omega) dX4_opens_151 (fun hl_151 => ?_)
          refine y_iload hE 7 rfl dX4_opens_154 ?_
          refine y_aload_n hE rfl 4 rfl dX4_opens_156 ?_
          refine gX4_41r (z := 0) hE h40 (MObj.r hM.1 12 (by decide)) (by omega) dX4_opens_157 (fun hl_157 => ?_)
          refine y_iload hE 2 rfl dX4_opens_160 ?_
          have J172 : ∀ (z : Int), (z = if b < 0 then a else b) → (5 * i ≤ z ∧ z < 5 * i + S 11 i) → Y x n α K 0 0 172 [(8, .int (iI k)), (7, .int (iI a)), (6, .int (iI b)), (5, .int (iI (lnV S i))), (0, .ref (α 4 0)), (1, .int (iI i)), (2, .long (iL wg)), (4, .int (iI o))] [.int (iI z), .ref (α 112 0), .int (iI o), .ref (α 128 0)] := by
            intro z hz hz1
            refine y_iald hE rfl hl_157 (by have hL : K 112 0 (-1) = 100 := (MObj.l hM.1 12 (by decide)); omega) dX4_opens_172 ?_
            refine y_to (st' := [.int (iI (S 12 z)), .int (iI o), .ref (α 128 0)]) rfl rfl (by rw [show K 112 0 z = S 12 z from (MRep.ra hM 12 rfl (by omega) (by first | omega | (show _ < (100 : Int); omega)))]) ?_
            refine y_iast hE (by unfold kC; decide) rfl (by simp [kTag]) hl_151 (by have hL : K 128 0 (-1) = 32 := (MObj.l hM.1 28 (by decide)); omega) dX4_opens_173 ?_
            refine y_aload_n hE rfl 4 rfl dX4_opens_174 ?_
            refine gX4_79r (z := 0) hE h40 (MObj.r hM.1 29 (by decide)) (by omega) dX4_opens_175 (fun hl_175 => ?_)
            refine y_iload hE 7 rfl dX4_opens_178 ?_
            refine y_lload_n hE rfl 6 rfl dX4_opens_180 ?_
            refine y_last hE (by unfold kC; decide) rfl (by simp [kTag]) hl_175 (by have hL : (up3 K 128 0 o (S 12 z)) 129 0 (-1) = 32 := (MObj.l hM.1 29 (by decide)); omega) dX4_opens_181 ?_
            refine y_iload hE 7 rfl dX4_opens_182 ?_
            refine y_iconst hE dX4_opens_184 ?_
            refine y_iadd hE dX4_opens_185 ?_
            exact y_iret hE rfl rfl hQ dX4_opens_186 Ext.rf ⟨rfl, rfl, (MRep.u (MRep.u hM 28 (by decide) (j := o) (by omega) (S 12 z)) 29 (by decide) (j := o) (by omega) wg), (KO.up (KO.up KO.rf (by decide)) (by decide)), Or.inl ⟨by omega, rfl, by rw [← hbb, ← haa, ← hz]⟩⟩
          refine y_if_ge hE 170 (by decide) (by omega) dX4_opens_162 (fun c_162 => ?_) (fun c_162 => ?_)
          · refine y_iload hE 2 rfl dX4_opens_170 ?_
            exact J172 b (by first | rw [if_pos (by omega)] | rw [if_neg (by omega)]) (by omega)
          · refine y_iload hE 1 rfl dX4_opens_165 ?_
            refine y_goto hE 172 (by decide) dX4_opens_167 ?_
            exact J172 a (by first | rw [if_pos (by omega)] | rw [if_neg (by omega)]) (by omega)
        refine y_if_lt hE 150 (by decide) (by omega) dX4_opens_135 (fun c_135 => ?_) (fun c_135 => ?_)
        · exact J150  (by omega)
        · refine y_iload hE 1 rfl dX4_opens_138 ?_
          refine y_if_lt hE 150 (by decide) (by omega) dX4_opens_140 (fun c_140 => ?_) (fun c_140 => ?_)
          · exact J150  (by omega)
          · refine y_iload hE 2 rfl dX4_opens_143 ?_
            refine y_iload hE 1 rfl dX4_opens_145 ?_
            refine y_icmp_ne hE 187 (by decide) (by omega) (by omega) dX4_opens_147 (fun c_147 => ?_) (fun c_147 => ?_)
            · have wb := hW.chi i (b - 5 * i) (by omega) (by omega) (by omega) (by omega)
              rw [show 5 * i + (b - 5 * i) = b by omega] at wb
              have wa := hW.chi i (a - 5 * i) (by omega) (by omega) (by omega) (by omega)
              rw [show 5 * i + (a - 5 * i) = a by omega] at wa
              have hbi := blw_in S i (S 11 i).toNat
              have hai := abv_in S i (S 11 i).toNat
              rw [← bB, ← hbb] at hbi
              rw [← bA, ← haa] at hai
              have hne : S 13 b ≠ S 13 a := fun e => by have h := hW.dis i (b - 5 * i) (a - 5 * i) (by omega) (by omega) (by omega) (by omega) (by omega) (by omega) (by rw [show 5 * i + (b - 5 * i) = b by omega, show 5 * i + (a - 5 * i) = a by omega]; exact e); omega
              have hm0 : 0 ≤ wg * (lnV S i - S 13 b) := Int.mul_nonneg (by omega) (by omega)
              have hm1 : wg * (lnV S i - S 13 b) ≤ 1000000 * 200 := Int.mul_le_mul (by omega) (by omega) (by omega) (by omega)
              refine y_lload_n hE rfl 6 rfl dX4_opens_187 ?_
              refine y_iload hE 3 rfl dX4_opens_188 ?_
              refine y_aload_n hE rfl 4 rfl dX4_opens_190 ?_
              refine gX4_44r (z := 0) hE h40 (MObj.r hM.1 13 (by decide)) (by omega) dX4_opens_191 (fun hl_191 => ?_)
              refine y_iload hE 2 rfl dX4_opens_194 ?_
              refine y_iald hE rfl hl_191 (by have hL : K 113 0 (-1) = 100 := (MObj.l hM.1 13 (by decide)); omega) dX4_opens_196 ?_
              refine y_to (st' := [.int (iI (S 13 b)), .int (iI (lnV S i)), .long (iL wg)]) rfl rfl (by rw [show K 113 0 b = S 13 b from (MRep.ra hM 13 rfl (by omega) (by first | omega | (show _ < (100 : Int); omega)))]) ?_
              refine y_isub hE dX4_opens_197 ?_
              refine y_i2l hE (by omega) dX4_opens_198 ?_
              refine y_lmul hE dX4_opens_199 ?_
              refine y_aload_n hE rfl 4 rfl dX4_opens_200 ?_
              refine gX4_44r (z := 0) hE h40 (MObj.r hM.1 13 (by decide)) (by omega) dX4_opens_201 (fun hl_201 => ?_)
              refine y_iload hE 1 rfl dX4_opens_204 ?_
              refine y_iald hE rfl hl_201 (by have hL : K 113 0 (-1) = 100 := (MObj.l hM.1 13 (by decide)); omega) dX4_opens_206 ?_
              refine y_to (st' := [.int (iI (S 13 a)), .long (iL (wg * ((lnV S i) - (S 13 b))))]) rfl rfl (by rw [show K 113 0 a = S 13 a from (MRep.ra hM 13 rfl (by omega) (by first | omega | (show _ < (100 : Int); omega)))]) ?_
              refine y_aload_n hE rfl 4 rfl dX4_opens_207 ?_
              refine gX4_44r (z := 0) hE h40 (MObj.r hM.1 13 (by decide)) (by omega) dX4_opens_208 (fun hl_208 => ?_)
              refine y_iload hE 2 rfl dX4_opens_211 ?_
              refine y_iald hE rfl hl_208 (by have hL : K 113 0 (-1) = 100 := (MObj.l hM.1 13 (by decide)); omega) dX4_opens_213 ?_
              refine y_to (st' := [.int (iI (S 13 b)), .int (iI (S 13 a)), .long (iL (wg * ((lnV S i) - (S 13 b))))]) rfl rfl (by rw [show K 113 0 b = S 13 b from (MRep.ra hM 13 rfl (by omega) (by first | omega | (show _ < (100 : Int); omega)))]) ?_
              refine y_isub hE dX4_opens_214 ?_
              refine y_i2l hE (by omega) dX4_opens_215 ?_
              refine y_ldiv hE (by omega) (by omega) dX4_opens_216 ?_
              refine y_lstore hE [(8, .long (iL ((wg * ((lnV S i) - (S 13 b))) / ((S 13 a) - (S 13 b))))), (7, .int (iI a)), (6, .int (iI b)), (5, .int (iI (lnV S i))), (0, .ref (α 4 0)), (1, .int (iI i)), (2, .long (iL wg)), (4, .int (iI o))] (by decide) rfl dX4_opens_217 ?_
              refine y_aload_n hE rfl 4 rfl dX4_opens_219 ?_
              refine gX4_76r (z := 0) hE h40 (MObj.r hM.1 28 (by decide)) (by omega) dX4_opens_220 (fun hl_220 => ?_)
              refine y_iload hE 7 rfl dX4_opens_223 ?_
              refine y_aload_n hE rfl 4 rfl dX4_opens_225 ?_
              refine gX4_41r (z := 0) hE h40 (MObj.r hM.1 12 (by decide)) (by omega) dX4_opens_226 (fun hl_226 => ?_)
              refine y_iload hE 1 rfl dX4_opens_229 ?_
              refine y_iald hE rfl hl_226 (by have hL : K 112 0 (-1) = 100 := (MObj.l hM.1 12 (by decide)); omega) dX4_opens_231 ?_
              refine y_to (st' := [.int (iI (S 12 a)), .int (iI o), .ref (α 128 0)]) rfl rfl (by rw [show K 112 0 a = S 12 a from (MRep.ra hM 12 rfl (by omega) (by first | omega | (show _ < (100 : Int); omega)))]) ?_
              refine y_iast hE (by unfold kC; decide) rfl (by simp [kTag]) hl_220 (by have hL : K 128 0 (-1) = 32 := (MObj.l hM.1 28 (by decide)); omega) dX4_opens_232 ?_
              refine y_aload_n hE rfl 4 rfl dX4_opens_233 ?_
              refine gX4_79r (z := 0) hE h40 (MObj.r hM.1 29 (by decide)) (by omega) dX4_opens_234 (fun hl_234 => ?_)
              refine y_iload hE 7 rfl dX4_opens_237 ?_
              refine y_lload hE 0 rfl dX4_opens_239 ?_
              refine y_last hE (by unfold kC; decide) rfl (by simp [kTag]) hl_234 (by have hL : (up3 K 128 0 o (S 12 a)) 129 0 (-1) = 32 := (MObj.l hM.1 29 (by decide)); omega) dX4_opens_241 ?_
              refine y_aload_n hE rfl 4 rfl dX4_opens_242 ?_
              refine gX4_76r (z := 0) hE h40 (MObj.r hM.1 28 (by decide)) (by omega) dX4_opens_243 (fun hl_243 => ?_)
              refine y_iload hE 7 rfl dX4_opens_246 ?_
              refine y_iconst hE dX4_opens_248 ?_
              refine y_iadd hE dX4_opens_249 ?_
              refine y_aload_n hE rfl 4 rfl dX4_opens_250 ?_
              refine gX4_41r (z := 0) hE h40 (MObj.r hM.1 12 (by decide)) (by omega) dX4_opens_251 (fun hl_251 => ?_)
              refine y_iload hE 2 rfl dX4_opens_254 ?_
              refine y_iald hE rfl hl_251 (by have hL : (up3 (up3 K 128 0 o (S 12 a)) 129 0 o ((wg * ((lnV S i) - (S 13 b))) / ((S 13 a) - (S 13 b)))) 112 0 (-1) = 100 := (MObj.l hM.1 12 (by decide)); omega) dX4_opens_256 ?_
              refine y_to (st' := [.int (iI (S 12 b)), .int (iI (o + 1)), .ref (α 128 0)]) rfl rfl (by rw [show (up3 (up3 K 128 0 o (S 12 a)) 129 0 o ((wg * ((lnV S i) - (S 13 b))) / ((S 13 a) - (S 13 b)))) 112 0 b = S 12 b from (MRep.ra hM 12 rfl (by omega) (by first | omega | (show _ < (100 : Int); omega)))]) ?_
              refine y_iast hE (by unfold kC; decide) rfl (by simp [kTag]) hl_243 (by have hL : (up3 (up3 K 128 0 o (S 12 a)) 129 0 o ((wg * ((lnV S i) - (S 13 b))) / ((S 13 a) - (S 13 b)))) 128 0 (-1) = 32 := (MObj.l (MRep.u (MRep.u hM 28 (by decide) (j := o) (by omega) (S 12 a)) 29 (by decide) (j := o) (by omega) ((wg * ((lnV S i) - (S 13 b))) / ((S 13 a) - (S 13 b)))).1 28 (by decide)); omega) dX4_opens_257 ?_
              refine y_aload_n hE rfl 4 rfl dX4_opens_258 ?_
              refine gX4_79r (z := 0) hE h40 (MObj.r hM.1 29 (by decide)) (by omega) dX4_opens_259 (fun hl_259 => ?_)
              refine y_iload hE 7 rfl dX4_opens_262 ?_
              refine y_iconst hE dX4_opens_264 ?_
              refine y_iadd hE dX4_opens_265 ?_
              refine y_lload_n hE rfl 6 rfl dX4_opens_266 ?_
              refine y_lload hE 0 rfl dX4_opens_267 ?_
              refine y_lsub hE dX4_opens_269 ?_
              refine y_last hE (by unfold kC; decide) rfl (by simp [kTag]) hl_259 (by have hL : (up3 (up3 (up3 K 128 0 o (S 12 a)) 129 0 o ((wg * ((lnV S i) - (S 13 b))) / ((S 13 a) - (S 13 b)))) 128 0 (o + 1) (S 12 b)) 129 0 (-1) = 32 := (MObj.l (MRep.u (MRep.u (MRep.u hM 28 (by decide) (j := o) (by omega) (S 12 a)) 29 (by decide) (j := o) (by omega) ((wg * ((lnV S i) - (S 13 b))) / ((S 13 a) - (S 13 b)))) 28 (by decide) (j := o + 1) (by omega) (S 12 b)).1 29 (by decide)); omega) dX4_opens_270 ?_
              refine y_iload hE 7 rfl dX4_opens_271 ?_
              refine y_iconst hE dX4_opens_273 ?_
              refine y_iadd hE dX4_opens_274 ?_
              exact y_iret hE rfl rfl hQ dX4_opens_275 Ext.rf ⟨rfl, rfl, (MRep.u (MRep.u (MRep.u (MRep.u hM 28 (by decide) (j := o) (by omega) (S 12 a)) 29 (by decide) (j := o) (by omega) ((wg * ((lnV S i) - (S 13 b))) / ((S 13 a) - (S 13 b)))) 28 (by decide) (j := o + 1) (by omega) (S 12 b)) 29 (by decide) (j := o + 1) (by omega) (wg - ((wg * ((lnV S i) - (S 13 b))) / ((S 13 a) - (S 13 b))))), (KO.up (KO.up (KO.up (KO.up KO.rf (by decide)) (by decide)) (by decide)) (by decide)), Or.inr ⟨by omega, rfl, by unfold bR; rw [← hbb, ← haa]⟩⟩
            · exact J150  (by omega)
      · have wc := hW.chi i (k - 5 * i) (by omega) (by omega) (by omega) (by omega)
        rw [show 5 * i + (k - 5 * i) = k by omega] at wc
        have hbs := blw_s (S := S) (i := i) (a := k) (by omega)
        have has := abv_s (S := S) (i := i) (a := k) (by omega)
        rw [← hb] at hbs
        rw [← ha] at has
        refine y_aload_n hE rfl 4 rfl dX4_opens_41 ?_
        refine gX4_44r (z := 0) hE h40 (MObj.r hM.1 13 (by decide)) (by omega) dX4_opens_42 (fun hl_42 => ?_)
        refine y_iload hE 0 rfl dX4_opens_45 ?_
        refine y_iald hE rfl hl_42 (by have hL : K 113 0 (-1) = 100 := (MObj.l hM.1 13 (by decide)); omega) dX4_opens_47 ?_
        refine y_to (st' := [.int (iI (S 13 k))]) rfl rfl (by rw [show K 113 0 k = S 13 k from (MRep.ra hM 13 rfl (by omega) (by first | omega | (show _ < (100 : Int); omega)))]) ?_
        refine y_iload hE 3 rfl dX4_opens_48 ?_
        have J82 : ∀ (b2 : Int), (b2 = if S 13 k ≤ lnV S i ∧ (b < 0 ∨ S 13 k > S 13 b) then k else b) → Y x n α K 0 0 82 [(8, .int (iI k)), (7, .int (iI a)), (6, .int (iI b)), (5, .int (iI (lnV S i))), (0, .ref (α 4 0)), (1, .int (iI i)), (2, .long (iL wg)), (4, .int (iI o))] [.int (iI b2)] := by
          intro b2 hb2
          have hb3 : b2 = k ∨ b2 = b := by rw [hb2]; split <;> omega
          refine y_istore hE [(6, .int (iI b2)), (8, .int (iI k)), (7, .int (iI a)), (5, .int (iI (lnV S i))), (0, .ref (α 4 0)), (1, .int (iI i)), (2, .long (iL wg)), (4, .int (iI o))] (by decide) rfl dX4_opens_82 ?_
          refine y_aload_n hE rfl 4 rfl dX4_opens_84 ?_
          refine gX4_44r (z := 0) hE h40 (MObj.r hM.1 13 (by decide)) (by omega) dX4_opens_85 (fun hl_85 => ?_)
          refine y_iload hE 1 rfl dX4_opens_88 ?_
          refine y_iald hE rfl hl_85 (by have hL : K 113 0 (-1) = 100 := (MObj.l hM.1 13 (by decide)); omega) dX4_opens_90 ?_
          refine y_to (st' := [.int (iI (S 13 k))]) rfl rfl (by rw [show K 113 0 k = S 13 k from (MRep.ra hM 13 rfl (by omega) (by first | omega | (show _ < (100 : Int); omega)))]) ?_
          refine y_iload hE 3 rfl dX4_opens_91 ?_
          have J125 : ∀ (a2 : Int), (a2 = if S 13 k ≥ lnV S i ∧ (a < 0 ∨ S 13 k < S 13 a) then k else a) → Y x n α K 0 0 125 [(6, .int (iI b2)), (8, .int (iI k)), (7, .int (iI a)), (5, .int (iI (lnV S i))), (0, .ref (α 4 0)), (1, .int (iI i)), (2, .long (iL wg)), (4, .int (iI o))] [.int (iI a2)] := by
            intro a2 ha2
            have ha3 : a2 = k ∨ a2 = a := by rw [ha2]; split <;> omega
            refine y_istore hE [(7, .int (iI a2)), (6, .int (iI b2)), (8, .int (iI k)), (5, .int (iI (lnV S i))), (0, .ref (α 4 0)), (1, .int (iI i)), (2, .long (iL wg)), (4, .int (iI o))] (by decide) rfl dX4_opens_125 ?_
            refine y_iinc hE 2 rfl [(8, .int (iI (k + 1))), (7, .int (iI a2)), (6, .int (iI b2)), (5, .int (iI (lnV S i))), (0, .ref (α 4 0)), (1, .int (iI i)), (2, .long (iL wg)), (4, .int (iI o))] (by decide) rfl dX4_opens_127 ?_
            refine y_goto hE 26 (by decide) dX4_opens_130 ?_
            exact ih26 b2 a2 (k + 1) (by omega) (hb2.trans hbs.symm) (ha2.trans has.symm) (by omega) (by omega) (by omega)
          refine y_icmp_lt hE 123 (by decide) (by omega) (by omega) dX4_opens_93 (fun c_93 => ?_) (fun c_93 => ?_)
          · refine y_iload hE 2 rfl dX4_opens_123 ?_
            exact J125 a (by first | rw [if_pos (by omega)] | rw [if_neg (by omega)])
          · refine y_iload hE 2 rfl dX4_opens_96 ?_
            refine y_if_lt hE 118 (by decide) (by omega) dX4_opens_98 (fun c_98 => ?_) (fun c_98 => ?_)
            · refine y_iload hE 1 rfl dX4_opens_118 ?_
              refine y_goto hE 125 (by decide) dX4_opens_120 ?_
              exact J125 k (by first | rw [if_pos (by omega)] | rw [if_neg (by omega)])
            · have wa := hW.chi i (a - 5 * i) (by omega) (by omega) (by omega) (by omega)
              rw [show 5 * i + (a - 5 * i) = a by omega] at wa
              refine y_aload_n hE rfl 4 rfl dX4_opens_101 ?_
              refine gX4_44r (z := 0) hE h40 (MObj.r hM.1 13 (by decide)) (by omega) dX4_opens_102 (fun hl_102 => ?_)
              refine y_iload hE 1 rfl dX4_opens_105 ?_
              refine y_iald hE rfl hl_102 (by have hL : K 113 0 (-1) = 100 := (MObj.l hM.1 13 (by decide)); omega) dX4_opens_107 ?_
              refine y_to (st' := [.int (iI (S 13 k))]) rfl rfl (by rw [show K 113 0 k = S 13 k from (MRep.ra hM 13 rfl (by omega) (by first | omega | (show _ < (100 : Int); omega)))]) ?_
              refine y_aload_n hE rfl 4 rfl dX4_opens_108 ?_
              refine gX4_44r (z := 0) hE h40 (MObj.r hM.1 13 (by decide)) (by omega) dX4_opens_109 (fun hl_109 => ?_)
              refine y_iload hE 2 rfl dX4_opens_112 ?_
              refine y_iald hE rfl hl_109 (by have hL : K 113 0 (-1) = 100 := (MObj.l hM.1 13 (by decide)); omega) dX4_opens_114 ?_
              refine y_to (st' := [.int (iI (S 13 a)), .int (iI (S 13 k))]) rfl rfl (by rw [show K 113 0 a = S 13 a from (MRep.ra hM 13 rfl (by omega) (by first | omega | (show _ < (100 : Int); omega)))]) ?_
              refine y_icmp_ge hE 123 (by decide) (by omega) (by omega) dX4_opens_115 (fun c_115 => ?_) (fun c_115 => ?_)
              · refine y_iload hE 2 rfl dX4_opens_123 ?_
                exact J125 a (by first | rw [if_pos (by omega)] | rw [if_neg (by omega)])
              · refine y_iload hE 1 rfl dX4_opens_118 ?_
                refine y_goto hE 125 (by decide) dX4_opens_120 ?_
                exact J125 k (by first | rw [if_pos (by omega)] | rw [if_neg (by omega)])
        refine y_icmp_gt hE 80 (by decide) (by omega) (by omega) dX4_opens_50 (fun c_50 => ?_) (fun c_50 => ?_)
        · refine y_iload hE 2 rfl dX4_opens_80 ?_
          exact J82 b (by first | rw [if_pos (by omega)] | rw [if_neg (by omega)])
        · refine y_iload hE 2 rfl dX4_opens_53 ?_
          refine y_if_lt hE 75 (by decide) (by omega) dX4_opens_55 (fun c_55 => ?_) (fun c_55 => ?_)
          · refine y_iload hE 0 rfl dX4_opens_75 ?_
            refine y_goto hE 82 (by decide) dX4_opens_77 ?_
            exact J82 k (by first | rw [if_pos (by omega)] | rw [if_neg (by omega)])
          · have wb := hW.chi i (b - 5 * i) (by omega) (by omega) (by omega) (by omega)
            rw [show 5 * i + (b - 5 * i) = b by omega] at wb
            refine y_aload_n hE rfl 4 rfl dX4_opens_58 ?_
            refine gX4_44r (z := 0) hE h40 (MObj.r hM.1 13 (by decide)) (by omega) dX4_opens_59 (fun hl_59 => ?_)
            refine y_iload hE 0 rfl dX4_opens_62 ?_
            refine y_iald hE rfl hl_59 (by have hL : K 113 0 (-1) = 100 := (MObj.l hM.1 13 (by decide)); omega) dX4_opens_64 ?_
            refine y_to (st' := [.int (iI (S 13 k))]) rfl rfl (by rw [show K 113 0 k = S 13 k from (MRep.ra hM 13 rfl (by omega) (by first | omega | (show _ < (100 : Int); omega)))]) ?_
            refine y_aload_n hE rfl 4 rfl dX4_opens_65 ?_
            refine gX4_44r (z := 0) hE h40 (MObj.r hM.1 13 (by decide)) (by omega) dX4_opens_66 (fun hl_66 => ?_)
            refine y_iload hE 2 rfl dX4_opens_69 ?_
            refine y_iald hE rfl hl_66 (by have hL : K 113 0 (-1) = 100 := (MObj.l hM.1 13 (by decide)); omega) dX4_opens_71 ?_
            refine y_to (st' := [.int (iI (S 13 b)), .int (iI (S 13 k))]) rfl rfl (by rw [show K 113 0 b = S 13 b from (MRep.ra hM 13 rfl (by omega) (by first | omega | (show _ < (100 : Int); omega)))]) ?_
            refine y_icmp_le hE 80 (by decide) (by omega) (by omega) dX4_opens_72 (fun c_72 => ?_) (fun c_72 => ?_)
            · refine y_iload hE 2 rfl dX4_opens_80 ?_
              exact J82 b (by first | rw [if_pos (by omega)] | rw [if_neg (by omega)])
            · refine y_iload hE 0 rfl dX4_opens_75 ?_
              refine y_goto hE 82 (by decide) dX4_opens_77 ?_
              exact J82 k (by first | rw [if_pos (by omega)] | rw [if_neg (by omega)])
  exact L26 _ (-1) (-1) (5 * i) (by omega) (by rw [show 5 * i - 5 * i = 0 by omega]; rfl) (by rw [show 5 * i - 5 * i = 0 by omega]; rfl) (by omega) (by omega) (Nat.lt_succ_self _)
