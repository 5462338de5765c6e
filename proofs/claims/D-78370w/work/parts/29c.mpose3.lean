set_option linter.unusedVariables false
/-- the frozen pose: what is missing of a share after k entries; the weight of an entry; the first k added -/
def frM (S : SS) (sh : Int) : Nat → Int
  | 0 => sh
  | k + 1 => frM S sh k - S 0 (22 + 3 * (k : Int) + 2) * sh / 1000000
def frW (S : SS) (sh k : Int) : Int := S 0 (22 + 3 * k + 2) * sh / 1000000 + if k = 0 then frM S sh (S 0 21).toNat else 0
def frP (S : SS) (sh : Int) : Nat → SP
  | 0 => []
  | k + 1 => if frW S sh k > 0 then insP (frP S sh k) (S 0 (22 + 3 * (k : Int))) (S 0 (22 + 3 * (k : Int) + 1)) (frW S sh k) else frP S sh k
theorem frM_s {S : SS} {sh k : Int} (h : 0 ≤ k) : frM S sh (k + 1).toNat = frM S sh k.toNat - S 0 (22 + 3 * k + 2) * sh / 1000000 := by
  rw [show (k + 1).toNat = k.toNat + 1 by omega, frM, show ((k.toNat : Nat) : Int) = k by omega]
theorem frP_s {S : SS} {sh k : Int} (h : 0 ≤ k) : frP S sh (k + 1).toNat = if frW S sh k > 0 then insP (frP S sh k.toNat) (S 0 (22 + 3 * k)) (S 0 (22 + 3 * k + 1)) (frW S sh k) else frP S sh k.toNat := by
  rw [show (k + 1).toNat = k.toNat + 1 by omega, frP, show ((k.toNat : Nat) : Int) = k by omega]
/-- its entries are in range, its weights of a whole -/
def FrOk (S : SS) : Prop := (∀ k : Int, 0 ≤ k → k < S 0 21 → 0 ≤ S 0 (22 + 3 * k) ∧ S 0 (22 + 3 * k) < S 8 0 ∧ 0 ≤ S 0 (22 + 3 * k + 1) ∧ S 0 (22 + 3 * k + 1) < 500 ∧ 0 < S 0 (22 + 3 * k + 2) ∧ S 0 (22 + 3 * k + 2) ≤ 1000000) ∧ sumTo (fun k => S 0 (22 + 3 * k + 2)) (S 0 21).toNat ≤ 1000000
theorem range_sum (g : Int → Int) : ∀ n : Nat, ((List.range n).map fun (k : Nat) => g k).sum = sumTo g n
  | 0 => rfl
  | n + 1 => by rw [List.range_succ, List.map_append, List.sum_append, range_sum g n, sumTo]; simp
theorem frS_ok {S : SS} (h : PoseOk S (frS S 0)) : FrOk S := by
  obtain ⟨-, h2, h3⟩ := h
  have hs : sumW (frS S 0) = sumTo (fun k => S 0 (22 + 3 * k + 2)) (S 0 21).toNat := by
    rw [← range_sum]
    unfold sumW frS
    rw [List.map_map, Int.zero_add]
    congr 1
    apply List.map_congr_left
    intro k _
    show S 0 (0 + 24 + 3 * (k : Int)) = S 0 (22 + 3 * (k : Int) + 2)
    congr 1
    omega
  have hm : ∀ k : Int, 0 ≤ k → k < S 0 21 → (S 0 (22 + 3 * k), S 0 (22 + 3 * k + 1), S 0 (22 + 3 * k + 2)) ∈ frS S 0 := fun k k0 k1 => by
    unfold frS
    refine List.mem_map.mpr ⟨k.toNat, List.mem_range.mpr (by rw [Int.zero_add]; omega), ?_⟩
    rw [show ((k.toNat : Nat) : Int) = k by omega, show (0 : Int) + 22 + 3 * k = 22 + 3 * k by omega, show (0 : Int) + 23 + 3 * k = 22 + 3 * k + 1 by omega, show (0 : Int) + 24 + 3 * k = 22 + 3 * k + 2 by omega]
  refine ⟨fun k k0 k1 => ?_, by rw [← hs]; exact h3⟩
  have a := h2 _ (hm k k0 k1)
  have b := (sumW_le _ (fun y hy => (h2 y hy).2.2.2.2)).2 _ (hm k k0 k1)
  dsimp only at a b
  exact ⟨a.1, a.2.1, a.2.2.1, a.2.2.2.1, a.2.2.2.2, by omega⟩
theorem frM_sum {S : SS} {sh : Int} : ∀ k : Nat, frM S sh k = sh - sumTo (fun k => S 0 (22 + 3 * k + 2) * sh / 1000000) k
  | 0 => by rw [frM, sumTo]; omega
  | k + 1 => by rw [frM, sumTo, frM_sum k]; omega
theorem fl_sum {g : Int → Int} {sh : Int} : ∀ k : Nat, 1000000 * sumTo (fun k => g k * sh / 1000000) k ≤ sumTo g k * sh
  | 0 => by rw [sumTo, sumTo]; omega
  | k + 1 => by
    have h := fl_sum (g := g) (sh := sh) k
    rw [sumTo, sumTo, Int.add_mul]
    omega
theorem sumTo_monoN {g : Int → Int} {m : Int} (hg : ∀ j : Int, 0 ≤ j → j < m → 0 ≤ g j) {k : Nat} : ∀ d : Nat, ((k + d : Nat) : Int) ≤ m → sumTo g k ≤ sumTo g (k + d)
  | 0, _ => Int.le_refl _
  | d + 1, hd => by have := sumTo_monoN hg (k := k) d (by omega); have := hg ((k + d : Nat) : Int) (by omega) (by omega); rw [show k + (d + 1) = k + d + 1 by omega, sumTo]; omega
theorem fr_fl {S : SS} (h : FrOk S) {sh k : Int} (hsh : 0 ≤ sh ∧ sh ≤ 1000000) (hk : 0 ≤ k ∧ k < S 0 21) : 0 ≤ S 0 (22 + 3 * k + 2) * sh ∧ S 0 (22 + 3 * k + 2) * sh ≤ 1000000 * 1000000 ∧ 0 ≤ S 0 (22 + 3 * k + 2) * sh / 1000000 := by
  have a := h.1 k hk.1 hk.2
  have b : 0 ≤ S 0 (22 + 3 * k + 2) * sh := Int.mul_nonneg (by omega) hsh.1
  exact ⟨b, Int.mul_le_mul (by omega) hsh.2 hsh.1 (by omega), Int.ediv_nonneg b (by omega)⟩
theorem frM_in {S : SS} (h : FrOk S) {sh k : Int} (hsh : 0 ≤ sh ∧ sh ≤ 1000000) (hk : 0 ≤ k ∧ k ≤ S 0 21) : frM S sh (S 0 21).toNat ≤ frM S sh k.toNat ∧ 0 ≤ frM S sh k.toNat ∧ frM S sh k.toNat ≤ sh ∧ 0 ≤ frM S sh (S 0 21).toNat := by
  rw [frM_sum, frM_sum]
  have hn : ∀ j : Int, 0 ≤ j → j < S 0 21 → 0 ≤ S 0 (22 + 3 * j + 2) * sh / 1000000 := fun j a b => (fr_fl h hsh ⟨a, b⟩).2.2
  have a := sumTo_monoN (g := fun k => S 0 (22 + 3 * k + 2) * sh / 1000000) (m := S 0 21) hn (k := k.toNat) ((S 0 21).toNat - k.toNat) (by omega)
  rw [show k.toNat + ((S 0 21).toNat - k.toNat) = (S 0 21).toNat by omega] at a
  have b := sumTo_monoN (g := fun k => S 0 (22 + 3 * k + 2) * sh / 1000000) (m := S 0 21) hn (k := 0) k.toNat (by omega)
  rw [show 0 + k.toNat = k.toNat by omega, show sumTo (fun k => S 0 (22 + 3 * k + 2) * sh / 1000000) 0 = 0 from rfl] at b
  have c := fl_sum (g := fun k => S 0 (22 + 3 * k + 2)) (sh := sh) (S 0 21).toNat
  have d := Int.mul_le_mul_of_nonneg_right h.2 hsh.1
  omega
theorem frW_in {S : SS} (h : FrOk S) {sh k : Int} (hsh : 0 ≤ sh ∧ sh ≤ 1000000) (hk : 0 ≤ k ∧ k < S 0 21) : 0 ≤ frW S sh k := by
  have a := fr_fl h hsh hk
  have b := frM_in h hsh (k := k) (by omega)
  unfold frW
  split <;> omega
theorem frP_ok {S : SS} (h : FrOk S) {sh : Int} (hsh : 0 ≤ sh ∧ sh ≤ 1000000) : ∀ k : Nat, (k : Int) ≤ S 0 21 → PoseB S (frP S sh k) (sumTo (fun k => S 0 (22 + 3 * k + 2) * sh / 1000000) k + if k = 0 then 0 else frM S sh (S 0 21).toNat) ∧ (frP S sh k).length ≤ k
  | 0, _ => ⟨PoseB.nil (by rw [sumTo, if_pos rfl]; omega), Nat.le_refl _⟩
  | k + 1, hk => by
    obtain ⟨h1, h2⟩ := frP_ok h hsh k (by omega)
    have e0 := h.1 k (by omega) (by omega)
    have hw := frW_in h hsh (k := k) (by omega)
    have hs : sumTo (fun k => S 0 (22 + 3 * k + 2) * sh / 1000000) (k + 1) + (if k + 1 = 0 then 0 else frM S sh (S 0 21).toNat) = sumTo (fun k => S 0 (22 + 3 * k + 2) * sh / 1000000) k + (if k = 0 then 0 else frM S sh (S 0 21).toNat) + frW S sh k := by
      rw [sumTo, if_neg (by omega)]
      unfold frW
      by_cases e : k = 0
      · rw [if_pos e, if_pos (by omega)]; omega
      · rw [if_neg e, if_neg (by omega)]; omega
    rw [hs, frP]
    by_cases e : frW S sh k > 0
    · rw [if_pos e]
      have hl := (insP_len (c := S 0 (22 + 3 * (k : Int))) (t := S 0 (22 + 3 * (k : Int) + 1)) (w := frW S sh k) (frP S sh k)).2
      exact ⟨h1.ins ⟨e0.1, e0.2.1⟩ ⟨e0.2.2.1, e0.2.2.2.1⟩ e, by omega⟩
    · rw [if_neg e]
      exact ⟨h1.mono (by omega), by omega⟩
theorem frP_fin {S : SS} (h : FrOk S) {sh k : Int} (hsh : 0 ≤ sh ∧ sh ≤ 1000000) (hk : 0 ≤ k ∧ k ≤ S 0 21) : PoseB S (frP S sh k.toNat) sh ∧ (frP S sh k.toNat).length ≤ k := by
  obtain ⟨h1, h2⟩ := frP_ok h hsh k.toNat (by omega)
  have a := frM_in h hsh hk
  have b := frM_sum (S := S) (sh := sh) k.toNat
  refine ⟨h1.mono ?_, by omega⟩
  split <;> omega
set_option maxHeartbeats 4000000 in
set_option maxRecDepth 100000 in
theorem m_X4_addsFrozen {w : KW} {n : KN} {α : KA} {K : KS} (S : SS) (sh : Int) (h40 : (0 : Int) ≤ 0 ∧ 0 < n 4) (hM : MRep S n K) (hW : WFs S) (hP : RPm [] K) (hF : FrOk S) (hmn : 0 ≤ S 0 21 ∧ S 0 21 ≤ 24) (hsh : 0 ≤ sh ∧ sh ≤ 1000000) : KM w yX4_addsFrozen cX4_addsFrozen 8 none { frames := 1, cells := 0, slots := 0, locals := 26 } (3, 0) [.ref (α 4 0), .long (iL sh)] n α K (fun r n' α' K' => n = n' ∧ α = α' ∧ MRep (S) n K' ∧ KO K K' (fun k i => k = 137 ∨ k = 138 ∨ k = 139 ∨ k = 4) ∧ (RPm (frP S sh (S 0 21).toNat) K' ∧ K' 4 0 25 = K 4 0 25)) := by
  refine y_start (by decide) (Nat.le_of_ble_eq_true rfl) (fun x hE hQ => ?_)
  have hw := hQ.2
  subst hw
  have hE : YE x cX4_addsFrozen RX4 none "addsFrozen" 8 { frames := 1, cells := 0, slots := 0, locals := 26 } := hE
  refine y_wk (fun hWK => ?_)
  have hn0 := hWK.1
  refine y_bud (bc' := 0) (bs' := 0) (Nat.le_refl _) (Nat.le_refl _) ?_
  refine y_to (lv' := [(0, .ref (α 4 0)), (1, .long (iL sh))]) (st' := []) rfl rfl rfl ?_
  have wpar := hW.par
  have wclips := hW.clips
  have wnodes := hW.nodes
  have wsts := hW.sts
  have wtrs := hW.trs
  have wthr := hW.thr
  have wtxt := hW.txt
  refine y_lload_n hE rfl 1 rfl dX4_addsFrozen_0 ?_
  refine y_lstore_n hE rfl [(3, .long (iL sh)), (0, .ref (α 4 0)), (1, .long (iL sh))] (by decide) rfl dX4_addsFrozen_1 ?_
  refine y_iconst hE dX4_addsFrozen_2 ?_
  refine y_istore hE [(5, .int (iI 0)), (3, .long (iL sh)), (0, .ref (α 4 0)), (1, .long (iL sh))] (by decide) rfl dX4_addsFrozen_3 ?_
  have L5 : ∀ (fuel : Nat) (k ms : Int), (0 ≤ k ∧ k ≤ S 0 21) → (ms = frM S sh k.toNat) → (S 0 21 - k).toNat < fuel → Y x n α K 0 0 5 [(5, .int (iI k)), (3, .long (iL ms)), (0, .ref (α 4 0)), (1, .long (iL sh))] [] := by
    intro fuel5
    induction fuel5 with
    | zero => intro k ms hk hms hfu5; exact absurd hfu5 (Nat.not_lt_zero _)
    | succ fuel5 ih5 =>
      intro k ms hk hms hfu5
      have hmi := frM_in hF hsh hk
      rw [← hms] at hmi
      refine y_iload hE 0 rfl dX4_addsFrozen_5 ?_
      refine y_aload_n hE rfl 2 rfl dX4_addsFrozen_7 ?_
      refine gX4_7r (z := 0) hE h40 (MObj.r hM.1 0 (by decide)) (by omega) dX4_addsFrozen_8 (fun hl_8 => ?_)
      refine y_bipush hE (by decide) dX4_addsFrozen_11 ?_
      refine y_iald hE rfl hl_8 (by have hL : K 100 0 (-1) = 1160 := (MObj.l hM.1 0 (by decide)); omega) dX4_addsFrozen_13 ?_
      refine y_to (st' := [.int (iI (S 0 21)), .int (iI k)]) rfl rfl (by rw [show K 100 0 21 = S 0 21 from (MRep.ra hM 0 rfl (by omega) (by first | omega | (show _ < (1160 : Int); omega)))]) ?_
      refine y_icmp_ge hE 47 (by decide) (by omega) (by omega) dX4_addsFrozen_14 (fun c_14 => ?_) (fun c_14 => ?_)
      · have hms0 : ms = frM S sh (S 0 21).toNat := by rw [hms, show k = S 0 21 by omega]
        refine y_iconst hE dX4_addsFrozen_47 ?_
        refine y_istore hE [(5, .int (iI 0)), (3, .long (iL ms)), (0, .ref (α 4 0)), (1, .long (iL sh))] (by decide) rfl dX4_addsFrozen_48 ?_
        have L50 : ∀ (fuel : Nat) (K2 : KS) (k : Int), (MRep S n K2) → (KO K K2 (fun k i => k = 137 ∨ k = 138 ∨ k = 139 ∨ k = 4)) → (0 ≤ k ∧ k ≤ S 0 21) → (RPm (frP S sh k.toNat) K2) → (K2 4 0 25 = K 4 0 25) → (S 0 21 - k).toNat < fuel → Y x n α K2 0 0 50 [(5, .int (iI k)), (3, .long (iL ms)), (0, .ref (α 4 0)), (1, .long (iL sh))] [] := by
          intro fuel50
          induction fuel50 with
          | zero => intro K2 k hM2 hk2 hk hR h25 hfu50; exact absurd hfu50 (Nat.not_lt_zero _)
          | succ fuel50 ih50 =>
            intro K2 k hM2 hk2 hk hR h25 hfu50
            refine y_iload hE 0 rfl dX4_addsFrozen_50 ?_
            refine y_aload_n hE rfl 2 rfl dX4_addsFrozen_52 ?_
            refine gX4_7r (z := 0) hE h40 (MObj.r hM2.1 0 (by decide)) (by omega) dX4_addsFrozen_53 (fun hl_53 => ?_)
            refine y_bipush hE (by decide) dX4_addsFrozen_56 ?_
            refine y_iald hE rfl hl_53 (by have hL : K2 100 0 (-1) = 1160 := (MObj.l hM2.1 0 (by decide)); omega) dX4_addsFrozen_58 ?_
            refine y_to (st' := [.int (iI (S 0 21)), .int (iI k)]) rfl rfl (by rw [show K2 100 0 21 = S 0 21 from (MRep.ra hM2 0 rfl (by omega) (by first | omega | (show _ < (1160 : Int); omega)))]) ?_
            refine y_icmp_ge hE 141 (by decide) (by omega) (by omega) dX4_addsFrozen_59 (fun c_59 => ?_) (fun c_59 => ?_)
            · exact y_vret (r := 0) hE rfl hQ dX4_addsFrozen_141 Ext.rf ⟨rfl, rfl, hM2, hk2, by rw [show S 0 21 = k by omega]; exact hR, h25⟩
            · have hfl := fr_fl hF hsh (k := k) (by omega)
              have hfe := hF.1 k (by omega) (by omega)
              have hfp := frP_fin hF hsh (k := k) (by omega)
              have hfw := frW_in hF hsh (k := k) (by omega)
              have hfp1 := frP_fin hF hsh (k := k + 1) (by omega)
              have hfs := frP_s (S := S) (sh := sh) (k := k) (by omega)
              refine y_aload_n hE rfl 2 rfl dX4_addsFrozen_62 ?_
              refine gX4_7r (z := 0) hE h40 (MObj.r hM2.1 0 (by decide)) (by omega) dX4_addsFrozen_63 (fun hl_63 => ?_)
              refine y_bipush hE (by decide) dX4_addsFrozen_66 ?_
              refine y_iconst hE dX4_addsFrozen_68 ?_
              refine y_iload hE 0 rfl dX4_addsFrozen_69 ?_
              refine y_imul hE dX4_addsFrozen_71 ?_
              refine y_iadd hE dX4_addsFrozen_72 ?_
              refine y_iconst hE dX4_addsFrozen_73 ?_
              refine y_iadd hE dX4_addsFrozen_74 ?_
              refine y_iald hE rfl hl_63 (by have hL : K2 100 0 (-1) = 1160 := (MObj.l hM2.1 0 (by decide)); omega) dX4_addsFrozen_75 ?_
              refine y_to (st' := [.int (iI (S 0 ((22 + (3 * k)) + 2)))]) rfl rfl (by rw [show K2 100 0 ((22 + (3 * k)) + 2) = S 0 ((22 + (3 * k)) + 2) from (MRep.ra hM2 0 rfl (by omega) (by first | omega | (show _ < (1160 : Int); omega)))]) ?_
              refine y_i2l hE (by omega) dX4_addsFrozen_76 ?_
              refine y_lload_n hE rfl 3 rfl dX4_addsFrozen_77 ?_
              refine y_lmul hE dX4_addsFrozen_78 ?_
              refine y_ldc2 hE 1000000 (v := 1000000) (by decide) q3052 dX4_addsFrozen_79 ?_
              refine y_ldiv hE (by omega) (by omega) dX4_addsFrozen_82 ?_
              have J93 : ∀ (xm : Int), (xm = if k = 0 then frM S sh (S 0 21).toNat else 0) → Y x n α K2 0 0 93 [(5, .int (iI k)), (3, .long (iL ms)), (0, .ref (α 4 0)), (1, .long (iL sh))] [.long (iL xm), .long (iL (S 0 (22 + 3 * k + 2) * sh / 1000000))] := by
                intro xm hx
                have hwz : S 0 (22 + 3 * k + 2) * sh / 1000000 + xm = frW S sh k := by rw [hx, frW]
                have hwb : frW S sh k ≤ 1000000 := by have a := hfp1.1; rw [hfs] at a; by_cases e : frW S sh k > 0; (rw [if_pos e] at a; have q := insP_sum (c := S 0 (22 + 3 * k)) (t := S 0 (22 + 3 * k + 1)) (w := frW S sh k) (frP S sh k.toNat); have z := a.2.2; have y := (sumW_le (frP S sh k.toNat) (fun y hy => (hfp.1.2.1 y hy).2.2.2.2)).1; omega); omega
                refine y_ladd hE dX4_addsFrozen_93 ?_
                refine y_lstore hE [(6, .long (iL ((S 0 (22 + 3 * k + 2) * sh / 1000000) + xm))), (5, .int (iI k)), (3, .long (iL ms)), (0, .ref (α 4 0)), (1, .long (iL sh))] (by decide) rfl dX4_addsFrozen_94 ?_
                refine y_lload hE 0 rfl dX4_addsFrozen_96 ?_
                refine y_lconst hE 0 (by decide) dX4_addsFrozen_98 ?_
                refine y_lcmp_le hE 135 (by decide) (by omega) (by omega) dX4_addsFrozen_99 dX4_addsFrozen_100 (fun c_99 => ?_) (fun c_99 => ?_)
                · refine y_iinc hE 1 rfl [(5, .int (iI (k + 1))), (6, .long (iL ((S 0 (22 + 3 * k + 2) * sh / 1000000) + xm))), (3, .long (iL ms)), (0, .ref (α 4 0)), (1, .long (iL sh))] (by decide) rfl dX4_addsFrozen_135 ?_
                  refine y_goto hE 50 (by decide) dX4_addsFrozen_138 ?_
                  refine y_lv [0, 2, 3, 4] [(5, .int (iI (k + 1))), (3, .long (iL ms)), (0, .ref (α 4 0)), (1, .long (iL sh))] rfl ?_
                  exact ih50 K2 (k + 1) (hM2) (hk2) (by omega) (by rw [hfs]; first | (rw [if_neg (by omega)]; exact hR) | (rw [if_pos (by omega), ← hwz]; exact hr_132.1)) (by first | exact h25 | exact hr_132.2.trans h25) (by omega)
                · refine y_aload_n hE rfl 3 rfl dX4_addsFrozen_103 ?_
                  refine y_aload_n hE rfl 3 rfl dX4_addsFrozen_104 ?_
                  refine gX4_7r (z := 0) hE h40 (MObj.r hM2.1 0 (by decide)) (by omega) dX4_addsFrozen_105 (fun hl_105 => ?_)
                  refine y_bipush hE (by decide) dX4_addsFrozen_108 ?_
                  refine y_iconst hE dX4_addsFrozen_110 ?_
                  refine y_iload hE 1 rfl dX4_addsFrozen_111 ?_
                  refine y_imul hE dX4_addsFrozen_113 ?_
                  refine y_iadd hE dX4_addsFrozen_114 ?_
                  refine y_iald hE rfl hl_105 (by have hL : K2 100 0 (-1) = 1160 := (MObj.l hM2.1 0 (by decide)); omega) dX4_addsFrozen_115 ?_
                  refine y_to (st' := [.int (iI (S 0 (22 + (3 * k)))), .ref (α 4 0)]) rfl rfl (by rw [show K2 100 0 (22 + (3 * k)) = S 0 (22 + (3 * k)) from (MRep.ra hM2 0 rfl (by omega) (by first | omega | (show _ < (1160 : Int); omega)))]) ?_
                  refine y_aload_n hE rfl 3 rfl dX4_addsFrozen_116 ?_
                  refine gX4_7r (z := 0) hE h40 (MObj.r hM2.1 0 (by decide)) (by omega) dX4_addsFrozen_117 (fun hl_117 => ?_)
                  refine y_bipush hE (by decide) dX4_addsFrozen_120 ?_
                  refine y_iconst hE dX4_addsFrozen_122 ?_
                  refine y_iload hE 1 rfl dX4_addsFrozen_123 ?_
                  refine y_imul hE dX4_addsFrozen_125 ?_
                  refine y_iadd hE dX4_addsFrozen_126 ?_
                  refine y_iconst hE dX4_addsFrozen_127 ?_
                  refine y_iadd hE dX4_addsFrozen_128 ?_
                  refine y_iald hE rfl hl_117 (by have hL : K2 100 0 (-1) = 1160 := (MObj.l hM2.1 0 (by decide)); omega) dX4_addsFrozen_129 ?_
                  refine y_to (st' := [.int (iI (S 0 ((22 + (3 * k)) + 1))), .int (iI (S 0 (22 + (3 * k)))), .ref (α 4 0)]) rfl rfl (by rw [show K2 100 0 ((22 + (3 * k)) + 1) = S 0 ((22 + (3 * k)) + 1) from (MRep.ra hM2 0 rfl (by omega) (by first | omega | (show _ < (1160 : Int); omega)))]) ?_
                  refine y_lload hE 0 rfl dX4_addsFrozen_130 ?_
                  refine y_callV hE (m_X4_addsEntry S (frP S sh k.toNat) (S 0 (22 + (3 * k))) (S 0 ((22 + (3 * k)) + 1)) ((S 0 (22 + 3 * k + 2) * sh / 1000000) + xm) h40 hM2 (hR) (hfp.1.eok hW (by omega)) (by have := hfp.2; omega) (by omega) (by omega) (by omega)) (lw_V q3065 q3067 qs80 q133 q3068) (nA := 3) (by decide +kernel) rfl ⟨Nat.le_of_ble_eq_true rfl, Nat.le_of_ble_eq_true rfl⟩ (hdd := rfl) (hcc := rfl) (hq := rfl) (hi := h40) (rest := []) rfl (by decide) dX4_addsFrozen_132 (bc' := 0) (bs' := 0) (Nat.le_refl _) (Nat.le_refl _) (fun r_132 n_132 α_132 K_132 hx_132 hp_132 => ?_)
                  obtain ⟨rfl, rfl, hM_132, hk_132, hr_132⟩ := hp_132
                  refine y_to (st' := []) rfl rfl rfl ?_
                  refine y_iinc hE 1 rfl [(5, .int (iI (k + 1))), (6, .long (iL ((S 0 (22 + 3 * k + 2) * sh / 1000000) + xm))), (3, .long (iL ms)), (0, .ref (α 4 0)), (1, .long (iL sh))] (by decide) rfl dX4_addsFrozen_135 ?_
                  refine y_goto hE 50 (by decide) dX4_addsFrozen_138 ?_
                  refine y_lv [0, 2, 3, 4] [(5, .int (iI (k + 1))), (3, .long (iL ms)), (0, .ref (α 4 0)), (1, .long (iL sh))] rfl ?_
                  exact ih50 K_132 (k + 1) (hM_132) ((hk2.tr hk_132)) (by omega) (by rw [hfs]; first | (rw [if_neg (by omega)]; exact hR) | (rw [if_pos (by omega), ← hwz]; exact hr_132.1)) (by first | exact h25 | exact hr_132.2.trans h25) (by omega)
              refine y_iload hE 0 rfl dX4_addsFrozen_83 ?_
              refine y_if_ne hE 92 (by decide) (by omega) dX4_addsFrozen_85 (fun c_85 => ?_) (fun c_85 => ?_)
              · refine y_lconst hE 0 (by decide) dX4_addsFrozen_92 ?_
                exact J93 0 (by first | (rw [if_pos (by omega)]; exact hms0) | rw [if_neg (by omega)])
              · refine y_lload_n hE rfl 1 rfl dX4_addsFrozen_88 ?_
                refine y_goto hE 93 (by decide) dX4_addsFrozen_89 ?_
                exact J93 ms (by first | (rw [if_pos (by omega)]; exact hms0) | rw [if_neg (by omega)])
        exact L50 _ K 0 (hM) (KO.rf) (by omega) (hP) (rfl) (Nat.lt_succ_self _)
      · have hfl := fr_fl hF hsh (k := k) (by omega)
        have hfe := hF.1 k (by omega) (by omega)
        refine y_lload_n hE rfl 1 rfl dX4_addsFrozen_17 ?_
        refine y_aload_n hE rfl 2 rfl dX4_addsFrozen_18 ?_
        refine gX4_7r (z := 0) hE h40 (MObj.r hM.1 0 (by decide)) (by omega) dX4_addsFrozen_19 (fun hl_19 => ?_)
        refine y_bipush hE (by decide) dX4_addsFrozen_22 ?_
        refine y_iconst hE dX4_addsFrozen_24 ?_
        refine y_iload hE 0 rfl dX4_addsFrozen_25 ?_
        refine y_imul hE dX4_addsFrozen_27 ?_
        refine y_iadd hE dX4_addsFrozen_28 ?_
        refine y_iconst hE dX4_addsFrozen_29 ?_
        refine y_iadd hE dX4_addsFrozen_30 ?_
        refine y_iald hE rfl hl_19 (by have hL : K 100 0 (-1) = 1160 := (MObj.l hM.1 0 (by decide)); omega) dX4_addsFrozen_31 ?_
        refine y_to (st' := [.int (iI (S 0 ((22 + (3 * k)) + 2))), .long (iL ms)]) rfl rfl (by rw [show K 100 0 ((22 + (3 * k)) + 2) = S 0 ((22 + (3 * k)) + 2) from (MRep.ra hM 0 rfl (by omega) (by first | omega | (show _ < (1160 : Int); omega)))]) ?_
        refine y_i2l hE (by omega) dX4_addsFrozen_32 ?_
        refine y_lload_n hE rfl 3 rfl dX4_addsFrozen_33 ?_
        refine y_lmul hE dX4_addsFrozen_34 ?_
        refine y_ldc2 hE 1000000 (v := 1000000) (by decide) q3052 dX4_addsFrozen_35 ?_
        refine y_ldiv hE (by omega) (by omega) dX4_addsFrozen_38 ?_
        refine y_lsub hE dX4_addsFrozen_39 ?_
        refine y_lstore_n hE rfl [(3, .long (iL (ms - (((S 0 ((22 + (3 * k)) + 2)) * sh) / 1000000)))), (5, .int (iI k)), (0, .ref (α 4 0)), (1, .long (iL sh))] (by decide) rfl dX4_addsFrozen_40 ?_
        refine y_iinc hE 1 rfl [(5, .int (iI (k + 1))), (3, .long (iL (ms - (((S 0 ((22 + (3 * k)) + 2)) * sh) / 1000000)))), (0, .ref (α 4 0)), (1, .long (iL sh))] (by decide) rfl dX4_addsFrozen_41 ?_
        refine y_goto hE 5 (by decide) dX4_addsFrozen_44 ?_
        exact ih5 (k + 1) (ms - (((S 0 ((22 + (3 * k)) + 2)) * sh) / 1000000)) (by omega) (by rw [frM_s (by omega), ← hms]) (by omega)
  exact L5 _ 0 sh (by omega) (rfl) (Nat.lt_succ_self _)
