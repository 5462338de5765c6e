set_option linter.unusedVariables false
set_option maxHeartbeats 4000000 in
set_option maxRecDepth 100000 in
theorem m_X9_blend {w : KW} {n : KN} {α : KA} {K : KS} (S : SS) (D : Int → Int) (i b wg : Int) (hR : Rst S n K) (h9i : 0 ≤ i ∧ i < n 8) (hW : WFs S) (hv0 : WFv S) (hDk : DOk S D) (hnd : NdOk S i) (hb : 0 ≤ b ∧ b < 3) (hl3 : 0 ≤ b ∧ b < n 3) (hwg : 0 ≤ wg ∧ wg ≤ 1000000) (htag : K 8 i 9 = 0) : KM w yX9_blend cX9_blend 3 none { frames := 1, cells := 0, slots := 0, locals := 22 } (3, 0) [.ref (α 8 i), .ref (α 3 b), .int (iI wg)] n α K (fun r n' α' K' => n = n' ∧ α = α' ∧ KF K K' (fun k i f => k = 34 ∧ i = (b) ∧ 0 ≤ f) ∧ (∀ c : Int, 0 ≤ c → c < 12 → K' 34 b c = K 34 b c + wt S 4 i wg c)) := by
  refine y_start (by decide) (Nat.le_of_ble_eq_true rfl) (fun x hE hQ => ?_)
  have hw := hQ.2
  subst hw
  have hE : YE x cX9_blend RX9 none "blend" 3 { frames := 1, cells := 0, slots := 0, locals := 22 } := hE
  refine y_wk (fun hWK => ?_)
  have hn0 := hWK.1
  refine y_bud (bc' := 0) (bs' := 0) (Nat.le_refl _) (Nat.le_refl _) ?_
  refine y_to (lv' := [(0, .ref (α 8 i)), (1, .ref (α 3 b)), (2, .int (iI wg))]) (st' := []) rfl rfl rfl ?_
  have hfoot : ∀ (k : Nat) (i f : Int), (fun k i f => k = 34 ∧ i = (b) ∧ 0 ≤ f) k i f → ¬ SKd k f := fun k i f z => by unfold SKd; (try dsimp only at z); omega
  have wn := hW.nod i hnd.1 hnd.2.1
  have wcl := hW.clips
  have wpar := hW.par
  have n8 := hR.n8
  have n5 := hR.n5
  have n6 := hR.n6
  have h9 : S 9 i ≠ -1 := fun e => hR.l9 ⟨hnd.1, hnd.2.1⟩ e htag
  obtain ⟨-, hcl⟩ := hR.cn ⟨hnd.1, hnd.2.1⟩ h9
  refine y_aload_n hE rfl 1 rfl dX9_blend_0 ?_
  refine y_aload_n hE rfl 0 rfl dX9_blend_1 ?_
  refine gX9_7r (z := (S 9 i)) hE (by assumption) h9i hcl (by omega) dX9_blend_2 (fun hl_2 => ?_)
  refine gX9_13 (z := (S 9 i)) hE hl_2 (hR.c60 (i := (S 9 i)) (by omega)) dX9_blend_5 ?_
  refine y_iload_n hE rfl 2 rfl dX9_blend_8 ?_
  refine y_callV hE (m_X3_add S b (S 9 i) wg hR hb (by omega)) (lw_V q862 q863 q864 q129 q865) (nA := 2) (by decide +kernel) rfl ⟨Nat.le_of_ble_eq_true rfl, Nat.le_of_ble_eq_true rfl⟩ (hdd := rfl) (hcc := rfl) (hq := rfl) (hi := hl3) (rest := []) rfl (by decide) dX9_blend_9 (bc' := 0) (bs' := 0) (Nat.le_refl _) (Nat.le_refl _) (fun r_9 n_9 α_9 K_9 hx_9 hp_9 => ?_)
  obtain ⟨rfl, rfl, hk_9, hr_9⟩ := hp_9
  refine y_to (st' := []) rfl rfl rfl ?_
  exact y_vret (r := 0) hE rfl hQ dX9_blend_12 Ext.rf ⟨rfl, rfl, (KF.mono hk_9 (fun k i f z => by (try dsimp only at z ⊢); omega)), fun c c0 c1 => by rw [W_clip c hwg.1 h9]; by_cases e : c = S 9 i; (rw [if_pos e, e]; exact hr_9.1); (rw [if_neg e, hr_9.2 c e, Int.add_zero])⟩
theorem bm_vac {P : Prop} {S : SS} {D : Int → Int} {i : Int} {n : KN} {K : KS} (hR : Rst S n K) (hW : WFs S) (hDk : DOk S D) (hnd : NdOk S i) (htag : K 8 i 9 ≠ 0) (hdl : D i ≤ 1) : P := by
  have h9 : S 9 i = -1 := by
    by_cases e : S 9 i = -1
    · exact e
    · exact absurd (hR.cn ⟨hnd.1, hnd.2.1⟩ e).1 htag
  have h11 : 0 < S 11 i := by rcases hnd.2.2 with h | h; exact absurd h9 h; exact h
  have g := chi_at hW hDk hnd (z := 5 * i) (by omega)
  have := (hDk _ g.1.1 g.1.2.1).1
  omega
theorem m_X10_blend_1 {w : KW} {n : KN} {α : KA} {K : KS} (S : SS) (D : Int → Int) (i b wg : Int) (hR : Rst S n K) (h9i : 0 ≤ i ∧ i < n 8) (hW : WFs S) (hv0 : WFv S) (hDk : DOk S D) (hnd : NdOk S i) (hb : 0 ≤ b ∧ b < 3) (hl3 : 0 ≤ b ∧ b < n 3) (hwg : 0 ≤ wg ∧ wg ≤ 1000000) (hdl : D i ≤ 1) (htag : K 8 i 9 ≠ 0) : KM w yX10_blend cX10_blend 7 none { frames := 2, cells := 0, slots := 0, locals := 60 } (3, 0) [.ref (α 8 i), .ref (α 3 b), .int (iI wg)] n α K (fun r n' α' K' => n = n' ∧ α = α' ∧ KF K K' (fun k i f => k = 34 ∧ i = b ∧ 0 ≤ f) ∧ (∀ c : Int, 0 ≤ c → c < 12 → K' 34 b c = K 34 b c + wt S 4 i wg c)) := bm_vac hR hW hDk hnd htag hdl
set_option maxHeartbeats 4000000 in
set_option maxRecDepth 100000 in
theorem m_X10_blend_2 {w : KW} {n : KN} {α : KA} {K : KS} (S : SS) (D : Int → Int) (i b wg : Int) (hR : Rst S n K) (h9i : 0 ≤ i ∧ i < n 8) (hW : WFs S) (hv0 : WFv S) (hDk : DOk S D) (hnd : NdOk S i) (hb : 0 ≤ b ∧ b < 3) (hl3 : 0 ≤ b ∧ b < n 3) (hwg : 0 ≤ wg ∧ wg ≤ 1000000) (hdl : D i ≤ 2) (htag : K 8 i 9 ≠ 0) : KM w yX10_blend cX10_blend 7 none { frames := 3, cells := 0, slots := 0, locals := 86 } (3, 0) [.ref (α 8 i), .ref (α 3 b), .int (iI wg)] n α K (fun r n' α' K' => n = n' ∧ α = α' ∧ KF K K' (fun k i f => k = 34 ∧ i = (b) ∧ 0 ≤ f) ∧ (∀ c : Int, 0 ≤ c → c < 12 → K' 34 b c = K 34 b c + wt S 4 i wg c)) := by
  refine y_start (by decide) (Nat.le_of_ble_eq_true rfl) (fun x hE hQ => ?_)
  have hw := hQ.2
  subst hw
  have hE : YE x cX10_blend RX10 none "blend" 7 { frames := 3, cells := 0, slots := 0, locals := 86 } := hE
  refine y_wk (fun hWK => ?_)
  have hn0 := hWK.1
  refine y_bud (bc' := 0) (bs' := 0) (Nat.le_refl _) (Nat.le_refl _) ?_
  refine y_to (lv' := [(0, .ref (α 8 i)), (1, .ref (α 3 b)), (2, .int (iI wg))]) (st' := []) rfl rfl rfl ?_
  have hfoot : ∀ (k : Nat) (i f : Int), (fun k i f => k = 34 ∧ i = (b) ∧ 0 ≤ f) k i f → ¬ SKd k f := fun k i f z => by unfold SKd; (try dsimp only at z); omega
  have wn := hW.nod i hnd.1 hnd.2.1
  have wcl := hW.clips
  have wpar := hW.par
  have n8 := hR.n8
  have n5 := hR.n5
  have n6 := hR.n6
  have h9 : S 9 i = -1 := by by_cases e : S 9 i = -1; exact e; exact absurd (hR.cn ⟨hnd.1, hnd.2.1⟩ e).1 htag
  have h11 : 0 < S 11 i := by rcases hnd.2.2 with h | h; exact absurd h9 h; exact h
  obtain ⟨A, hA⟩ : ∃ A, A = K 8 i 1 := ⟨_, rfl⟩
  have hI : 0 ≤ i ∧ i < S 14 0 := ⟨hnd.1, hnd.2.1⟩
  have hA0 : 0 ≤ A := by rw [hA]; exact hR.l1 hI h9
  have hA2 : K 8 i 2 = A := by rw [hA]; exact hR.l2 hI h9
  have hA5 : K 41 A (-1) = 5 := by rw [hA]; exact hR.l41 hI h9
  have hA6 : K 42 A (-1) = 5 := by rw [hA]; exact hR.l42 hI h9
  have hO : LnO S i (K 41 A) (K 42 A) := by rw [hA]; exact ⟨hR.ord hI h9, hR.of hI h9, hR.to hI h9⟩
  have hp0 : K 8 i 0 = S 10 i := hR.l0 hI h9
  have hm3 : K 8 i 3 = S 11 i := hR.l3 hI h9
  have hvr : -100 ≤ lnV S i ∧ lnV S i ≤ 100 := hv0 (S 10 i) (by omega) (by omega)
  refine y_aload_n hE rfl 0 rfl dX10_blend_0 ?_
  refine gX10_19r (z := (S 10 i)) hE (by assumption) h9i hp0 (by omega) dX10_blend_1 (fun hl_1 => ?_)
  refine gX10_37 (z := (lnV S i)) hE hl_1 (hR.p1 (i := S 10 i) (by omega)) dX10_blend_4 ?_
  refine y_istore_n hE rfl [(3, .int (iI (lnV S i))), (0, .ref (α 8 i)), (1, .ref (α 3 b)), (2, .int (iI wg))] (by decide) rfl dX10_blend_7 ?_
  refine y_iconst hE dX10_blend_8 ?_
  refine y_istore hE [(4, .int (iI 0)), (3, .int (iI (lnV S i))), (0, .ref (α 8 i)), (1, .ref (α 3 b)), (2, .int (iI wg))] (by decide) rfl dX10_blend_9 ?_
  have L11 : ∀ (fuel : Nat) (a : Int), (0 ≤ a ∧ a ≤ S 11 i - 1) → (∀ k : Int, 0 ≤ k → k < a → K 41 A k < lnV S i) → (S 11 i - a).toNat < fuel → Y x n α K 0 0 11 [(4, .int (iI a)), (3, .int (iI (lnV S i))), (0, .ref (α 8 i)), (1, .ref (α 3 b)), (2, .int (iI wg))] [] := by
    intro fuel11
    induction fuel11 with
    | zero => intro a ha hlo hfu11; exact absurd hfu11 (Nat.not_lt_zero _)
    | succ fuel11 ih11 =>
      intro a ha hlo hfu11
      have J39 : (a = S 11 i - 1 ∨ lnV S i ≤ K 41 A a) → Y x n α K 0 0 39 [(4, .int (iI a)), (3, .int (iI (lnV S i))), (0, .ref (α 8 i)), (1, .ref (α 3 b)), (2, .int (iI wg))] [] := by
        intro hex
        have J55 : (a = 0 ∨ K 41 A a ≤ lnV S i) → Y x n α K 0 0 55 [(4, .int (iI a)), (3, .int (iI (lnV S i))), (0, .ref (α 8 i)), (1, .ref (α 3 b)), (2, .int (iI wg))] [] := by
          intro hex2
          obtain ⟨qa, qa0, qa1, qap, qac⟩ := hO.2.1 a (by omega) (by omega)
          have ga := chi_at hW hDk hnd (z := 5 * i + qa) (by omega)
          rw [← qac, ← qap] at ga
          have gan := ga.1.1
          have gam := ga.1.2.1
          obtain ⟨h1a, h1c⟩ := hO.one hW hI (a := a) (by omega) (fun z => hlo (a - 1) (by omega) (by omega)) hex hex2
          have gd := ga.2.1
          have gk := ga.1
          refine y_aload_n hE rfl 2 rfl dX10_blend_55 ?_
          refine gX10_15r (z := A) hE (by assumption) h9i hA2 (by omega) dX10_blend_56 (fun hl_56 => ?_)
          refine y_iload hE 0 rfl dX10_blend_59 ?_
          refine y_aald hE rfl rfl hl_56 (by have hL : K 42 A (-1) = 5 := hA6; omega) (by omega) dX10_blend_61 (fun hl_61 => ?_)
          have hl_61 : (0 : Int) ≤ K 42 A a ∧ K 42 A a < n 8 := ⟨by omega, hl_61⟩
          refine y_aload_n hE rfl 3 rfl dX10_blend_62 ?_
          refine y_iload_n hE rfl 4 rfl dX10_blend_63 ?_
          refine y_node_blend hE hl_61 (fun h8 => (fun S D i b wg hR h9i hW hv0 hDk hnd hb hl3 hwg _ h8 => m_X9_blend S D i b wg hR h9i hW hv0 hDk hnd hb hl3 hwg h8) S D (K 42 A a) b wg hR hl_61 (by assumption) (by assumption) (by assumption) (ga.1) (by omega) hl3 (by omega) (by omega) h8) (fun h8 => m_X10_blend_1 S D (K 42 A a) b wg hR hl_61 (by assumption) (by assumption) (by assumption) (ga.1) (by omega) hl3 (by omega) (by omega) h8) q869 rfl ⟨Nat.le_of_ble_eq_true rfl, Nat.le_of_ble_eq_true rfl⟩ ⟨Nat.le_of_ble_eq_true rfl, Nat.le_of_ble_eq_true rfl⟩ (rest := []) rfl (by decide) dX10_blend_64 (fun r_64 n_64 α_64 K_64 hx_64 hp_64 => ?_)
          obtain ⟨rfl, rfl, hk_64, hr_64⟩ := hp_64
          refine y_to (st' := []) rfl rfl rfl ?_
          exact y_vret (r := 0) hE rfl hQ dX10_blend_67 Ext.rf ⟨rfl, rfl, (KF.mono hk_64 (fun k i f z => by (try dsimp only at z ⊢); omega)), fun c c0 c1 => by rw [W_1 hW hDk c hnd hwg.1 h9 h1a, h1c]; exact hr_64 c c0 c1⟩
        refine y_iload hE 0 rfl dX10_blend_39 ?_
        refine y_if_eq hE 55 (by decide) (by omega) dX10_blend_41 (fun c_41 => ?_) (fun c_41 => ?_)
        · exact J55  (by omega)
        · obtain ⟨qa, qa0, qa1, qap, qac⟩ := hO.2.1 a (by omega) (by omega)
          have ga := chi_at hW hDk hnd (z := 5 * i + qa) (by omega)
          rw [← qac, ← qap] at ga
          have gan := ga.1.1
          have gam := ga.1.2.1
          have J68 : (lnV S i < K 41 A a) → (a ≠ 0) → Y x n α K 0 0 68 [(4, .int (iI a)), (3, .int (iI (lnV S i))), (0, .ref (α 8 i)), (1, .ref (α 3 b)), (2, .int (iI wg))] [] := by
            intro hgt ha0
            obtain ⟨qa, qa0, qa1, qap, qac⟩ := hO.2.1 a (by omega) (by omega)
            have ga := chi_at hW hDk hnd (z := 5 * i + qa) (by omega)
            rw [← qac, ← qap] at ga
            have gan := ga.1.1
            have gam := ga.1.2.1
            obtain ⟨z1, z2, z3, z4, z5⟩ := hO.two hW hI (a := a) (by omega) (hlo (a - 1) (by omega) (by omega)) hgt
            have hbr := bR_in hW hI h11 z1 hwg.1
            have ebr : wg * (lnV S i - K 41 A (a - 1)) / (K 41 A a - K 41 A (a - 1)) = bR S i wg := by unfold bR; rw [z2, z4]
            obtain ⟨qb, qb0, qb1, qbp, qbc⟩ := hO.2.1 (a - 1) (by omega) (by omega)
            have gb := chi_at hW hDk hnd (z := 5 * i + qb) (by omega)
            rw [← qbc, ← qbp] at gb
            have gbn := gb.1.1
            have gbm := gb.1.2.1
            have gad := ga.2.1
            have gbd := gb.2.1
            have hlo1 := hlo (a - 1) (by omega) (by omega)
            have hml0 : 0 ≤ wg * (lnV S i - K 41 A (a - 1)) := Int.mul_nonneg hwg.1 (by omega)
            have hml1 : wg * (lnV S i - K 41 A (a - 1)) ≤ 1000000 * 200 := Int.mul_le_mul hwg.2 (by omega) (by omega) (by omega)
            refine y_aload_n hE rfl 2 rfl dX10_blend_68 ?_
            refine gX10_9r (z := A) hE (by assumption) h9i hA.symm (by omega) dX10_blend_69 (fun hl_69 => ?_)
            refine y_iload hE 0 rfl dX10_blend_72 ?_
            refine y_iconst hE dX10_blend_74 ?_
            refine y_isub hE dX10_blend_75 ?_
            refine y_iald hE rfl hl_69 (by have hL : K 41 A (-1) = 5 := hA5; omega) dX10_blend_76 ?_
            refine y_istore hE [(5, .int (iI (K 41 A (a - 1)))), (4, .int (iI a)), (3, .int (iI (lnV S i))), (0, .ref (α 8 i)), (1, .ref (α 3 b)), (2, .int (iI wg))] (by decide) rfl dX10_blend_77 ?_
            refine y_iload_n hE rfl 5 rfl dX10_blend_79 ?_
            refine y_i2l hE (by omega) dX10_blend_80 ?_
            refine y_iload_n hE rfl 2 rfl dX10_blend_81 ?_
            refine y_iload hE 0 rfl dX10_blend_82 ?_
            refine y_isub hE dX10_blend_84 ?_
            refine y_i2l hE (by omega) dX10_blend_85 ?_
            refine y_aload_n hE rfl 3 rfl dX10_blend_86 ?_
            refine gX10_9r (z := A) hE (by assumption) h9i hA.symm (by omega) dX10_blend_87 (fun hl_87 => ?_)
            refine y_iload hE 1 rfl dX10_blend_90 ?_
            refine y_iald hE rfl hl_87 (by have hL : K 41 A (-1) = 5 := hA5; omega) dX10_blend_92 ?_
            refine y_iload hE 0 rfl dX10_blend_93 ?_
            refine y_isub hE dX10_blend_95 ?_
            refine y_i2l hE (by omega) dX10_blend_96 ?_
            refine y_callSN hE (m_X1_share wg ((lnV S i) - (K 41 A (a - 1))) ((K 41 A a) - (K 41 A (a - 1))) (by omega) (by omega)) q870 q826 q108 q827 (nA := 3) (by decide +kernel) rfl ⟨Nat.le_of_ble_eq_true rfl, Nat.le_of_ble_eq_true rfl⟩ (rest := []) rfl (by decide) dX10_blend_97 (bc' := 0) (bs' := 0) (Nat.le_refl _) (Nat.le_refl _) (fun r_97 n_97 α_97 K_97 hx_97 hp_97 => ?_)
            obtain ⟨rfl, rfl, rfl, hr_97⟩ := hp_97
            have e_97 : (bR S i wg) = r_97 := Eq.symm (by rw [hr_97]; exact ebr)
            subst e_97
            refine y_to (st' := [.int (iI (bR S i wg))]) rfl rfl rfl ?_
            refine y_istore hE [(6, .int (iI (bR S i wg))), (5, .int (iI (K 41 A (a - 1)))), (4, .int (iI a)), (3, .int (iI (lnV S i))), (0, .ref (α 8 i)), (1, .ref (α 3 b)), (2, .int (iI wg))] (by decide) rfl dX10_blend_100 ?_
            refine y_aload_n hE rfl 4 rfl dX10_blend_102 ?_
            refine gX10_15r (z := A) hE (by assumption) h9i hA2 (by omega) dX10_blend_103 (fun hl_103 => ?_)
            refine y_iload hE 2 rfl dX10_blend_106 ?_
            refine y_aald hE rfl rfl hl_103 (by have hL : K 42 A (-1) = 5 := hA6; omega) (by omega) dX10_blend_108 (fun hl_108 => ?_)
            have hl_108 : (0 : Int) ≤ K 42 A a ∧ K 42 A a < n 8 := ⟨by omega, hl_108⟩
            refine y_aload_n hE rfl 5 rfl dX10_blend_109 ?_
            refine y_iload hE 0 rfl dX10_blend_110 ?_
            refine y_node_blend hE hl_108 (fun h8 => (fun S D i b wg hR h9i hW hv0 hDk hnd hb hl3 hwg _ h8 => m_X9_blend S D i b wg hR h9i hW hv0 hDk hnd hb hl3 hwg h8) S D (K 42 A a) b (bR S i wg) hR hl_108 (by assumption) (by assumption) (by assumption) (ga.1) (by omega) hl3 (by omega) (by omega) h8) (fun h8 => m_X10_blend_1 S D (K 42 A a) b (bR S i wg) hR hl_108 (by assumption) (by assumption) (by assumption) (ga.1) (by omega) hl3 (by omega) (by omega) h8) q869 rfl ⟨Nat.le_of_ble_eq_true rfl, Nat.le_of_ble_eq_true rfl⟩ ⟨Nat.le_of_ble_eq_true rfl, Nat.le_of_ble_eq_true rfl⟩ (rest := []) rfl (by decide) dX10_blend_112 (fun r_112 n_112 α_112 K_112 hx_112 hp_112 => ?_)
            obtain ⟨rfl, rfl, hk_112, hr_112⟩ := hp_112
            refine y_to (st' := []) rfl rfl rfl ?_
            refine y_aload_n hE rfl 4 rfl dX10_blend_115 ?_
            refine gX10_15r (z := A) hE (by rw [show K_112 8 i 9 = K 8 i 9 from ((hk_112 8 i 9 (by (try dsimp only); omega)).trans rfl)]; assumption) h9i ((hk_112 8 i 2 (by (try dsimp only); omega)).trans hA2) (by omega) dX10_blend_116 (fun hl_116 => ?_)
            refine y_iload hE 2 rfl dX10_blend_119 ?_
            refine y_iconst hE dX10_blend_121 ?_
            refine y_isub hE dX10_blend_122 ?_
            refine y_aald hE rfl rfl hl_116 (by have hL : K_112 42 A (-1) = 5 := ((hk_112 42 A (-1) (by (try dsimp only); omega)).trans hA6); omega) (by rw [show K_112 42 A (a - 1) = K 42 A (a - 1) from ((hk_112 42 A (a - 1) (by (try dsimp only); omega)).trans rfl)]; omega) dX10_blend_123 (fun hl_123 => ?_)
            rw [show K_112 42 A (a - 1) = K 42 A (a - 1) from ((hk_112 42 A (a - 1) (by (try dsimp only); omega)).trans rfl)] at hl_123 ⊢
            have hl_123 : (0 : Int) ≤ K 42 A (a - 1) ∧ K 42 A (a - 1) < n 8 := ⟨by omega, hl_123⟩
            refine y_aload_n hE rfl 5 rfl dX10_blend_124 ?_
            refine y_iload_n hE rfl 6 rfl dX10_blend_125 ?_
            refine y_iload hE 0 rfl dX10_blend_126 ?_
            refine y_isub hE dX10_blend_128 ?_
            refine y_node_blend hE hl_123 (fun h8 => (fun S D i b wg hR h9i hW hv0 hDk hnd hb hl3 hwg _ h8 => m_X9_blend S D i b wg hR h9i hW hv0 hDk hnd hb hl3 hwg h8) S D (K 42 A (a - 1)) b (wg - (bR S i wg)) (hR.kf (P := fun k i f => k = 34 ∧ i = (b) ∧ 0 ≤ f) (KF.mono hk_112 (fun k i f z => by (try dsimp only at z ⊢); omega)) hfoot) hl_123 (by assumption) (by assumption) (by assumption) (gb.1) (by omega) hl3 (by omega) (by omega) h8) (fun h8 => m_X10_blend_1 S D (K 42 A (a - 1)) b (wg - (bR S i wg)) (hR.kf (P := fun k i f => k = 34 ∧ i = (b) ∧ 0 ≤ f) (KF.mono hk_112 (fun k i f z => by (try dsimp only at z ⊢); omega)) hfoot) hl_123 (by assumption) (by assumption) (by assumption) (gb.1) (by omega) hl3 (by omega) (by omega) h8) q869 rfl ⟨Nat.le_of_ble_eq_true rfl, Nat.le_of_ble_eq_true rfl⟩ ⟨Nat.le_of_ble_eq_true rfl, Nat.le_of_ble_eq_true rfl⟩ (rest := []) rfl (by decide) dX10_blend_129 (fun r_129 n_129 α_129 K_129 hx_129 hp_129 => ?_)
            obtain ⟨rfl, rfl, hk_129, hr_129⟩ := hp_129
            refine y_to (st' := []) rfl rfl rfl ?_
            exact y_vret (r := 0) hE rfl hQ dX10_blend_132 Ext.rf ⟨rfl, rfl, ((KF.mono hk_112 (fun k i f z => by (try dsimp only at z ⊢); omega)).tr (KF.mono hk_129 (fun k i f z => by (try dsimp only at z ⊢); omega))), fun c c0 c1 => by rw [W_2 hW hDk c hnd hwg.1 h9 z1, z3, z5, hr_129 c c0 c1, hr_112 c c0 c1]; omega⟩
          refine y_aload_n hE rfl 2 rfl dX10_blend_44 ?_
          refine gX10_9r (z := A) hE (by assumption) h9i hA.symm (by omega) dX10_blend_45 (fun hl_45 => ?_)
          refine y_iload hE 0 rfl dX10_blend_48 ?_
          refine y_iald hE rfl hl_45 (by have hL : K 41 A (-1) = 5 := hA5; omega) dX10_blend_50 ?_
          refine y_iload_n hE rfl 1 rfl dX10_blend_51 ?_
          refine y_icmp_gt hE 68 (by decide) (by omega) (by omega) dX10_blend_52 (fun c_52 => ?_) (fun c_52 => ?_)
          · exact J68  (by omega) (by omega)
          · exact J55  (by omega)
      refine y_iload hE 0 rfl dX10_blend_11 ?_
      refine y_aload_n hE rfl 2 rfl dX10_blend_13 ?_
      refine gX10_23 (z := (S 11 i)) hE (by assumption) h9i hm3 dX10_blend_14 ?_
      refine y_iconst hE dX10_blend_17 ?_
      refine y_isub hE dX10_blend_18 ?_
      refine y_icmp_ge hE 39 (by decide) (by omega) (by omega) dX10_blend_19 (fun c_19 => ?_) (fun c_19 => ?_)
      · exact J39  (by omega)
      · obtain ⟨qa, qa0, qa1, qap, qac⟩ := hO.2.1 a (by omega) (by omega)
        have ga := chi_at hW hDk hnd (z := 5 * i + qa) (by omega)
        rw [← qac, ← qap] at ga
        have gan := ga.1.1
        have gam := ga.1.2.1
        refine y_aload_n hE rfl 2 rfl dX10_blend_22 ?_
        refine gX10_9r (z := A) hE (by assumption) h9i hA.symm (by omega) dX10_blend_23 (fun hl_23 => ?_)
        refine y_iload hE 0 rfl dX10_blend_26 ?_
        refine y_iald hE rfl hl_23 (by have hL : K 41 A (-1) = 5 := hA5; omega) dX10_blend_28 ?_
        refine y_iload_n hE rfl 1 rfl dX10_blend_29 ?_
        refine y_icmp_ge hE 39 (by decide) (by omega) (by omega) dX10_blend_30 (fun c_30 => ?_) (fun c_30 => ?_)
        · exact J39  (by omega)
        · refine y_iinc hE 0 rfl [(4, .int (iI (a + 1))), (3, .int (iI (lnV S i))), (0, .ref (α 8 i)), (1, .ref (α 3 b)), (2, .int (iI wg))] (by decide) rfl dX10_blend_33 ?_
          refine y_goto hE 11 (by decide) dX10_blend_36 ?_
          exact ih11 (a + 1) (by omega) (fun k k0 k1 => by by_cases e : k = a; (subst e; omega); exact hlo k k0 (by omega)) (by omega)
  exact L11 _ 0 (by omega) (fun k k0 k1 => by omega) (Nat.lt_succ_self _)
set_option maxHeartbeats 4000000 in
set_option maxRecDepth 100000 in
theorem m_X10_blend_3 {w : KW} {n : KN} {α : KA} {K : KS} (S : SS) (D : Int → Int) (i b wg : Int) (hR : Rst S n K) (h9i : 0 ≤ i ∧ i < n 8) (hW : WFs S) (hv0 : WFv S) (hDk : DOk S D) (hnd : NdOk S i) (hb : 0 ≤ b ∧ b < 3) (hl3 : 0 ≤ b ∧ b < n 3) (hwg : 0 ≤ wg ∧ wg ≤ 1000000) (hdl : D i ≤ 3) (htag : K 8 i 9 ≠ 0) : KM w yX10_blend cX10_blend 7 none { frames := 4, cells := 0, slots := 0, locals := 112 } (3, 0) [.ref (α 8 i), .ref (α 3 b), .int (iI wg)] n α K (fun r n' α' K' => n = n' ∧ α = α' ∧ KF K K' (fun k i f => k = 34 ∧ i = (b) ∧ 0 ≤ f) ∧ (∀ c : Int, 0 ≤ c → c < 12 → K' 34 b c = K 34 b c + wt S 4 i wg c)) := by
  refine y_start (by decide) (Nat.le_of_ble_eq_true rfl) (fun x hE hQ => ?_)
  have hw := hQ.2
  subst hw
  have hE : YE x cX10_blend RX10 none "blend" 7 { frames := 4, cells := 0, slots := 0, locals := 112 } := hE
  refine y_wk (fun hWK => ?_)
  have hn0 := hWK.1
  refine y_bud (bc' := 0) (bs' := 0) (Nat.le_refl _) (Nat.le_refl _) ?_
  refine y_to (lv' := [(0, .ref (α 8 i)), (1, .ref (α 3 b)), (2, .int (iI wg))]) (st' := []) rfl rfl rfl ?_
  have hfoot : ∀ (k : Nat) (i f : Int), (fun k i f => k = 34 ∧ i = (b) ∧ 0 ≤ f) k i f → ¬ SKd k f := fun k i f z => by unfold SKd; (try dsimp only at z); omega
  have wn := hW.nod i hnd.1 hnd.2.1
  have wcl := hW.clips
  have wpar := hW.par
  have n8 := hR.n8
  have n5 := hR.n5
  have n6 := hR.n6
  have h9 : S 9 i = -1 := by by_cases e : S 9 i = -1; exact e; exact absurd (hR.cn ⟨hnd.1, hnd.2.1⟩ e).1 htag
  have h11 : 0 < S 11 i := by rcases hnd.2.2 with h | h; exact absurd h9 h; exact h
  obtain ⟨A, hA⟩ : ∃ A, A = K 8 i 1 := ⟨_, rfl⟩
  have hI : 0 ≤ i ∧ i < S 14 0 := ⟨hnd.1, hnd.2.1⟩
  have hA0 : 0 ≤ A := by rw [hA]; exact hR.l1 hI h9
  have hA2 : K 8 i 2 = A := by rw [hA]; exact hR.l2 hI h9
  have hA5 : K 41 A (-1) = 5 := by rw [hA]; exact hR.l41 hI h9
  have hA6 : K 42 A (-1) = 5 := by rw [hA]; exact hR.l42 hI h9
  have hO : LnO S i (K 41 A) (K 42 A) := by rw [hA]; exact ⟨hR.ord hI h9, hR.of hI h9, hR.to hI h9⟩
  have hp0 : K 8 i 0 = S 10 i := hR.l0 hI h9
  have hm3 : K 8 i 3 = S 11 i := hR.l3 hI h9
  have hvr : -100 ≤ lnV S i ∧ lnV S i ≤ 100 := hv0 (S 10 i) (by omega) (by omega)
  refine y_aload_n hE rfl 0 rfl dX10_blend_0 ?_
  refine gX10_19r (z := (S 10 i)) hE (by assumption) h9i hp0 (by omega) dX10_blend_1 (fun hl_1 => ?_)
  refine gX10_37 (z := (lnV S i)) hE hl_1 (hR.p1 (i := S 10 i) (by omega)) dX10_blend_4 ?_
  refine y_istore_n hE rfl [(3, .int (iI (lnV S i))), (0, .ref (α 8 i)), (1, .ref (α 3 b)), (2, .int (iI wg))] (by decide) rfl dX10_blend_7 ?_
  refine y_iconst hE dX10_blend_8 ?_
  refine y_istore hE [(4, .int (iI 0)), (3, .int (iI (lnV S i))), (0, .ref (α 8 i)), (1, .ref (α 3 b)), (2, .int (iI wg))] (by decide) rfl dX10_blend_9 ?_
  have L11 : ∀ (fuel : Nat) (a : Int), (0 ≤ a ∧ a ≤ S 11 i - 1) → (∀ k : Int, 0 ≤ k → k < a → K 41 A k < lnV S i) → (S 11 i - a).toNat < fuel → Y x n α K 0 0 11 [(4, .int (iI a)), (3, .int (iI (lnV S i))), (0, .ref (α 8 i)), (1, .ref (α 3 b)), (2, .int (iI wg))] [] := by
    intro fuel11
    induction fuel11 with
    | zero => intro a ha hlo hfu11; exact absurd hfu11 (Nat.not_lt_zero _)
    | succ fuel11 ih11 =>
      intro a ha hlo hfu11
      have J39 : (a = S 11 i - 1 ∨ lnV S i ≤ K 41 A a) → Y x n α K 0 0 39 [(4, .int (iI a)), (3, .int (iI (lnV S i))), (0, .ref (α 8 i)), (1, .ref (α 3 b)), (2, .int (iI wg))] [] := by
        intro hex
        have J55 : (a = 0 ∨ K 41 A a ≤ lnV S i) → Y x n α K 0 0 55 [(4, .int (iI a)), (3, .int (iI (lnV S i))), (0, .ref (α 8 i)), (1, .ref (α 3 b)), (2, .int (iI wg))] [] := by
          intro hex2
          obtain ⟨qa, qa0, qa1, qap, qac⟩ := hO.2.1 a (by omega) (by omega)
          have ga := chi_at hW hDk hnd (z := 5 * i + qa) (by omega)
          rw [← qac, ← qap] at ga
          have gan := ga.1.1
          have gam := ga.1.2.1
          obtain ⟨h1a, h1c⟩ := hO.one hW hI (a := a) (by omega) (fun z => hlo (a - 1) (by omega) (by omega)) hex hex2
          have gd := ga.2.1
          have gk := ga.1
          refine y_aload_n hE rfl 2 rfl dX10_blend_55 ?_
          refine gX10_15r (z := A) hE (by assumption) h9i hA2 (by omega) dX10_blend_56 (fun hl_56 => ?_)
          refine y_iload hE 0 rfl dX10_blend_59 ?_
          refine y_aald hE rfl rfl hl_56 (by have hL : K 42 A (-1) = 5 := hA6; omega) (by omega) dX10_blend_61 (fun hl_61 => ?_)
          have hl_61 : (0 : Int) ≤ K 42 A a ∧ K 42 A a < n 8 := ⟨by omega, hl_61⟩
          refine y_aload_n hE rfl 3 rfl dX10_blend_62 ?_
          refine y_iload_n hE rfl 4 rfl dX10_blend_63 ?_
          refine y_node_blend hE hl_61 (fun h8 => (fun S D i b wg hR h9i hW hv0 hDk hnd hb hl3 hwg _ h8 => m_X9_blend S D i b wg hR h9i hW hv0 hDk hnd hb hl3 hwg h8) S D (K 42 A a) b wg hR hl_61 (by assumption) (by assumption) (by assumption) (ga.1) (by omega) hl3 (by omega) (by omega) h8) (fun h8 => m_X10_blend_2 S D (K 42 A a) b wg hR hl_61 (by assumption) (by assumption) (by assumption) (ga.1) (by omega) hl3 (by omega) (by omega) h8) q869 rfl ⟨Nat.le_of_ble_eq_true rfl, Nat.le_of_ble_eq_true rfl⟩ ⟨Nat.le_of_ble_eq_true rfl, Nat.le_of_ble_eq_true rfl⟩ (rest := []) rfl (by decide) dX10_blend_64 (fun r_64 n_64 α_64 K_64 hx_64 hp_64 => ?_)
          obtain ⟨rfl, rfl, hk_64, hr_64⟩ := hp_64
          refine y_to (st' := []) rfl rfl rfl ?_
          exact y_vret (r := 0) hE rfl hQ dX10_blend_67 Ext.rf ⟨rfl, rfl, (KF.mono hk_64 (fun k i f z => by (try dsimp only at z ⊢); omega)), fun c c0 c1 => by rw [W_1 hW hDk c hnd hwg.1 h9 h1a, h1c]; exact hr_64 c c0 c1⟩
        refine y_iload hE 0 rfl dX10_blend_39 ?_
        refine y_if_eq hE 55 (by decide) (by omega) dX10_blend_41 (fun c_41 => ?_) (fun c_41 => ?_)
        · exact J55  (by omega)
        · obtain ⟨qa, qa0, qa1, qap, qac⟩ := hO.2.1 a (by omega) (by omega)
          have ga := chi_at hW hDk hnd (z := 5 * i + qa) (by omega)
          rw [← qac, ← qap] at ga
          have gan := ga.1.1
          have gam := ga.1.2.1
          have J68 : (lnV S i < K 41 A a) → (a ≠ 0) → Y x n α K 0 0 68 [(4, .int (iI a)), (3, .int (iI (lnV S i))), (0, .ref (α 8 i)), (1, .ref (α 3 b)), (2, .int (iI wg))] [] := by
            intro hgt ha0
            obtain ⟨qa, qa0, qa1, qap, qac⟩ := hO.2.1 a (by omega) (by omega)
            have ga := chi_at hW hDk hnd (z := 5 * i + qa) (by omega)
            rw [← qac, ← qap] at ga
            have gan := ga.1.1
            have gam := ga.1.2.1
            obtain ⟨z1, z2, z3, z4, z5⟩ := hO.two hW hI (a := a) (by omega) (hlo (a - 1) (by omega) (by omega)) hgt
            have hbr := bR_in hW hI h11 z1 hwg.1
            have ebr : wg * (lnV S i - K 41 A (a - 1)) / (K 41 A a - K 41 A (a - 1)) = bR S i wg := by unfold bR; rw [z2, z4]
            obtain ⟨qb, qb0, qb1, qbp, qbc⟩ := hO.2.1 (a - 1) (by omega) (by omega)
            have gb := chi_at hW hDk hnd (z := 5 * i + qb) (by omega)
            rw [← qbc, ← qbp] at gb
            have gbn := gb.1.1
            have gbm := gb.1.2.1
            have gad := ga.2.1
            have gbd := gb.2.1
            have hlo1 := hlo (a - 1) (by omega) (by omega)
            have hml0 : 0 ≤ wg * (lnV S i - K 41 A (a - 1)) := Int.mul_nonneg hwg.1 (by omega)
            have hml1 : wg * (lnV S i - K 41 A (a - 1)) ≤ 1000000 * 200 := Int.mul_le_mul hwg.2 (by omega) (by omega) (by omega)
            refine y_aload_n hE rfl 2 rfl dX10_blend_68 ?_
            refine gX10_9r (z := A) hE (by assumption) h9i hA.symm (by omega) dX10_blend_69 (fun hl_69 => ?_)
            refine y_iload hE 0 rfl dX10_blend_72 ?_
            refine y_iconst hE dX10_blend_74 ?_
            refine y_isub hE dX10_blend_75 ?_
            refine y_iald hE rfl hl_69 (by have hL : K 41 A (-1) = 5 := hA5; omega) dX10_blend_76 ?_
            refine y_istore hE [(5, .int (iI (K 41 A (a - 1)))), (4, .int (iI a)), (3, .int (iI (lnV S i))), (0, .ref (α 8 i)), (1, .ref (α 3 b)), (2, .int (iI wg))] (by decide) rfl dX10_blend_77 ?_
            refine y_iload_n hE rfl 5 rfl dX10_blend_79 ?_
            refine y_i2l hE (by omega) dX10_blend_80 ?_
            refine y_iload_n hE rfl 2 rfl dX10_blend_81 ?_
            refine y_iload hE 0 rfl dX10_blend_82 ?_
            refine y_isub hE dX10_blend_84 ?_
            refine y_i2l hE (by omega) dX10_blend_85 ?_
            refine y_aload_n hE rfl 3 rfl dX10_blend_86 ?_
            refine gX10_9r (z := A) hE (by assumption) h9i hA.symm (by omega) dX10_blend_87 (fun hl_87 => ?_)
            refine y_iload hE 1 rfl dX10_blend_90 ?_
            refine y_iald hE rfl hl_87 (by have hL : K 41 A (-1) = 5 := hA5; omega) dX10_blend_92 ?_
            refine y_iload hE 0 rfl dX10_blend_93 ?_
            refine y_isub hE dX10_blend_95 ?_
            refine y_i2l hE (by omega) dX10_blend_96 ?_
            refine y_callSN hE (m_X1_share wg ((lnV S i) - (K 41 A (a - 1))) ((K 41 A a) - (K 41 A (a - 1))) (by omega) (by omega)) q870 q826 q108 q827 (nA := 3) (by decide +kernel) rfl ⟨Nat.le_of_ble_eq_true rfl, Nat.le_of_ble_eq_true rfl⟩ (rest := []) rfl (by decide) dX10_blend_97 (bc' := 0) (bs' := 0) (Nat.le_refl _) (Nat.le_refl _) (fun r_97 n_97 α_97 K_97 hx_97 hp_97 => ?_)
            obtain ⟨rfl, rfl, rfl, hr_97⟩ := hp_97
            have e_97 : (bR S i wg) = r_97 := Eq.symm (by rw [hr_97]; exact ebr)
            subst e_97
            refine y_to (st' := [.int (iI (bR S i wg))]) rfl rfl rfl ?_
            refine y_istore hE [(6, .int (iI (bR S i wg))), (5, .int (iI (K 41 A (a - 1)))), (4, .int (iI a)), (3, .int (iI (lnV S i))), (0, .ref (α 8 i)), (1, .ref (α 3 b)), (2, .int (iI wg))] (by decide) rfl dX10_blend_100 ?_
            refine y_aload_n hE rfl 4 rfl dX10_blend_102 ?_
            refine gX10_15r (z := A) hE (by assumption) h9i hA2 (by omega) dX10_blend_103 (fun hl_103 => ?_)
            refine y_iload hE 2 rfl dX10_blend_106 ?_
            refine y_aald hE rfl rfl hl_103 (by have hL : K 42 A (-1) = 5 := hA6; omega) (by omega) dX10_blend_108 (fun hl_108 => ?_)
            have hl_108 : (0 : Int) ≤ K 42 A a ∧ K 42 A a < n 8 := ⟨by omega, hl_108⟩
            refine y_aload_n hE rfl 5 rfl dX10_blend_109 ?_
            refine y_iload hE 0 rfl dX10_blend_110 ?_
            refine y_node_blend hE hl_108 (fun h8 => (fun S D i b wg hR h9i hW hv0 hDk hnd hb hl3 hwg _ h8 => m_X9_blend S D i b wg hR h9i hW hv0 hDk hnd hb hl3 hwg h8) S D (K 42 A a) b (bR S i wg) hR hl_108 (by assumption) (by assumption) (by assumption) (ga.1) (by omega) hl3 (by omega) (by omega) h8) (fun h8 => m_X10_blend_2 S D (K 42 A a) b (bR S i wg) hR hl_108 (by assumption) (by assumption) (by assumption) (ga.1) (by omega) hl3 (by omega) (by omega) h8) q869 rfl ⟨Nat.le_of_ble_eq_true rfl, Nat.le_of_ble_eq_true rfl⟩ ⟨Nat.le_of_ble_eq_true rfl, Nat.le_of_ble_eq_true rfl⟩ (rest := []) rfl (by decide) dX10_blend_112 (fun r_112 n_112 α_112 K_112 hx_112 hp_112 => ?_)
            obtain ⟨rfl, rfl, hk_112, hr_112⟩ := hp_112
            refine y_to (st' := []) rfl rfl rfl ?_
            refine y_aload_n hE rfl 4 rfl dX10_blend_115 ?_
            refine gX10_15r (z := A) hE (by rw [show K_112 8 i 9 = K 8 i 9 from ((hk_112 8 i 9 (by (try dsimp only); omega)).trans rfl)]; assumption) h9i ((hk_112 8 i 2 (by (try dsimp only); omega)).trans hA2) (by omega) dX10_blend_116 (fun hl_116 => ?_)
            refine y_iload hE 2 rfl dX10_blend_119 ?_
            refine y_iconst hE dX10_blend_121 ?_
            refine y_isub hE dX10_blend_122 ?_
            refine y_aald hE rfl rfl hl_116 (by have hL : K_112 42 A (-1) = 5 := ((hk_112 42 A (-1) (by (try dsimp only); omega)).trans hA6); omega) (by rw [show K_112 42 A (a - 1) = K 42 A (a - 1) from ((hk_112 42 A (a - 1) (by (try dsimp only); omega)).trans rfl)]; omega) dX10_blend_123 (fun hl_123 => ?_)
            rw [show K_112 42 A (a - 1) = K 42 A (a - 1) from ((hk_112 42 A (a - 1) (by (try dsimp only); omega)).trans rfl)] at hl_123 ⊢
            have hl_123 : (0 : Int) ≤ K 42 A (a - 1) ∧ K 42 A (a - 1) < n 8 := ⟨by omega, hl_123⟩
            refine y_aload_n hE rfl 5 rfl dX10_blend_124 ?_
            refine y_iload_n hE rfl 6 rfl dX10_blend_125 ?_
            refine y_iload hE 0 rfl dX10_blend_126 ?_
            refine y_isub hE dX10_blend_128 ?_
            refine y_node_blend hE hl_123 (fun h8 => (fun S D i b wg hR h9i hW hv0 hDk hnd hb hl3 hwg _ h8 => m_X9_blend S D i b wg hR h9i hW hv0 hDk hnd hb hl3 hwg h8) S D (K 42 A (a - 1)) b (wg - (bR S i wg)) (hR.kf (P := fun k i f => k = 34 ∧ i = (b) ∧ 0 ≤ f) (KF.mono hk_112 (fun k i f z => by (try dsimp only at z ⊢); omega)) hfoot) hl_123 (by assumption) (by assumption) (by assumption) (gb.1) (by omega) hl3 (by omega) (by omega) h8) (fun h8 => m_X10_blend_2 S D (K 42 A (a - 1)) b (wg - (bR S i wg)) (hR.kf (P := fun k i f => k = 34 ∧ i = (b) ∧ 0 ≤ f) (KF.mono hk_112 (fun k i f z => by (try dsimp only at z ⊢); omega)) hfoot) hl_123 (by assumption) (by assumption) (by assumption) (gb.1) (by omega) hl3 (by omega) (by omega) h8) q869 rfl ⟨Nat.le_of_ble_eq_true rfl, Nat.le_of_ble_eq_true rfl⟩ ⟨Nat.le_of_ble_eq_true rfl, Nat.le_of_ble_eq_true rfl⟩ (rest := []) rfl (by decide) dX10_blend_129 (fun r_129 n_129 α_129 K_129 hx_129 hp_129 => ?_)
            obtain ⟨rfl, rfl, hk_129, hr_129⟩ := hp_129
            refine y_to (st' := []) rfl rfl rfl ?_
            exact y_vret (r := 0) hE rfl hQ dX10_blend_132 Ext.rf ⟨rfl, rfl, ((KF.mono hk_112 (fun k i f z => by (try dsimp only at z ⊢); omega)).tr (KF.mono hk_129 (fun k i f z => by (try dsimp only at z ⊢); omega))), fun c c0 c1 => by rw [W_2 hW hDk c hnd hwg.1 h9 z1, z3, z5, hr_129 c c0 c1, hr_112 c c0 c1]; omega⟩
          refine y_aload_n hE rfl 2 rfl dX10_blend_44 ?_
          refine gX10_9r (z := A) hE (by assumption) h9i hA.symm (by omega) dX10_blend_45 (fun hl_45 => ?_)
          refine y_iload hE 0 rfl dX10_blend_48 ?_
          refine y_iald hE rfl hl_45 (by have hL : K 41 A (-1) = 5 := hA5; omega) dX10_blend_50 ?_
          refine y_iload_n hE rfl 1 rfl dX10_blend_51 ?_
          refine y_icmp_gt hE 68 (by decide) (by omega) (by omega) dX10_blend_52 (fun c_52 => ?_) (fun c_52 => ?_)
          · exact J68  (by omega) (by omega)
          · exact J55  (by omega)
      refine y_iload hE 0 rfl dX10_blend_11 ?_
      refine y_aload_n hE rfl 2 rfl dX10_blend_13 ?_
      refine gX10_23 (z := (S 11 i)) hE (by assumption) h9i hm3 dX10_blend_14 ?_
      refine y_iconst hE dX10_blend_17 ?_
      refine y_isub hE dX10_blend_18 ?_
      refine y_icmp_ge hE 39 (by decide) (by omega) (by omega) dX10_blend_19 (fun c_19 => ?_) (fun c_19 => ?_)
      · exact J39  (by omega)
      · obtain ⟨qa, qa0, qa1, qap, qac⟩ := hO.2.1 a (by omega) (by omega)
        have ga := chi_at hW hDk hnd (z := 5 * i + qa) (by omega)
        rw [← qac, ← qap] at ga
        have gan := ga.1.1
        have gam := ga.1.2.1
        refine y_aload_n hE rfl 2 rfl dX10_blend_22 ?_
        refine gX10_9r (z := A) hE (by assumption) h9i hA.symm (by omega) dX10_blend_23 (fun hl_23 => ?_)
        refine y_iload hE 0 rfl dX10_blend_26 ?_
        refine y_iald hE rfl hl_23 (by have hL : K 41 A (-1) = 5 := hA5; omega) dX10_blend_28 ?_
        refine y_iload_n hE rfl 1 rfl dX10_blend_29 ?_
        refine y_icmp_ge hE 39 (by decide) (by omega) (by omega) dX10_blend_30 (fun c_30 => ?_) (fun c_30 => ?_)
        · exact J39  (by omega)
        · refine y_iinc hE 0 rfl [(4, .int (iI (a + 1))), (3, .int (iI (lnV S i))), (0, .ref (α 8 i)), (1, .ref (α 3 b)), (2, .int (iI wg))] (by decide) rfl dX10_blend_33 ?_
          refine y_goto hE 11 (by decide) dX10_blend_36 ?_
          exact ih11 (a + 1) (by omega) (fun k k0 k1 => by by_cases e : k = a; (subst e; omega); exact hlo k k0 (by omega)) (by omega)
  exact L11 _ 0 (by omega) (fun k k0 k1 => by omega) (Nat.lt_succ_self _)
set_option maxHeartbeats 4000000 in
set_option maxRecDepth 100000 in
theorem m_X10_blend_4 {w : KW} {n : KN} {α : KA} {K : KS} (S : SS) (D : Int → Int) (i b wg : Int) (hR : Rst S n K) (h9i : 0 ≤ i ∧ i < n 8) (hW : WFs S) (hv0 : WFv S) (hDk : DOk S D) (hnd : NdOk S i) (hb : 0 ≤ b ∧ b < 3) (hl3 : 0 ≤ b ∧ b < n 3) (hwg : 0 ≤ wg ∧ wg ≤ 1000000) (hdl : D i ≤ 4) (htag : K 8 i 9 ≠ 0) : KM w yX10_blend cX10_blend 7 none { frames := 5, cells := 0, slots := 0, locals := 138 } (3, 0) [.ref (α 8 i), .ref (α 3 b), .int (iI wg)] n α K (fun r n' α' K' => n = n' ∧ α = α' ∧ KF K K' (fun k i f => k = 34 ∧ i = (b) ∧ 0 ≤ f) ∧ (∀ c : Int, 0 ≤ c → c < 12 → K' 34 b c = K 34 b c + wt S 4 i wg c)) := by
  refine y_start (by decide) (Nat.le_of_ble_eq_true rfl) (fun x hE hQ => ?_)
  have hw := hQ.2
  subst hw
  have hE : YE x cX10_blend RX10 none "blend" 7 { frames := 5, cells := 0, slots := 0, locals := 138 } := hE
  refine y_wk (fun hWK => ?_)
  have hn0 := hWK.1
  refine y_bud (bc' := 0) (bs' := 0) (Nat.le_refl _) (Nat.le_refl _) ?_
  refine y_to (lv' := [(0, .ref (α 8 i)), (1, .ref (α 3 b)), (2, .int (iI wg))]) (st' := []) rfl rfl rfl ?_
  have hfoot : ∀ (k : Nat) (i f : Int), (fun k i f => k = 34 ∧ i = (b) ∧ 0 ≤ f) k i f → ¬ SKd k f := fun k i f z => by unfold SKd; (try dsimp only at z); omega
  have wn := hW.nod i hnd.1 hnd.2.1
  have wcl := hW.clips
  have wpar := hW.par
  have n8 := hR.n8
  have n5 := hR.n5
  have n6 := hR.n6
  have h9 : S 9 i = -1 := by by_cases e : S 9 i = -1; exact e; exact absurd (hR.cn ⟨hnd.1, hnd.2.1⟩ e).1 htag
  have h11 : 0 < S 11 i := by rcases hnd.2.2 with h | h; exact absurd h9 h; exact h
  obtain ⟨A, hA⟩ : ∃ A, A = K 8 i 1 := ⟨_, rfl⟩
  have hI : 0 ≤ i ∧ i < S 14 0 := ⟨hnd.1, hnd.2.1⟩
  have hA0 : 0 ≤ A := by rw [hA]; exact hR.l1 hI h9
  have hA2 : K 8 i 2 = A := by rw [hA]; exact hR.l2 hI h9
  have hA5 : K 41 A (-1) = 5 := by rw [hA]; exact hR.l41 hI h9
  have hA6 : K 42 A (-1) = 5 := by rw [hA]; exact hR.l42 hI h9
  have hO : LnO S i (K 41 A) (K 42 A) := by rw [hA]; exact ⟨hR.ord hI h9, hR.of hI h9, hR.to hI h9⟩
  have hp0 : K 8 i 0 = S 10 i := hR.l0 hI h9
  have hm3 : K 8 i 3 = S 11 i := hR.l3 hI h9
  have hvr : -100 ≤ lnV S i ∧ lnV S i ≤ 100 := hv0 (S 10 i) (by omega) (by omega)
  refine y_aload_n hE rfl 0 rfl dX10_blend_0 ?_
  refine gX10_19r (z := (S 10 i)) hE (by assumption) h9i hp0 (by omega) dX10_blend_1 (fun hl_1 => ?_)
  refine gX10_37 (z := (lnV S i)) hE hl_1 (hR.p1 (i := S 10 i) (by omega)) dX10_blend_4 ?_
  refine y_istore_n hE rfl [(3, .int (iI (lnV S i))), (0, .ref (α 8 i)), (1, .ref (α 3 b)), (2, .int (iI wg))] (by decide) rfl dX10_blend_7 ?_
  refine y_iconst hE dX10_blend_8 ?_
  refine y_istore hE [(4, .int (iI 0)), (3, .int (iI (lnV S i))), (0, .ref (α 8 i)), (1, .ref (α 3 b)), (2, .int (iI wg))] (by decide) rfl dX10_blend_9 ?_
  have L11 : ∀ (fuel : Nat) (a : Int), (0 ≤ a ∧ a ≤ S 11 i - 1) → (∀ k : Int, 0 ≤ k → k < a → K 41 A k < lnV S i) → (S 11 i - a).toNat < fuel → Y x n α K 0 0 11 [(4, .int (iI a)), (3, .int (iI (lnV S i))), (0, .ref (α 8 i)), (1, .ref (α 3 b)), (2, .int (iI wg))] [] := by
    intro fuel11
    induction fuel11 with
    | zero => intro a ha hlo hfu11; exact absurd hfu11 (Nat.not_lt_zero _)
    | succ fuel11 ih11 =>
      intro a ha hlo hfu11
      have J39 : (a = S 11 i - 1 ∨ lnV S i ≤ K 41 A a) → Y x n α K 0 0 39 [(4, .int (iI a)), (3, .int (iI (lnV S i))), (0, .ref (α 8 i)), (1, .ref (α 3 b)), (2, .int (iI wg))] [] := by
        intro hex
        have J55 : (a = 0 ∨ K 41 A a ≤ lnV S i) → Y x n α K 0 0 55 [(4, .int (iI a)), (3, .int (iI (lnV S i))), (0, .ref (α 8 i)), (1, .ref (α 3 b)), (2, .int (iI wg))] [] := by
          intro hex2
          obtain ⟨qa, qa0, qa1, qap, qac⟩ := hO.2.1 a (by omega) (by omega)
          have ga := chi_at hW hDk hnd (z := 5 * i + qa) (by omega)
          rw [← qac, ← qap] at ga
          have gan := ga.1.1
          have gam := ga.1.2.1
          obtain ⟨h1a, h1c⟩ := hO.one hW hI (a := a) (by omega) (fun z => hlo (a - 1) (by omega) (by omega)) hex hex2
          have gd := ga.2.1
          have gk := ga.1
          refine y_aload_n hE rfl 2 rfl dX10_blend_55 ?_
          refine gX10_15r (z := A) hE (by assumption) h9i hA2 (by omega) dX10_blend_56 (fun hl_56 => ?_)
          refine y_iload hE 0 rfl dX10_blend_59 ?_
          refine y_aald hE rfl rfl hl_56 (by have hL : K 42 A (-1) = 5 := hA6; omega) (by omega) dX10_blend_61 (fun hl_61 => ?_)
          have hl_61 : (0 : Int) ≤ K 42 A a ∧ K 42 A a < n 8 := ⟨by omega, hl_61⟩
          refine y_aload_n hE rfl 3 rfl dX10_blend_62 ?_
          refine y_iload_n hE rfl 4 rfl dX10_blend_63 ?_
          refine y_node_blend hE hl_61 (fun h8 => (fun S D i b wg hR h9i hW hv0 hDk hnd hb hl3 hwg _ h8 => m_X9_blend S D i b wg hR h9i hW hv0 hDk hnd hb hl3 hwg h8) S D (K 42 A a) b wg hR hl_61 (by assumption) (by assumption) (by assumption) (ga.1) (by omega) hl3 (by omega) (by omega) h8) (fun h8 => m_X10_blend_3 S D (K 42 A a) b wg hR hl_61 (by assumption) (by assumption) (by assumption) (ga.1) (by omega) hl3 (by omega) (by omega) h8) q869 rfl ⟨Nat.le_of_ble_eq_true rfl, Nat.le_of_ble_eq_true rfl⟩ ⟨Nat.le_of_ble_eq_true rfl, Nat.le_of_ble_eq_true rfl⟩ (rest := []) rfl (by decide) dX10_blend_64 (fun r_64 n_64 α_64 K_64 hx_64 hp_64 => ?_)
          obtain ⟨rfl, rfl, hk_64, hr_64⟩ := hp_64
          refine y_to (st' := []) rfl rfl rfl ?_
          exact y_vret (r := 0) hE rfl hQ dX10_blend_67 Ext.rf ⟨rfl, rfl, (KF.mono hk_64 (fun k i f z => by (try dsimp only at z ⊢); omega)), fun c c0 c1 => by rw [W_1 hW hDk c hnd hwg.1 h9 h1a, h1c]; exact hr_64 c c0 c1⟩
        refine y_iload hE 0 rfl dX10_blend_39 ?_
        refine y_if_eq hE 55 (by decide) (by omega) dX10_blend_41 (fun c_41 => ?_) (fun c_41 => ?_)
        · exact J55  (by omega)
        · obtain ⟨qa, qa0, qa1, qap, qac⟩ := hO.2.1 a (by omega) (by omega)
          have ga := chi_at hW hDk hnd (z := 5 * i + qa) (by omega)
          rw [← qac, ← qap] at ga
          have gan := ga.1.1
          have gam := ga.1.2.1
          have J68 : (lnV S i < K 41 A a) → (a ≠ 0) → Y x n α K 0 0 68 [(4, .int (iI a)), (3, .int (iI (lnV S i))), (0, .ref (α 8 i)), (1, .ref (α 3 b)), (2, .int (iI wg))] [] := by
            intro hgt ha0
            obtain ⟨qa, qa0, qa1, qap, qac⟩ := hO.2.1 a (by omega) (by omega)
            have ga := chi_at hW hDk hnd (z := 5 * i + qa) (by omega)
            rw [← qac, ← qap] at ga
            have gan := ga.1.1
            have gam := ga.1.2.1
            obtain ⟨z1, z2, z3, z4, z5⟩ := hO.two hW hI (a := a) (by omega) (hlo (a - 1) (by omega) (by omega)) hgt
            have hbr := bR_in hW hI h11 z1 hwg.1
            have ebr : wg * (lnV S i - K 41 A (a - 1)) / (K 41 A a - K 41 A (a - 1)) = bR S i wg := by unfold bR; rw [z2, z4]
            obtain ⟨qb, qb0, qb1, qbp, qbc⟩ := hO.2.1 (a - 1) (by omega) (by omega)
            have gb := chi_at hW hDk hnd (z := 5 * i + qb) (by omega)
            rw [← qbc, ← qbp] at gb
            have gbn := gb.1.1
            have gbm := gb.1.2.1
            have gad := ga.2.1
            have gbd := gb.2.1
            have hlo1 := hlo (a - 1) (by omega) (by omega)
            have hml0 : 0 ≤ wg * (lnV S i - K 41 A (a - 1)) := Int.mul_nonneg hwg.1 (by omega)
            have hml1 : wg * (lnV S i - K 41 A (a - 1)) ≤ 1000000 * 200 := Int.mul_le_mul hwg.2 (by omega) (by omega) (by omega)
            refine y_aload_n hE rfl 2 rfl dX10_blend_68 ?_
            refine gX10_9r (z := A) hE (by assumption) h9i hA.symm (by omega) dX10_blend_69 (fun hl_69 => ?_)
            refine y_iload hE 0 rfl dX10_blend_72 ?_
            refine y_iconst hE dX10_blend_74 ?_
            refine y_isub hE dX10_blend_75 ?_
            refine y_iald hE rfl hl_69 (by have hL : K 41 A (-1) = 5 := hA5; omega) dX10_blend_76 ?_
            refine y_istore hE [(5, .int (iI (K 41 A (a - 1)))), (4, .int (iI a)), (3, .int (iI (lnV S i))), (0, .ref (α 8 i)), (1, .ref (α 3 b)), (2, .int (iI wg))] (by decide) rfl dX10_blend_77 ?_
            refine y_iload_n hE rfl 5 rfl dX10_blend_79 ?_
            refine y_i2l hE (by omega) dX10_blend_80 ?_
            refine y_iload_n hE rfl 2 rfl dX10_blend_81 ?_
            refine y_iload hE 0 rfl dX10_blend_82 ?_
            refine y_isub hE dX10_blend_84 ?_
            refine y_i2l hE (by omega) dX10_blend_85 ?_
            refine y_aload_n hE rfl 3 rfl dX10_blend_86 ?_
            refine gX10_9r (z := A) hE (by assumption) h9i hA.symm (by omega) dX10_blend_87 (fun hl_87 => ?_)
            refine y_iload hE 1 rfl dX10_blend_90 ?_
            refine y_iald hE rfl hl_87 (by have hL : K 41 A (-1) = 5 := hA5; omega) dX10_blend_92 ?_
            refine y_iload hE 0 rfl dX10_blend_93 ?_
            refine y_isub hE dX10_blend_95 ?_
            refine y_i2l hE (by omega) dX10_blend_96 ?_
            refine y_callSN hE (m_X1_share wg ((lnV S i) - (K 41 A (a - 1))) ((K 41 A a) - (K 41 A (a - 1))) (by omega) (by omega)) q870 q826 q108 q827 (nA := 3) (by decide +kernel) rfl ⟨Nat.le_of_ble_eq_true rfl, Nat.le_of_ble_eq_true rfl⟩ (rest := []) rfl (by decide) dX10_blend_97 (bc' := 0) (bs' := 0) (Nat.le_refl _) (Nat.le_refl _) (fun r_97 n_97 α_97 K_97 hx_97 hp_97 => ?_)
            obtain ⟨rfl, rfl, rfl, hr_97⟩ := hp_97
            have e_97 : (bR S i wg) = r_97 := Eq.symm (by rw [hr_97]; exact ebr)
            subst e_97
            refine y_to (st' := [.int (iI (bR S i wg))]) rfl rfl rfl ?_
            refine y_istore hE [(6, .int (iI (bR S i wg))), (5, .int (iI (K 41 A (a - 1)))), (4, .int (iI a)), (3, .int (iI (lnV S i))), (0, .ref (α 8 i)), (1, .ref (α 3 b)), (2, .int (iI wg))] (by decide) rfl dX10_blend_100 ?_
            refine y_aload_n hE rfl 4 rfl dX10_blend_102 ?_
            refine gX10_15r (z := A) hE (by assumption) h9i hA2 (by omega) dX10_blend_103 (fun hl_103 => ?_)
            refine y_iload hE 2 rfl dX10_blend_106 ?_
            refine y_aald hE rfl rfl hl_103 (by have hL : K 42 A (-1) = 5 := hA6; omega) (by omega) dX10_blend_108 (fun hl_108 => ?_)
            have hl_108 : (0 : Int) ≤ K 42 A a ∧ K 42 A a < n 8 := ⟨by omega, hl_108⟩
            refine y_aload_n hE rfl 5 rfl dX10_blend_109 ?_
            refine y_iload hE 0 rfl dX10_blend_110 ?_
            refine y_node_blend hE hl_108 (fun h8 => (fun S D i b wg hR h9i hW hv0 hDk hnd hb hl3 hwg _ h8 => m_X9_blend S D i b wg hR h9i hW hv0 hDk hnd hb hl3 hwg h8) S D (K 42 A a) b (bR S i wg) hR hl_108 (by assumption) (by assumption) (by assumption) (ga.1) (by omega) hl3 (by omega) (by omega) h8) (fun h8 => m_X10_blend_3 S D (K 42 A a) b (bR S i wg) hR hl_108 (by assumption) (by assumption) (by assumption) (ga.1) (by omega) hl3 (by omega) (by omega) h8) q869 rfl ⟨Nat.le_of_ble_eq_true rfl, Nat.le_of_ble_eq_true rfl⟩ ⟨Nat.le_of_ble_eq_true rfl, Nat.le_of_ble_eq_true rfl⟩ (rest := []) rfl (by decide) dX10_blend_112 (fun r_112 n_112 α_112 K_112 hx_112 hp_112 => ?_)
            obtain ⟨rfl, rfl, hk_112, hr_112⟩ := hp_112
            refine y_to (st' := []) rfl rfl rfl ?_
            refine y_aload_n hE rfl 4 rfl dX10_blend_115 ?_
            refine gX10_15r (z := A) hE (by rw [show K_112 8 i 9 = K 8 i 9 from ((hk_112 8 i 9 (by (try dsimp only); omega)).trans rfl)]; assumption) h9i ((hk_112 8 i 2 (by (try dsimp only); omega)).trans hA2) (by omega) dX10_blend_116 (fun hl_116 => ?_)
            refine y_iload hE 2 rfl dX10_blend_119 ?_
            refine y_iconst hE dX10_blend_121 ?_
            refine y_isub hE dX10_blend_122 ?_
            refine y_aald hE rfl rfl hl_116 (by have hL : K_112 42 A (-1) = 5 := ((hk_112 42 A (-1) (by (try dsimp only); omega)).trans hA6); omega) (by rw [show K_112 42 A (a - 1) = K 42 A (a - 1) from ((hk_112 42 A (a - 1) (by (try dsimp only); omega)).trans rfl)]; omega) dX10_blend_123 (fun hl_123 => ?_)
            rw [show K_112 42 A (a - 1) = K 42 A (a - 1) from ((hk_112 42 A (a - 1) (by (try dsimp only); omega)).trans rfl)] at hl_123 ⊢
            have hl_123 : (0 : Int) ≤ K 42 A (a - 1) ∧ K 42 A (a - 1) < n 8 := ⟨by omega, hl_123⟩
            refine y_aload_n hE rfl 5 rfl dX10_blend_124 ?_
            refine y_iload_n hE rfl 6 rfl dX10_blend_125 ?_
            refine y_iload hE 0 rfl dX10_blend_126 ?_
            refine y_isub hE dX10_blend_128 ?_
            refine y_node_blend hE hl_123 (fun h8 => (fun S D i b wg hR h9i hW hv0 hDk hnd hb hl3 hwg _ h8 => m_X9_blend S D i b wg hR h9i hW hv0 hDk hnd hb hl3 hwg h8) S D (K 42 A (a - 1)) b (wg - (bR S i wg)) (hR.kf (P := fun k i f => k = 34 ∧ i = (b) ∧ 0 ≤ f) (KF.mono hk_112 (fun k i f z => by (try dsimp only at z ⊢); omega)) hfoot) hl_123 (by assumption) (by assumption) (by assumption) (gb.1) (by omega) hl3 (by omega) (by omega) h8) (fun h8 => m_X10_blend_3 S D (K 42 A (a - 1)) b (wg - (bR S i wg)) (hR.kf (P := fun k i f => k = 34 ∧ i = (b) ∧ 0 ≤ f) (KF.mono hk_112 (fun k i f z => by (try dsimp only at z ⊢); omega)) hfoot) hl_123 (by assumption) (by assumption) (by assumption) (gb.1) (by omega) hl3 (by omega) (by omega) h8) q869 rfl ⟨Nat.le_of_ble_eq_true rfl, Nat.le_of_ble_eq_true rfl⟩ ⟨Nat.le_of_ble_eq_true rfl, Nat.le_of_ble_eq_true rfl⟩ (rest := []) rfl (by decide) dX10_blend_129 (fun r_129 n_129 α_129 K_129 hx_129 hp_129 => ?_)
            obtain ⟨rfl, rfl, hk_129, hr_129⟩ := hp_129
            refine y_to (st' := []) rfl rfl rfl ?_
            exact y_vret (r := 0) hE rfl hQ dX10_blend_132 Ext.rf ⟨rfl, rfl, ((KF.mono hk_112 (fun k i f z => by (try dsimp only at z ⊢); omega)).tr (KF.mono hk_129 (fun k i f z => by (try dsimp only at z ⊢); omega))), fun c c0 c1 => by rw [W_2 hW hDk c hnd hwg.1 h9 z1, z3, z5, hr_129 c c0 c1, hr_112 c c0 c1]; omega⟩
          refine y_aload_n hE rfl 2 rfl dX10_blend_44 ?_
          refine gX10_9r (z := A) hE (by assumption) h9i hA.symm (by omega) dX10_blend_45 (fun hl_45 => ?_)
          refine y_iload hE 0 rfl dX10_blend_48 ?_
          refine y_iald hE rfl hl_45 (by have hL : K 41 A (-1) = 5 := hA5; omega) dX10_blend_50 ?_
          refine y_iload_n hE rfl 1 rfl dX10_blend_51 ?_
          refine y_icmp_gt hE 68 (by decide) (by omega) (by omega) dX10_blend_52 (fun c_52 => ?_) (fun c_52 => ?_)
          · exact J68  (by omega) (by omega)
          · exact J55  (by omega)
      refine y_iload hE 0 rfl dX10_blend_11 ?_
      refine y_aload_n hE rfl 2 rfl dX10_blend_13 ?_
      refine gX10_23 (z := (S 11 i)) hE (by assumption) h9i hm3 dX10_blend_14 ?_
      refine y_iconst hE dX10_blend_17 ?_
      refine y_isub hE dX10_blend_18 ?_
      refine y_icmp_ge hE 39 (by decide) (by omega) (by omega) dX10_blend_19 (fun c_19 => ?_) (fun c_19 => ?_)
      · exact J39  (by omega)
      · obtain ⟨qa, qa0, qa1, qap, qac⟩ := hO.2.1 a (by omega) (by omega)
        have ga := chi_at hW hDk hnd (z := 5 * i + qa) (by omega)
        rw [← qac, ← qap] at ga
        have gan := ga.1.1
        have gam := ga.1.2.1
        refine y_aload_n hE rfl 2 rfl dX10_blend_22 ?_
        refine gX10_9r (z := A) hE (by assumption) h9i hA.symm (by omega) dX10_blend_23 (fun hl_23 => ?_)
        refine y_iload hE 0 rfl dX10_blend_26 ?_
        refine y_iald hE rfl hl_23 (by have hL : K 41 A (-1) = 5 := hA5; omega) dX10_blend_28 ?_
        refine y_iload_n hE rfl 1 rfl dX10_blend_29 ?_
        refine y_icmp_ge hE 39 (by decide) (by omega) (by omega) dX10_blend_30 (fun c_30 => ?_) (fun c_30 => ?_)
        · exact J39  (by omega)
        · refine y_iinc hE 0 rfl [(4, .int (iI (a + 1))), (3, .int (iI (lnV S i))), (0, .ref (α 8 i)), (1, .ref (α 3 b)), (2, .int (iI wg))] (by decide) rfl dX10_blend_33 ?_
          refine y_goto hE 11 (by decide) dX10_blend_36 ?_
          exact ih11 (a + 1) (by omega) (fun k k0 k1 => by by_cases e : k = a; (subst e; omega); exact hlo k k0 (by omega)) (by omega)
  exact L11 _ 0 (by omega) (fun k k0 k1 => by omega) (Nat.lt_succ_self _)
