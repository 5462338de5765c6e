set_option linter.unusedVariables false
set_option maxHeartbeats 4000000 in
set_option maxRecDepth 100000 in
theorem m_X4_newTransition2 {w : KW} {n : KN} {α : KA} {K : KS} (S : SS) (fr to du : Int) (h40 : (0 : Int) ≤ 0 ∧ 0 < n 4) (hM : MRep S n K) (hc : 0 ≤ S 21 0 ∧ S 21 0 < 24) : KM w yX4_newTransition cX4_newTransition 6 none { frames := 0, cells := 0, slots := 0, locals := 0 } (3, 0) [.ref (α 4 0), .int (iI fr), .int (iI to), .int (iI du)] n α K (fun r n' α' K' => n = n' ∧ α = α' ∧ MRep (newTr S fr to du) n K' ∧ KO K K' (fun k _ => k = 120 ∨ k = 4) ∧ (∀ f : Int, f ≠ 21 → K' 4 0 f = K 4 0 f)) := by
  refine y_start (by decide) (Nat.le_of_ble_eq_true rfl) (fun x hE hQ => ?_)
  have hw := hQ.2
  subst hw
  have hE : YE x cX4_newTransition RX4 none "newTransition" 6 { frames := 0, cells := 0, slots := 0, locals := 0 } := hE
  refine y_wk (fun hWK => ?_)
  have hn0 := hWK.1
  refine y_bud (bc' := 0) (bs' := 0) (Nat.le_refl _) (Nat.le_refl _) ?_
  refine y_to (lv' := [(0, .ref (α 4 0)), (1, .int (iI fr)), (2, .int (iI to)), (3, .int (iI du))]) (st' := []) rfl rfl rfl ?_
  refine y_bipush hE (by decide) dX4_newTransition_0 ?_
  refine y_aload_n hE rfl 0 rfl dX4_newTransition_2 ?_
  refine gX4_159 (z := S 21 0) hE h40 (hM.2.2.2.2.2.2.1) dX4_newTransition_3 ?_
  refine y_imul hE dX4_newTransition_6 ?_
  refine y_istore hE [(4, .int (iI (17 * (S 21 0)))), (0, .ref (α 4 0)), (1, .int (iI fr)), (2, .int (iI to)), (3, .int (iI du))] (by decide) rfl dX4_newTransition_7 ?_
  refine y_iconst hE dX4_newTransition_9 ?_
  refine y_istore hE [(5, .int (iI 0)), (4, .int (iI (17 * (S 21 0)))), (0, .ref (α 4 0)), (1, .int (iI fr)), (2, .int (iI to)), (3, .int (iI du))] (by decide) rfl dX4_newTransition_10 ?_
  have L12 : ∀ (fuel : Nat) (K2 : KS) (k : Int), (MRep (zer S 20 (17 * S 21 0) k.toNat) n K2) → (KO K K2 (fun k _ => k = 120 ∨ k = 4)) → (0 ≤ k ∧ k ≤ 17) → (∀ f : Int, K2 4 0 f = K 4 0 f) → (17 - k).toNat < fuel → Y x n α K2 0 0 12 [(5, .int (iI k)), (4, .int (iI (17 * (S 21 0)))), (0, .ref (α 4 0)), (1, .int (iI fr)), (2, .int (iI to)), (3, .int (iI du))] [] := by
    intro fuel12
    induction fuel12 with
    | zero => intro K2 k hM2 hk2 hk h25 hfu12; exact absurd hfu12 (Nat.not_lt_zero _)
    | succ fuel12 ih12 =>
      intro K2 k hM2 hk2 hk h25 hfu12
      refine y_iload hE 0 rfl dX4_newTransition_12 ?_
      refine y_bipush hE (by decide) dX4_newTransition_14 ?_
      refine y_icmp_ge hE 36 (by decide) (by omega) (by omega) dX4_newTransition_16 (fun c_16 => ?_) (fun c_16 => ?_)
      · refine y_aload_n hE rfl 2 rfl dX4_newTransition_36 ?_
        refine gX4_59r (z := 0) hE h40 (MObj.r hM2.1 20 (by decide)) (by omega) dX4_newTransition_37 (fun hl_37 => ?_)
        refine y_iload hE 1 rfl dX4_newTransition_40 ?_
        refine y_iconst hE dX4_newTransition_42 ?_
        refine y_iadd hE dX4_newTransition_43 ?_
        refine y_to (st' := [.int (iI (17 * (S 21 0))), .ref (α 120 0)]) rfl rfl (by rw [Int.add_zero]) ?_
        refine y_iload_n hE rfl 3 rfl dX4_newTransition_44 ?_
        refine y_iast hE (by unfold kC; decide) rfl (by simp [kTag]) hl_37 (by have hL : K2 120 0 (-1) = 408 := (MObj.l hM2.1 20 (by decide)); omega) dX4_newTransition_45 ?_
        refine y_aload_n hE rfl 2 rfl dX4_newTransition_46 ?_
        refine gX4_59r (z := 0) hE h40 (MObj.r hM2.1 20 (by decide)) (by omega) dX4_newTransition_47 (fun hl_47 => ?_)
        refine y_iload hE 1 rfl dX4_newTransition_50 ?_
        refine y_iconst hE dX4_newTransition_52 ?_
        refine y_iadd hE dX4_newTransition_53 ?_
        refine y_iload_n hE rfl 4 rfl dX4_newTransition_54 ?_
        refine y_iast hE (by unfold kC; decide) rfl (by simp [kTag]) hl_47 (by have hL : (up3 K2 120 0 (17 * (S 21 0)) fr) 120 0 (-1) = 408 := (MObj.l (MRep.a hM2 20 rfl (j := 17 * (S 21 0)) (by omega) fr).1 20 (by decide)); omega) dX4_newTransition_55 ?_
        refine y_aload_n hE rfl 2 rfl dX4_newTransition_56 ?_
        refine gX4_59r (z := 0) hE h40 (MObj.r hM2.1 20 (by decide)) (by omega) dX4_newTransition_57 (fun hl_57 => ?_)
        refine y_iload hE 1 rfl dX4_newTransition_60 ?_
        refine y_iconst hE dX4_newTransition_62 ?_
        refine y_iadd hE dX4_newTransition_63 ?_
        refine y_iload_n hE rfl 5 rfl dX4_newTransition_64 ?_
        refine y_iast hE (by unfold kC; decide) rfl (by simp [kTag]) hl_57 (by have hL : (up3 (up3 K2 120 0 (17 * (S 21 0)) fr) 120 0 ((17 * (S 21 0)) + 1) to) 120 0 (-1) = 408 := (MObj.l (MRep.a (MRep.a hM2 20 rfl (j := 17 * (S 21 0)) (by omega) fr) 20 rfl (j := (17 * (S 21 0)) + 1) (by omega) to).1 20 (by decide)); omega) dX4_newTransition_65 ?_
        refine y_aload_n hE rfl 2 rfl dX4_newTransition_66 ?_
        refine gX4_59r (z := 0) hE h40 (MObj.r hM2.1 20 (by decide)) (by omega) dX4_newTransition_67 (fun hl_67 => ?_)
        refine y_iload hE 1 rfl dX4_newTransition_70 ?_
        refine y_iconst hE dX4_newTransition_72 ?_
        refine y_iadd hE dX4_newTransition_73 ?_
        refine y_iconst hE dX4_newTransition_74 ?_
        refine y_iast hE (by unfold kC; decide) rfl (by simp [kTag]) hl_67 (by have hL : (up3 (up3 (up3 K2 120 0 (17 * (S 21 0)) fr) 120 0 ((17 * (S 21 0)) + 1) to) 120 0 ((17 * (S 21 0)) + 2) du) 120 0 (-1) = 408 := (MObj.l (MRep.a (MRep.a (MRep.a hM2 20 rfl (j := 17 * (S 21 0)) (by omega) fr) 20 rfl (j := (17 * (S 21 0)) + 1) (by omega) to) 20 rfl (j := (17 * (S 21 0)) + 2) (by omega) du).1 20 (by decide)); omega) dX4_newTransition_75 ?_
        refine y_aload_n hE rfl 2 rfl dX4_newTransition_76 ?_
        refine y_dup hE rfl dX4_newTransition_77 ?_
        refine gX4_159 (z := (zer S 20 (17 * S 21 0) k.toNat) 21 0) hE h40 (hM2.2.2.2.2.2.2.1) dX4_newTransition_78 ?_
        refine y_iconst hE dX4_newTransition_81 ?_
        refine y_iadd hE dX4_newTransition_82 ?_
        refine pX4_159 hE h40 dX4_newTransition_83 ?_
        refine y_vret (r := 0) hE rfl hQ dX4_newTransition_86 Ext.rf ?_
        refine ⟨rfl, rfl, ?_, (KO.up (KO.up (KO.up (KO.up (KO.up hk2 (by decide)) (by decide)) (by decide)) (by decide)) (by decide)), fun f hf => by simp [up3, hf, h25]⟩
        have hz : zer S 20 (17 * S 21 0) k.toNat 21 = S 21 := zer_f (by decide) _
        have hx := (MRep.s (MRep.a (MRep.a (MRep.a (MRep.a hM2 20 rfl (j := 17 * (S 21 0)) (by omega) fr) 20 rfl (j := (17 * (S 21 0)) + 1) (by omega) to) 20 rfl (j := (17 * (S 21 0)) + 2) (by omega) du) 20 rfl (j := (17 * (S 21 0)) + 3) (by omega) (-1)) 21 (by decide) (((zer S 20 (17 * S 21 0) k.toNat) 21 0) + 1))
        rw [hz, show k.toNat = 17 by omega] at hx
        rw [hz]
        exact hx
      · refine y_aload_n hE rfl 2 rfl dX4_newTransition_19 ?_
        refine gX4_59r (z := 0) hE h40 (MObj.r hM2.1 20 (by decide)) (by omega) dX4_newTransition_20 (fun hl_20 => ?_)
        refine y_iload hE 1 rfl dX4_newTransition_23 ?_
        refine y_iload hE 0 rfl dX4_newTransition_25 ?_
        refine y_iadd hE dX4_newTransition_27 ?_
        refine y_iconst hE dX4_newTransition_28 ?_
        refine y_iast hE (by unfold kC; decide) rfl (by simp [kTag]) hl_20 (by have hL : K2 120 0 (-1) = 408 := (MObj.l hM2.1 20 (by decide)); omega) dX4_newTransition_29 ?_
        refine y_iinc hE 0 rfl [(5, .int (iI (k + 1))), (4, .int (iI (17 * (S 21 0)))), (0, .ref (α 4 0)), (1, .int (iI fr)), (2, .int (iI to)), (3, .int (iI du))] (by decide) rfl dX4_newTransition_30 ?_
        refine y_goto hE 12 (by decide) dX4_newTransition_33 ?_
        exact ih12 (up3 K2 120 0 ((17 * (S 21 0)) + k) 0) (k + 1) (by rw [zer_s (by omega)]; exact (MRep.a hM2 20 rfl (j := (17 * (S 21 0)) + k) (by omega) 0)) ((KO.up hk2 (by decide))) (by omega) (fun f => by simp [up3]; try exact h25 f) (by omega)
  exact L12 _ K 0 (hM) (KO.rf) (by omega) (fun f => rfl) (Nat.lt_succ_self _)
set_option maxHeartbeats 4000000 in
set_option maxRecDepth 100000 in
theorem m_X4_readsTransition {w : KW} {n : KN} {α : KA} {K : KS} (S : SS) (Z : SS) (cd pa fi ad nu rm we co : Int) (Q : SS) (h40 : (0 : Int) ≤ 0 ∧ 0 < n 4) (hM : MRep S n K) (hps : PS K cd pa fi ad nu rm we co) (hz : SZ S Z) (hWz : WFs Z) (hpa : 0 ≤ pa ∧ pa ≤ Z 24 0) (hQs : ad = 1 → S = Q) (hQz : SZ Q Z) (had : 0 ≤ ad ∧ ad ≤ 1) (h21 : 0 ≤ Q 21 0 ∧ Q 21 0 ≤ 24) (hq21 : ad = 1 ∧ Q 21 0 = S 21 0 ∨ ad = 0 ∧ Q 21 0 = S 21 0 + rm) (hrm : 0 ≤ rm ∧ rm ≤ 1000) : KM w yX4_readsTransition cX4_readsTransition 3 none { frames := 4, cells := 0, slots := 0, locals := 95 } (3, 0) [.ref (α 4 0)] n α K (fun r n' α' K' => n = n' ∧ α = α' ∧ MRep (zif ad (trR Z Q pa).2.2.2.2.2 S) n K' ∧ KO K K' (fun k _ => k = 4 ∨ k = 120) ∧ (PS K' cd ((trR Z Q pa).2.1) ((trR Z Q pa).1) ad ((trR Z Q pa).2.2.1) rm ((trR Z Q pa).2.2.2.1) ((trR Z Q pa).2.2.2.2.1) ∧ True)) := by
  refine y_start (by decide) (Nat.le_of_ble_eq_true rfl) (fun x hE hQ => ?_)
  have hw := hQ.2
  subst hw
  have hE : YE x cX4_readsTransition RX4 none "readsTransition" 3 { frames := 4, cells := 0, slots := 0, locals := 95 } := hE
  refine y_wk (fun hWK => ?_)
  have hn0 := hWK.1
  refine y_bud (bc' := 0) (bs' := 0) (Nat.le_refl _) (Nat.le_refl _) ?_
  refine y_to (lv' := [(0, .ref (α 4 0))]) (st' := []) rfl rfl rfl ?_
  have wtxt := hWz.txt
  have wsts := hWz.sts
  have wpar := hWz.par
  have wtrs := hWz.trs
  have q24 : S 24 0 = Z 24 0 := congrFun (hz 24 (by decide) (by decide)) 0
  have q19 : S 19 0 = Z 19 0 := congrFun (hz 19 (by decide) (by decide)) 0
  have q3 : S 3 0 = Z 3 0 := congrFun (hz 3 (by decide) (by decide)) 0
  have wsk := sk_in (Z := Z) (a := pa) (by omega)
  have i0 := tF0_01 Z Q pa
  obtain ⟨b1, b2, b3, b4, b5, a1, a2, a3, a4, a5, a6⟩ := t_in hWz (f0 := tF0 Z Q pa) hpa
  have wskk := sk_in (Z := Z) (a := sk Z pa) (by omega)
  have wt5 := sk_in a6
  have htr6 := tr6_ok hWz hQz hpa
  refine y_aload_n hE rfl 0 rfl dX4_readsTransition_0 ?_
  refine y_callV hE (m_X4_skips S Z cd pa fi ad nu rm we co h40 hM ⟨hps.1, hps.2.1, hps.2.2.1, hps.2.2.2.1, hps.2.2.2.2.1, hps.2.2.2.2.2.1, hps.2.2.2.2.2.2.1, hps.2.2.2.2.2.2.2⟩ (by first | exact hz | omega) (by first | exact hWz | omega) (by first | exact hpa | omega)) (lw_V q3006 q3008 qs68 q133 q3009) (nA := 0) (by decide +kernel) rfl ⟨Nat.le_of_ble_eq_true rfl, Nat.le_of_ble_eq_true rfl⟩ (hdd := rfl) (hcc := rfl) (hq := rfl) (hi := h40) (rest := []) rfl (by decide) dX4_readsTransition_1 (bc' := 0) (bs' := 0) (Nat.le_refl _) (Nat.le_refl _) (fun r_1 n_1 α_1 K_1 hx_1 hp_1 => ?_)
  obtain ⟨rfl, rfl, hM_1, hk_1, hr_1⟩ := hp_1
  obtain ⟨⟨z25_1, z30_1, z31_1, z32_1, z33_1, z34_1, z35_1, z36_1⟩, hr_1⟩ := hr_1
  refine y_to (st' := []) rfl rfl rfl ?_
  refine y_aload_n hE rfl 0 rfl dX4_readsTransition_4 ?_
  have J46 : ∀ (f0 : Int), (f0 = tF0 Z Q pa) → Y x n α K_1 0 0 46 [(0, .ref (α 4 0))] [.int (iI f0), .ref (α 4 0)] := by
    intro f0 hf0
    refine pX4_197 hE h40 (by omega) dX4_readsTransition_46 ?_
    have J61 : ∀ (K3 : KS) (p2 f2 s1 : Int), (MRep S n K3) → (KO K K3 (fun k _ => k = 4 ∨ k = 120)) → (PS K3 cd p2 f2 ad nu rm we co) → (p2 = tA2 Z (tF0 Z Q pa) pa) → (f2 = tF2 Z (tF0 Z Q pa) pa) → (s1 = tS1 Z pa) → (-65 ≤ s1 ∧ s1 ≤ 190) → Y x n α K3 0 0 61 [(1, .int (iI s1)), (0, .ref (α 4 0))] [] := by
      intro K3 p2 f2 s1 hM3 hk3 hps3 hp2 hf2 hs1 hs1b
      have J79 : ∀ (K4 : KS) (p5 f5 nu5 s2 : Int), (MRep S n K4) → (KO K K4 (fun k _ => k = 4 ∨ k = 120)) → (PS K4 cd p5 f5 ad nu5 rm we co) → (p5 = tA5 Z (tF0 Z Q pa) pa) → (f5 = tF5 Z (tF0 Z Q pa) pa) → (nu5 = tV5 Z (tF0 Z Q pa) pa) → (s2 = tS2 Z (tF0 Z Q pa) pa) → Y x n α K4 0 0 79 [(2, .int (iI s2)), (1, .int (iI s1)), (0, .ref (α 4 0))] [] := by
        intro K4 p5 f5 nu5 s2 hM4 hk4 hps4 hp5 hf5 hn5 hs2
        have hq23 : f5 = 1 → Q 21 0 < 24 := fun z => t_23 (hf5.symm.trans z)
        have J103 : ∀ (K6 : KS) (S6 : SS), (MRep S6 n K6) → (KO K K6 (fun k _ => k = 4 ∨ k = 120)) → (PS K6 cd p5 f5 ad nu5 rm we co) → (S6 = zif ad (tQ5 Z Q (tF0 Z Q pa) pa) S) → Y x n α K6 0 0 103 [(2, .int (iI s2)), (1, .int (iI s1)), (0, .ref (α 4 0))] [] := by
          intro K6 S6 hM6 hk6 hps6 hS6
          have hz6 : SZ S6 Z := by rw [hS6]; exact zif_z htr6.2.2.2.2.1 hz
          have q624 : S6 24 0 = Z 24 0 := congrFun (hz6 24 (by decide) (by decide)) 0
          refine y_aload_n hE rfl 2 rfl dX4_readsTransition_103 ?_
          have J114 : ∀ (w0 : Int), (w0 = if s1 = -1 then 1 else 0) → Y x n α K6 0 0 114 [(2, .int (iI s2)), (1, .int (iI s1)), (0, .ref (α 4 0))] [.int (iI w0), .ref (α 4 0)] := by
            intro w0 hw0
            refine pX4_228 hE h40 dX4_readsTransition_114 ?_
            refine y_aload_n hE rfl 2 rfl dX4_readsTransition_117 ?_
            refine y_iconst hE dX4_readsTransition_118 ?_
            refine pX4_231 hE h40 dX4_readsTransition_119 ?_
            refine y_aload_n hE rfl 2 rfl dX4_readsTransition_122 ?_
            refine y_callV hE (m_X4_skips S6 Z cd p5 f5 ad nu5 rm w0 0 h40 (MRep.t (MRep.t hM6 35 (by decide) w0) 36 (by decide) 0) ⟨hps6.1, hps6.2.1, hps6.2.2.1, hps6.2.2.2.1, hps6.2.2.2.2.1, hps6.2.2.2.2.2.1, (by simp [up3, upr]), (by simp [up3, upr])⟩ (by assumption) (by assumption) (by omega)) (lw_V q3006 q3008 qs68 q133 q3009) (nA := 0) (by decide +kernel) rfl ⟨Nat.le_of_ble_eq_true rfl, Nat.le_of_ble_eq_true rfl⟩ (hdd := rfl) (hcc := rfl) (hq := rfl) (hi := h40) (rest := []) rfl (by decide) dX4_readsTransition_123 (bc' := 0) (bs' := 0) (Nat.le_refl _) (Nat.le_refl _) (fun r_123 n_123 α_123 K_123 hx_123 hp_123 => ?_)
            obtain ⟨rfl, rfl, hM_123, hk_123, hr_123⟩ := hp_123
            obtain ⟨⟨z25_123, z30_123, z31_123, z32_123, z33_123, z34_123, z35_123, z36_123⟩, hr_123⟩ := hr_123
            refine y_to (st' := []) rfl rfl rfl ?_
            have L126 : ∀ (fuel : Nat) (K5 : KS) (S5 Q5 : SS) (fi5 pa5 nu6 we5 co5 : Int), (MRep S5 n K5) → (KO K K5 (fun k _ => k = 4 ∨ k = 120)) → (PS K5 cd pa5 fi5 ad nu6 rm we5 co5) → (S5 = zif ad Q5 S) → (trR Z Q pa = attA Z (fi5, pa5, nu6, we5, co5, Q5)) → (TrI Z Q (fi5, pa5, nu6, we5, co5, Q5)) → (Z 24 0 - pa5 + fi5).toNat < fuel → Y x n α K5 0 0 126 [(2, .int (iI s2)), (1, .int (iI s1)), (0, .ref (α 4 0))] [] := by
              intro fuel126
              induction fuel126 with
              | zero => intro K5 S5 Q5 fi5 pa5 nu6 we5 co5 hM5 hk5 hps5 hS5 htr hti hfu126; exact absurd hfu126 (Nat.not_lt_zero _)
              | succ fuel126 ih126 =>
                intro K5 S5 Q5 fi5 pa5 nu6 we5 co5 hM5 hk5 hps5 hS5 htr hti hfu126
                obtain ⟨j1, j2, j3, j4, j5, j6⟩ := id hti
                dsimp only at j1 j2 j3 j4
                have hz5 : SZ S5 Z := by rw [hS5]; exact zif_z j5 hz
                have q524 : S5 24 0 = Z 24 0 := congrFun (hz5 24 (by decide) (by decide)) 0
                have hQs5 : ad = 1 → S5 = Q5 := fun z => by rw [hS5]; exact zif_1 z
                refine y_aload_n hE rfl 2 rfl dX4_readsTransition_126 ?_
                refine gX4_197 (z := fi5) hE h40 hps5.2.2.1 dX4_readsTransition_127 ?_
                refine y_if_eq hE 164 (by decide) (by omega) dX4_readsTransition_130 (fun c_130 => ?_) (fun c_130 => ?_)
                · have hex : ¬ (fi5 = 1 ∧ pa5 < Z 24 0 ∧ Z 23 pa5 ≠ 59) := by omega
                  refine y_vret (r := 0) hE rfl hQ dX4_readsTransition_164 Ext.rf ?_
                  refine ⟨rfl, rfl, by rw [htr, attA_n hex]; show MRep (zif ad Q5 S) n _; rw [← hS5]; exact hM5, hk5, ?_, trivial⟩
                  rw [htr, attA_n hex]
                  dsimp only
                  have q := (show PS K5 cd pa5 fi5 ad nu6 rm we5 co5 from ⟨hps5.1, hps5.2.1, hps5.2.2.1, hps5.2.2.2.1, hps5.2.2.2.2.1, hps5.2.2.2.2.2.1, hps5.2.2.2.2.2.2.1, hps5.2.2.2.2.2.2.2⟩)
                  exact ⟨q.1.trans (by omega), q.2.1.trans (by omega), q.2.2.1.trans (by omega), q.2.2.2.1.trans (by omega), q.2.2.2.2.1.trans (by omega), q.2.2.2.2.2.1.trans (by omega), q.2.2.2.2.2.2.1.trans (by omega), q.2.2.2.2.2.2.2.trans (by omega)⟩
                · refine y_aload_n hE rfl 2 rfl dX4_readsTransition_133 ?_
                  refine gX4_191 (z := pa5) hE h40 hps5.2.1 dX4_readsTransition_134 ?_
                  refine y_aload_n hE rfl 2 rfl dX4_readsTransition_137 ?_
                  refine gX4_188 (z := (Z 24 0)) hE h40 ((hM5.2.2.2.2.2.2.2.2).trans (congrFun ((show SZ S5 Z by assumption) 24 (by decide) (by decide)) 0)) dX4_readsTransition_138 ?_
                  refine y_icmp_ge hE 164 (by decide) (by omega) (by omega) dX4_readsTransition_141 (fun c_141 => ?_) (fun c_141 => ?_)
                  · have hex : ¬ (fi5 = 1 ∧ pa5 < Z 24 0 ∧ Z 23 pa5 ≠ 59) := by omega
                    refine y_vret (r := 0) hE rfl hQ dX4_readsTransition_164 Ext.rf ?_
                    refine ⟨rfl, rfl, by rw [htr, attA_n hex]; show MRep (zif ad Q5 S) n _; rw [← hS5]; exact hM5, hk5, ?_, trivial⟩
                    rw [htr, attA_n hex]
                    dsimp only
                    have q := (show PS K5 cd pa5 fi5 ad nu6 rm we5 co5 from ⟨hps5.1, hps5.2.1, hps5.2.2.1, hps5.2.2.2.1, hps5.2.2.2.2.1, hps5.2.2.2.2.2.1, hps5.2.2.2.2.2.2.1, hps5.2.2.2.2.2.2.2⟩)
                    exact ⟨q.1.trans (by omega), q.2.1.trans (by omega), q.2.2.1.trans (by omega), q.2.2.2.1.trans (by omega), q.2.2.2.2.1.trans (by omega), q.2.2.2.2.2.1.trans (by omega), q.2.2.2.2.2.2.1.trans (by omega), q.2.2.2.2.2.2.2.trans (by omega)⟩
                  · refine y_aload_n hE rfl 2 rfl dX4_readsTransition_144 ?_
                    refine y_bipush hE (by decide) dX4_readsTransition_145 ?_
                    refine y_callV hE (m_X4_here S5 Z cd pa5 fi5 ad nu6 rm we5 co5 59 h40 hM5 ⟨hps5.1, hps5.2.1, hps5.2.2.1, hps5.2.2.2.1, hps5.2.2.2.2.1, hps5.2.2.2.2.2.1, hps5.2.2.2.2.2.2.1, hps5.2.2.2.2.2.2.2⟩ (by assumption) (by assumption) (by omega) (by omega) (by omega)) (lw_V q3014 q3016 qs70 q133 q3017) (nA := 1) (by decide +kernel) rfl ⟨Nat.le_of_ble_eq_true rfl, Nat.le_of_ble_eq_true rfl⟩ (hdd := rfl) (hcc := rfl) (hq := rfl) (hi := h40) (rest := []) rfl (by decide) dX4_readsTransition_147 (bc' := 0) (bs' := 0) (Nat.le_refl _) (Nat.le_refl _) (fun r_147 n_147 α_147 K_147 hx_147 hp_147 => ?_)
                    obtain ⟨rfl, rfl, rfl, hr_147⟩ := hp_147
                    have e_147 : hI Z pa5 59 = r_147 := Eq.symm (by rw [hr_147.1])
                    subst e_147
                    refine y_to (st' := [.int (iI (hI Z pa5 59))]) rfl rfl rfl ?_
                    refine y_if_ne hE 164 (by decide) (by omega) dX4_readsTransition_150 (fun c_150 => ?_) (fun c_150 => ?_)
                    · have hex : ¬ (fi5 = 1 ∧ pa5 < Z 24 0 ∧ Z 23 pa5 ≠ 59) := fun z => by have := hI_ln (Z := Z) (a := pa5) (c := 59) (by omega); omega
                      refine y_vret (r := 0) hE rfl hQ dX4_readsTransition_164 Ext.rf ?_
                      refine ⟨rfl, rfl, by rw [htr, attA_n hex]; show MRep (zif ad Q5 S) n _; rw [← hS5]; exact hM5, hk5, ?_, trivial⟩
                      rw [htr, attA_n hex]
                      dsimp only
                      have q := (show PS K5 cd pa5 fi5 ad nu6 rm we5 co5 from ⟨hps5.1, hps5.2.1, hps5.2.2.1, hps5.2.2.2.1, hps5.2.2.2.2.1, hps5.2.2.2.2.2.1, hps5.2.2.2.2.2.2.1, hps5.2.2.2.2.2.2.2⟩)
                      exact ⟨q.1.trans (by omega), q.2.1.trans (by omega), q.2.2.1.trans (by omega), q.2.2.2.1.trans (by omega), q.2.2.2.2.1.trans (by omega), q.2.2.2.2.2.1.trans (by omega), q.2.2.2.2.2.2.1.trans (by omega), q.2.2.2.2.2.2.2.trans (by omega)⟩
                    · have hno : Z 23 pa5 ≠ 59 := fun z => by unfold hI at c_150; rw [if_pos ⟨by omega, z⟩] at c_150; omega
                      have hgo : fi5 = 1 ∧ pa5 < Z 24 0 ∧ Z 23 pa5 ≠ 59 := ⟨by omega, by omega, hno⟩
                      have hti2 := atS_ok hWz hti h21.1 hgo.1
                      have hi5 := hti.2.2.2.2.2
                      have g1 : (Q5 21 0 = Q 21 0 + 1 ∧ Q 21 0 < 24) ∧ Q5 20 (17 * Q 21 0 + 7) = co5 := by rcases hi5 with ⟨-, q⟩ | ⟨q1, q2⟩; (have q : fi5 = 0 := q; omega); exact ⟨q1, q2 hgo.1⟩
                      obtain ⟨v1, v2, v3, v4⟩ := atA_in hWz (we := we5) (co := co5) j2
                      have v5 := sk_in v2
                      refine y_aload_n hE rfl 2 rfl dX4_readsTransition_153 ?_
                      refine y_callV hE (m_X4_readsAttribute S5 Z cd pa5 fi5 ad nu6 rm we5 co5 Q5 h40 hM5 ⟨hps5.1, hps5.2.1, hps5.2.2.1, hps5.2.2.2.1, hps5.2.2.2.2.1, hps5.2.2.2.2.2.1, hps5.2.2.2.2.2.2.1, hps5.2.2.2.2.2.2.2⟩ (by assumption) (by assumption) (by omega) (by omega) (hQs5) (j5) (by omega) (by omega) (by omega) (by omega) (by rw [g1.1.1, show Q 21 0 + 1 - 1 = Q 21 0 by omega]; exact g1.2)) (lw_V q3028 q3030 qs73 q133 q3031) (nA := 0) (by decide +kernel) rfl ⟨Nat.le_of_ble_eq_true rfl, Nat.le_of_ble_eq_true rfl⟩ (hdd := rfl) (hcc := rfl) (hq := rfl) (hi := h40) (rest := []) rfl (by decide) dX4_readsTransition_154 (bc' := 0) (bs' := 0) (Nat.le_refl _) (Nat.le_refl _) (fun r_154 n_154 α_154 K_154 hx_154 hp_154 => ?_)
                      obtain ⟨rfl, rfl, hM_154, hk_154, hr_154⟩ := hp_154
                      obtain ⟨⟨z25_154, z30_154, z31_154, z32_154, z33_154, z34_154, z35_154, z36_154⟩, hr_154⟩ := hr_154
                      refine y_to (st' := []) rfl rfl rfl ?_
                      have hz154 : SZ (zif ad (atQ Z Q5 pa5 we5 co5) S5) Z := zif_z hti2.2.2.2.2.1 hz5
                      refine y_aload_n hE rfl 2 rfl dX4_readsTransition_157 ?_
                      refine y_callV hE (m_X4_skips (zif ad (atQ Z Q5 pa5 we5 co5) S5) Z cd (atA Z pa5 we5 co5) (atF Z pa5 we5 co5) ad (atN Z pa5 we5 co5 nu6) rm (atE Z pa5 we5 co5) (atC Z pa5 we5 co5) h40 hM_154 ⟨z25_154, z30_154, z31_154, z32_154, z33_154, z34_154, z35_154, z36_154⟩ (by assumption) (by assumption) (by omega)) (lw_V q3006 q3008 qs68 q133 q3009) (nA := 0) (by decide +kernel) rfl ⟨Nat.le_of_ble_eq_true rfl, Nat.le_of_ble_eq_true rfl⟩ (hdd := rfl) (hcc := rfl) (hq := rfl) (hi := h40) (rest := []) rfl (by decide) dX4_readsTransition_158 (bc' := 0) (bs' := 0) (Nat.le_refl _) (Nat.le_refl _) (fun r_158 n_158 α_158 K_158 hx_158 hp_158 => ?_)
                      obtain ⟨rfl, rfl, hM_158, hk_158, hr_158⟩ := hp_158
                      obtain ⟨⟨z25_158, z30_158, z31_158, z32_158, z33_158, z34_158, z35_158, z36_158⟩, hr_158⟩ := hr_158
                      refine y_to (st' := []) rfl rfl rfl ?_
                      refine y_goto hE 126 (by decide) dX4_readsTransition_161 ?_
                      exact ih126 K_158 (zif ad (atQ Z Q5 pa5 we5 co5) S5) (atQ Z Q5 pa5 we5 co5) (atF Z pa5 we5 co5) (sk Z (atA Z pa5 we5 co5)) (atN Z pa5 we5 co5 nu6) (atE Z pa5 we5 co5) (atC Z pa5 we5 co5) (hM_158) (((hk5.tr hk_154).tr (KO.mono hk_158 (fun k i z => by (try dsimp only at z); (try dsimp only); omega)))) (⟨z25_158, z30_158, z31_158, z32_158, z33_158, z34_158, z35_158, z36_158⟩) (by rw [hS5, zif_zif]) (htr.trans (attA_y hWz j2 hgo)) (hti2) (by omega)
            exact L126 _ K_123 S6 (tQ5 Z Q (tF0 Z Q pa) pa) f5 (sk Z p5) nu5 w0 0 (hM_123) (((KO.up (KO.up hk6 (by decide)) (by decide)).tr (KO.mono hk_123 (fun k i z => by (try dsimp only at z); (try dsimp only); omega)))) (⟨z25_123, z30_123, z31_123, z32_123, z33_123, z34_123, z35_123, z36_123⟩) (hS6) (by unfold trR tR6; rw [← hf5, ← hp5, ← hn5, ← hs1, ← hw0]) (by have q := htr6; unfold tR6 at q; rw [← hf5, ← hp5, ← hn5, ← hs1, ← hw0] at q; exact q) (Nat.lt_succ_self _)
          refine y_iload_n hE rfl 1 rfl dX4_readsTransition_104 ?_
          refine y_iconst hE dX4_readsTransition_105 ?_
          refine y_icmp_ne hE 113 (by decide) (by omega) (by omega) dX4_readsTransition_106 (fun c_106 => ?_) (fun c_106 => ?_)
          · refine y_iconst hE dX4_readsTransition_113 ?_
            exact J114 0 (by first | rw [if_pos (by omega)] | rw [if_neg (by omega)])
          · refine y_iconst hE dX4_readsTransition_109 ?_
            refine y_goto hE 114 (by decide) dX4_readsTransition_110 ?_
            exact J114 1 (by first | rw [if_pos (by omega)] | rw [if_neg (by omega)])
        refine y_aload_n hE rfl 2 rfl dX4_readsTransition_79 ?_
        refine gX4_197 (z := f5) hE h40 hps4.2.2.1 dX4_readsTransition_80 ?_
        refine y_if_eq hE 103 (by decide) (by omega) dX4_readsTransition_83 (fun c_83 => ?_) (fun c_83 => ?_)
        · exact J103 K4 S (hM4) (hk4) (⟨hps4.1, hps4.2.1, hps4.2.2.1, hps4.2.2.2.1, hps4.2.2.2.2.1, hps4.2.2.2.2.2.1, hps4.2.2.2.2.2.2.1, hps4.2.2.2.2.2.2.2⟩) (by unfold tQ5; first | (rw [if_neg (by omega), zif_e hQs]; done) | (rw [zif_0 (by omega)]; done) | (rw [zif_1 (by omega), if_pos (by omega), hQs (by omega), ← hs1, ← hs2, ← hn5]; done))
        · refine y_aload_n hE rfl 2 rfl dX4_readsTransition_86 ?_
          refine gX4_211 (z := ad) hE h40 hps4.2.2.2.1 dX4_readsTransition_87 ?_
          refine y_if_eq hE 103 (by decide) (by omega) dX4_readsTransition_90 (fun c_90 => ?_) (fun c_90 => ?_)
          · exact J103 K4 S (hM4) (hk4) (⟨hps4.1, hps4.2.1, hps4.2.2.1, hps4.2.2.2.1, hps4.2.2.2.2.1, hps4.2.2.2.2.2.1, hps4.2.2.2.2.2.2.1, hps4.2.2.2.2.2.2.2⟩) (by unfold tQ5; first | (rw [if_neg (by omega), zif_e hQs]; done) | (rw [zif_0 (by omega)]; done) | (rw [zif_1 (by omega), if_pos (by omega), hQs (by omega), ← hs1, ← hs2, ← hn5]; done))
          · refine y_aload_n hE rfl 2 rfl dX4_readsTransition_93 ?_
            refine y_iload_n hE rfl 1 rfl dX4_readsTransition_94 ?_
            refine y_iload_n hE rfl 0 rfl dX4_readsTransition_95 ?_
            refine y_aload_n hE rfl 2 rfl dX4_readsTransition_96 ?_
            refine gX4_208 (z := nu5) hE h40 hps4.2.2.2.2.1 dX4_readsTransition_97 ?_
            refine y_callV hE (m_X4_newTransition2 S s1 s2 nu5 h40 hM4 (by omega)) (lw_V q2950 q2952 qs62 q133 q2953) (nA := 3) (by decide +kernel) rfl ⟨Nat.le_of_ble_eq_true rfl, Nat.le_of_ble_eq_true rfl⟩ (hdd := rfl) (hcc := rfl) (hq := rfl) (hi := h40) (rest := []) rfl (by decide) dX4_readsTransition_100 (bc' := 0) (bs' := 0) (Nat.le_refl _) (Nat.le_refl _) (fun r_100 n_100 α_100 K_100 hx_100 hp_100 => ?_)
            obtain ⟨rfl, rfl, hM_100, hk_100, hr_100⟩ := hp_100
            have z25_100 : K_100 4 0 25 = cd := (hr_100 25 (by decide)).trans hps4.1
            have z30_100 : K_100 4 0 30 = p5 := (hr_100 30 (by decide)).trans hps4.2.1
            have z31_100 : K_100 4 0 31 = f5 := (hr_100 31 (by decide)).trans hps4.2.2.1
            have z32_100 : K_100 4 0 32 = ad := (hr_100 32 (by decide)).trans hps4.2.2.2.1
            have z33_100 : K_100 4 0 33 = nu5 := (hr_100 33 (by decide)).trans hps4.2.2.2.2.1
            have z34_100 : K_100 4 0 34 = rm := (hr_100 34 (by decide)).trans hps4.2.2.2.2.2.1
            have z35_100 : K_100 4 0 35 = we := (hr_100 35 (by decide)).trans hps4.2.2.2.2.2.2.1
            have z36_100 : K_100 4 0 36 = co := (hr_100 36 (by decide)).trans hps4.2.2.2.2.2.2.2
            refine y_to (st' := []) rfl rfl rfl ?_
            exact J103 K_100 (newTr S s1 s2 nu5) (hM_100) ((hk4.tr (KO.mono hk_100 (fun k i z => by (try dsimp only at z); (try dsimp only); omega)))) (⟨z25_100, z30_100, z31_100, z32_100, z33_100, z34_100, z35_100, z36_100⟩) (by unfold tQ5; first | (rw [if_neg (by omega), zif_e hQs]; done) | (rw [zif_0 (by omega)]; done) | (rw [zif_1 (by omega), if_pos (by omega), hQs (by omega), ← hs1, ← hs2, ← hn5]; done))
      refine y_aload_n hE rfl 1 rfl dX4_readsTransition_61 ?_
      refine y_iconst hE dX4_readsTransition_62 ?_
      refine y_callV hE (m_X4_readsState S Z cd p2 f2 ad nu rm we co 0 h40 hM3 ⟨hps3.1, hps3.2.1, hps3.2.2.1, hps3.2.2.2.1, hps3.2.2.2.2.1, hps3.2.2.2.2.2.1, hps3.2.2.2.2.2.2.1, hps3.2.2.2.2.2.2.2⟩ (by assumption) (by assumption) (by omega) (by omega) (by omega)) (lw_V q3010 q3012 qs69 q133 q3013) (nA := 1) (by decide +kernel) rfl ⟨Nat.le_of_ble_eq_true rfl, Nat.le_of_ble_eq_true rfl⟩ (hdd := rfl) (hcc := rfl) (hq := rfl) (hi := h40) (rest := []) rfl (by decide) dX4_readsTransition_63 (bc' := 0) (bs' := 0) (Nat.le_refl _) (Nat.le_refl _) (fun r_63 n_63 α_63 K_63 hx_63 hp_63 => ?_)
      obtain ⟨rfl, rfl, hM_63, hk_63, hr_63⟩ := hp_63
      obtain ⟨⟨z25_63, z30_63, z31_63, z32_63, z33_63, z34_63, z35_63, z36_63⟩, hr_63⟩ := hr_63
      have e_63 : stV Z (sk Z p2) 0 = r_63 := Eq.symm (by rw [hr_63])
      subst e_63
      refine y_to (st' := [.int (iI (stV Z (sk Z p2) 0))]) rfl rfl rfl ?_
      have e3 : stF Z p2 f2 0 = tF3 Z (tF0 Z Q pa) pa := by rw [hp2, hf2]; rfl
      have e3a : sk Z p2 + stF Z p2 f2 0 = tA3 Z (tF0 Z Q pa) pa := by rw [hp2, hf2]; rfl
      refine y_istore_n hE rfl [(2, .int (iI (stV Z (sk Z p2) 0))), (1, .int (iI s1)), (0, .ref (α 4 0))] (by decide) rfl dX4_readsTransition_66 ?_
      refine y_aload_n hE rfl 2 rfl dX4_readsTransition_67 ?_
      refine y_bipush hE (by decide) dX4_readsTransition_68 ?_
      refine y_callV hE (m_X4_reads S Z cd (sk Z p2 + stF Z p2 f2 0) (stF Z p2 f2 0) ad nu rm we co 47 h40 hM_63 ⟨z25_63, z30_63, z31_63, z32_63, z33_63, z34_63, z35_63, z36_63⟩ (by assumption) (by assumption) (by omega) (by omega) (by omega)) (lw_V q3018 q3020 qs71 q133 q3021) (nA := 1) (by decide +kernel) rfl ⟨Nat.le_of_ble_eq_true rfl, Nat.le_of_ble_eq_true rfl⟩ (hdd := rfl) (hcc := rfl) (hq := rfl) (hi := h40) (rest := []) rfl (by decide) dX4_readsTransition_70 (bc' := 0) (bs' := 0) (Nat.le_refl _) (Nat.le_refl _) (fun r_70 n_70 α_70 K_70 hx_70 hp_70 => ?_)
      obtain ⟨rfl, rfl, hM_70, hk_70, hr_70⟩ := hp_70
      obtain ⟨⟨z25_70, z30_70, z31_70, z32_70, z33_70, z34_70, z35_70, z36_70⟩, hr_70⟩ := hr_70
      refine y_to (st' := []) rfl rfl rfl ?_
      have e4 : rdF Z (sk Z p2 + stF Z p2 f2 0) (stF Z p2 f2 0) 47 = tF4 Z (tF0 Z Q pa) pa := by rw [hp2, hf2]; rfl
      have e4a : sk Z (sk Z p2 + stF Z p2 f2 0) + rdF Z (sk Z p2 + stF Z p2 f2 0) (stF Z p2 f2 0) 47 = tA4 Z (tF0 Z Q pa) pa := by rw [hp2, hf2]; rfl
      refine y_aload_n hE rfl 2 rfl dX4_readsTransition_73 ?_
      refine y_bipush hE (by decide) dX4_readsTransition_74 ?_
      refine y_callV hE (m_X4_readsNumber S Z cd (sk Z (sk Z p2 + stF Z p2 f2 0) + rdF Z (sk Z p2 + stF Z p2 f2 0) (stF Z p2 f2 0) 47) (rdF Z (sk Z p2 + stF Z p2 f2 0) (stF Z p2 f2 0) 47) ad nu rm we co 60 h40 hM_70 ⟨z25_70, z30_70, z31_70, z32_70, z33_70, z34_70, z35_70, z36_70⟩ (by assumption) (by assumption) (by omega) (by omega) (by omega)) (lw_V q3022 q3024 qs72 q133 q3025) (nA := 1) (by decide +kernel) rfl ⟨Nat.le_of_ble_eq_true rfl, Nat.le_of_ble_eq_true rfl⟩ (hdd := rfl) (hcc := rfl) (hq := rfl) (hi := h40) (rest := []) rfl (by decide) dX4_readsTransition_76 (bc' := 0) (bs' := 0) (Nat.le_refl _) (Nat.le_refl _) (fun r_76 n_76 α_76 K_76 hx_76 hp_76 => ?_)
      obtain ⟨rfl, rfl, hM_76, hk_76, hr_76⟩ := hp_76
      obtain ⟨⟨z25_76, z30_76, z31_76, z32_76, z33_76, z34_76, z35_76, z36_76⟩, hr_76⟩ := hr_76
      refine y_to (st' := []) rfl rfl rfl ?_
      exact J79 K_76 (nuA Z (sk Z (sk Z p2 + stF Z p2 f2 0) + rdF Z (sk Z p2 + stF Z p2 f2 0) (stF Z p2 f2 0) 47) (rdF Z (sk Z p2 + stF Z p2 f2 0) (stF Z p2 f2 0) 47) 60) (nuF Z (sk Z (sk Z p2 + stF Z p2 f2 0) + rdF Z (sk Z p2 + stF Z p2 f2 0) (stF Z p2 f2 0) 47) (rdF Z (sk Z p2 + stF Z p2 f2 0) (stF Z p2 f2 0) 47) 60) (nuV Z (sk Z (sk Z p2 + stF Z p2 f2 0) + rdF Z (sk Z p2 + stF Z p2 f2 0) (stF Z p2 f2 0) 47) (rdF Z (sk Z p2 + stF Z p2 f2 0) (stF Z p2 f2 0) 47)) (stV Z (sk Z p2) 0) (hM_76) ((((hk3.tr (KO.mono hk_63 (fun k i z => by (try dsimp only at z); (try dsimp only); omega))).tr (KO.mono hk_70 (fun k i z => by (try dsimp only at z); (try dsimp only); omega))).tr (KO.mono hk_76 (fun k i z => by (try dsimp only at z); (try dsimp only); omega)))) (⟨z25_76, z30_76, z31_76, z32_76, z33_76, z34_76, z35_76, z36_76⟩) (by rw [hp2, hf2]; rfl) (by rw [hp2, hf2]; rfl) (by rw [hp2, hf2]; rfl) (by rw [hp2]; rfl)
    refine y_aload_n hE rfl 0 rfl dX4_readsTransition_49 ?_
    refine y_iconst hE dX4_readsTransition_50 ?_
    refine y_callV hE (m_X4_readsState S Z cd (sk Z pa) f0 ad nu rm we co 1 h40 (MRep.t hM_1 31 (by decide) f0) ⟨z25_1, z30_1, (by simp [up3, upr]), z32_1, z33_1, z34_1, z35_1, z36_1⟩ (by assumption) (by assumption) (by omega) (by omega) (by omega)) (lw_V q3010 q3012 qs69 q133 q3013) (nA := 1) (by decide +kernel) rfl ⟨Nat.le_of_ble_eq_true rfl, Nat.le_of_ble_eq_true rfl⟩ (hdd := rfl) (hcc := rfl) (hq := rfl) (hi := h40) (rest := []) rfl (by decide) dX4_readsTransition_51 (bc' := 0) (bs' := 0) (Nat.le_refl _) (Nat.le_refl _) (fun r_51 n_51 α_51 K_51 hx_51 hp_51 => ?_)
    obtain ⟨rfl, rfl, hM_51, hk_51, hr_51⟩ := hp_51
    obtain ⟨⟨z25_51, z30_51, z31_51, z32_51, z33_51, z34_51, z35_51, z36_51⟩, hr_51⟩ := hr_51
    have e_51 : stV Z (sk Z (sk Z pa)) 1 = r_51 := Eq.symm (by rw [hr_51])
    subst e_51
    refine y_to (st' := [.int (iI (stV Z (sk Z (sk Z pa)) 1))]) rfl rfl rfl ?_
    have e1 : stF Z (sk Z pa) f0 1 = tF1 Z (tF0 Z Q pa) pa := by rw [hf0]; rfl
    have e1a : sk Z (sk Z pa) + stF Z (sk Z pa) f0 1 = tA1 Z (tF0 Z Q pa) pa := by rw [hf0]; rfl
    refine y_istore_n hE rfl [(1, .int (iI (stV Z (sk Z (sk Z pa)) 1))), (0, .ref (α 4 0))] (by decide) rfl dX4_readsTransition_54 ?_
    refine y_aload_n hE rfl 1 rfl dX4_readsTransition_55 ?_
    refine y_bipush hE (by decide) dX4_readsTransition_56 ?_
    refine y_callV hE (m_X4_reads S Z cd (sk Z (sk Z pa) + stF Z (sk Z pa) f0 1) (stF Z (sk Z pa) f0 1) ad nu rm we co 62 h40 hM_51 ⟨z25_51, z30_51, z31_51, z32_51, z33_51, z34_51, z35_51, z36_51⟩ (by assumption) (by assumption) (by omega) (by omega) (by omega)) (lw_V q3018 q3020 qs71 q133 q3021) (nA := 1) (by decide +kernel) rfl ⟨Nat.le_of_ble_eq_true rfl, Nat.le_of_ble_eq_true rfl⟩ (hdd := rfl) (hcc := rfl) (hq := rfl) (hi := h40) (rest := []) rfl (by decide) dX4_readsTransition_58 (bc' := 0) (bs' := 0) (Nat.le_refl _) (Nat.le_refl _) (fun r_58 n_58 α_58 K_58 hx_58 hp_58 => ?_)
    obtain ⟨rfl, rfl, hM_58, hk_58, hr_58⟩ := hp_58
    obtain ⟨⟨z25_58, z30_58, z31_58, z32_58, z33_58, z34_58, z35_58, z36_58⟩, hr_58⟩ := hr_58
    refine y_to (st' := []) rfl rfl rfl ?_
    have e2 : rdF Z (sk Z (sk Z pa) + stF Z (sk Z pa) f0 1) (stF Z (sk Z pa) f0 1) 62 = tF2 Z (tF0 Z Q pa) pa := by rw [hf0]; rfl
    have e2a : sk Z (sk Z (sk Z pa) + stF Z (sk Z pa) f0 1) + rdF Z (sk Z (sk Z pa) + stF Z (sk Z pa) f0 1) (stF Z (sk Z pa) f0 1) 62 = tA2 Z (tF0 Z Q pa) pa := by rw [hf0]; rfl
    exact J61 K_58 (sk Z (sk Z (sk Z pa) + stF Z (sk Z pa) f0 1) + rdF Z (sk Z (sk Z pa) + stF Z (sk Z pa) f0 1) (stF Z (sk Z pa) f0 1) 62) (rdF Z (sk Z (sk Z pa) + stF Z (sk Z pa) f0 1) (stF Z (sk Z pa) f0 1) 62) (stV Z (sk Z (sk Z pa)) 1) (hM_58) ((((KO.up (KO.mono hk_1 (fun k i z => by (try dsimp only at z); (try dsimp only); omega)) (by decide)).tr (KO.mono hk_51 (fun k i z => by (try dsimp only at z); (try dsimp only); omega))).tr (KO.mono hk_58 (fun k i z => by (try dsimp only at z); (try dsimp only); omega)))) (⟨z25_58, z30_58, z31_58, z32_58, z33_58, z34_58, z35_58, z36_58⟩) (by rw [hf0]; rfl) (by rw [hf0]; rfl) (rfl) (stV_in hWz (by omega))
  refine y_aload_n hE rfl 0 rfl dX4_readsTransition_5 ?_
  refine gX4_191 (z := (sk Z pa)) hE h40 z30_1 dX4_readsTransition_6 ?_
  refine y_aload_n hE rfl 0 rfl dX4_readsTransition_9 ?_
  refine gX4_188 (z := (Z 24 0)) hE h40 ((hM_1.2.2.2.2.2.2.2.2).trans (congrFun ((show SZ S Z by assumption) 24 (by decide) (by decide)) 0)) dX4_readsTransition_10 ?_
  refine y_icmp_ge hE 45 (by decide) (by omega) (by omega) dX4_readsTransition_13 (fun c_13 => ?_) (fun c_13 => ?_)
  · refine y_iconst hE dX4_readsTransition_45 ?_
    exact J46 0 (by unfold tF0; first | rw [if_pos (by omega)] | rw [if_neg (by omega)])
  · have J35 : ∀ (xm : Int), (xm = Q 21 0 - S 21 0) → Y x n α K_1 0 0 35 [(0, .ref (α 4 0))] [.int (iI xm), .int (iI (S 21 0)), .ref (α 4 0)] := by
      intro xm hxm
      refine y_iadd hE dX4_readsTransition_35 ?_
      refine y_bipush hE (by decide) dX4_readsTransition_36 ?_
      refine y_icmp_ge hE 45 (by decide) (by omega) (by omega) dX4_readsTransition_38 (fun c_38 => ?_) (fun c_38 => ?_)
      · refine y_iconst hE dX4_readsTransition_45 ?_
        exact J46 0 (by unfold tF0; first | rw [if_pos (by omega)] | rw [if_neg (by omega)])
      · refine y_iconst hE dX4_readsTransition_41 ?_
        refine y_goto hE 46 (by decide) dX4_readsTransition_42 ?_
        exact J46 1 (by unfold tF0; first | rw [if_pos (by omega)] | rw [if_neg (by omega)])
    refine y_aload_n hE rfl 0 rfl dX4_readsTransition_16 ?_
    refine gX4_159 (z := S 21 0) hE h40 (hM_1.2.2.2.2.2.2.1) dX4_readsTransition_17 ?_
    refine y_aload_n hE rfl 0 rfl dX4_readsTransition_20 ?_
    refine gX4_211 (z := ad) hE h40 z32_1 dX4_readsTransition_21 ?_
    refine y_if_eq hE 31 (by decide) (by omega) dX4_readsTransition_24 (fun c_24 => ?_) (fun c_24 => ?_)
    · refine y_aload_n hE rfl 0 rfl dX4_readsTransition_31 ?_
      refine gX4_214 (z := rm) hE h40 z34_1 dX4_readsTransition_32 ?_
      exact J35 rm (by omega)
    · refine y_iconst hE dX4_readsTransition_27 ?_
      refine y_goto hE 35 (by decide) dX4_readsTransition_28 ?_
      exact J35 0 (by omega)
