set_option linter.unusedVariables false
set_option maxHeartbeats 4000000 in
set_option maxRecDepth 100000 in
theorem m_X4_freezes {w : KW} {n : KN} {α : KA} {K : KS} (S : SS) (T l : Int) (h40 : (0 : Int) ≤ 0 ∧ 0 < n 4) (hM : MRep S n K) (hW : WFs S) (hv0 : WFv S) (hX : WFm S 0 T) (hl : -2147483648 ≤ l ∧ l ≤ 2147483647) : KM w yX4_freezes cX4_freezes 3 none { frames := 4, cells := 0, slots := 0, locals := 104 } (3, 0) [.ref (α 4 0), .int (iI l)] n α K (fun r n' α' K' => n = n' ∧ α = α' ∧ MRep (frzS S l) n K' ∧ KO K K' (fun k i => k = 127 ∨ k = 128 ∨ k = 129 ∨ k = 137 ∨ k = 138 ∨ k = 139 ∨ k = 4 ∨ k = 100) ∧ (K' 4 0 25 = K 4 0 25)) := by
  refine y_start (by decide) (Nat.le_of_ble_eq_true rfl) (fun x hE hQ => ?_)
  have hw := hQ.2
  subst hw
  have hE : YE x cX4_freezes RX4 none "freezes" 3 { frames := 4, cells := 0, slots := 0, locals := 104 } := hE
  refine y_wk (fun hWK => ?_)
  have hn0 := hWK.1
  refine y_bud (bc' := 0) (bs' := 0) (Nat.le_refl _) (Nat.le_refl _) ?_
  refine y_to (lv' := [(0, .ref (α 4 0)), (1, .int (iI l))]) (st' := []) rfl rfl rfl ?_
  have wpar := hW.par
  have wclips := hW.clips
  have wnodes := hW.nodes
  have wsts := hW.sts
  have wtrs := hW.trs
  have wthr := hW.thr
  have wtxt := hW.txt
  have xinn := hX.inn
  have xcuts := hX.cuts
  have xfro := hX.fro
  have xmany := hX.many
  have xevn := hX.evn
  have xtks := hX.tks
  simp only [Int.zero_add] at xinn xcuts xfro xmany xevn xtks
  have xta := hX.ta
  have xtb := hX.tb
  simp only [Int.zero_add] at xta xtb
  unfold TkOk at xta xtb
  obtain ⟨hpo, hpl⟩ := poseS_ok hW hX
  have hpe : EOk (poseS S) := PoseB.eok hW (x := 1000000) hpo (Int.le_refl _)
  refine y_aload_n hE rfl 0 rfl dX4_freezes_0 ?_
  refine y_callV hE (m_X4_poses S T h40 hM (by first | exact hW | omega) (by first | exact hv0 | omega) (by first | exact hX | omega)) (lw_V q3048 q3050 qs76 q133 q3051) (nA := 0) (by decide +kernel) rfl ⟨Nat.le_of_ble_eq_true rfl, Nat.le_of_ble_eq_true rfl⟩ (hdd := rfl) (hcc := rfl) (hq := rfl) (hi := h40) (rest := []) rfl (by decide) dX4_freezes_1 (bc' := 0) (bs' := 0) (Nat.le_refl _) (Nat.le_refl _) (fun r_1 n_1 α_1 K_1 hx_1 hp_1 => ?_)
  obtain ⟨rfl, rfl, hM_1, hk_1, hr_1⟩ := hp_1
  refine y_to (st' := []) rfl rfl rfl ?_
  refine y_iconst hE dX4_freezes_4 ?_
  refine y_istore_n hE rfl [(2, .int (iI 0)), (0, .ref (α 4 0)), (1, .int (iI l))] (by decide) rfl dX4_freezes_5 ?_
  have L6 : ∀ (fuel : Nat) (K2 : KS) (k : Int), (MRep (frzM S (poseS S) k.toNat) n K2) → (KO K K2 (fun k i => k = 127 ∨ k = 128 ∨ k = 129 ∨ k = 137 ∨ k = 138 ∨ k = 139 ∨ k = 4 ∨ k = 100)) → (0 ≤ k ∧ k ≤ (poseS S).length) → (PA (poseS S) (K2 4 0 40) (K2 137 0) (K2 138 0) (K2 139 0)) → (K2 4 0 25 = K 4 0 25) → ((poseS S).length - k).toNat < fuel → Y x n α K2 0 0 6 [(2, .int (iI k)), (0, .ref (α 4 0)), (1, .int (iI l))] [] := by
    intro fuel6
    induction fuel6 with
    | zero => intro K2 k hM2 hk2 hk hR2 h25 hfu6; exact absurd hfu6 (Nat.not_lt_zero _)
    | succ fuel6 ih6 =>
      intro K2 k hM2 hk2 hk hR2 h25 hfu6
      refine y_iload_n hE rfl 0 rfl dX4_freezes_6 ?_
      refine y_aload_n hE rfl 1 rfl dX4_freezes_7 ?_
      refine gX4_265 (z := ((poseS S).length : Int)) hE h40 hR2.1 dX4_freezes_8 ?_
      refine y_icmp_ge hE 76 (by decide) (by omega) (by omega) dX4_freezes_11 (fun c_11 => ?_) (fun c_11 => ?_)
      · have hkl : k.toNat = (poseS S).length := by omega
        refine y_aload_n hE rfl 1 rfl dX4_freezes_76 ?_
        refine gX4_7r (z := 0) hE h40 (MObj.r hM2.1 0 (by decide)) (by omega) dX4_freezes_77 (fun hl_77 => ?_)
        refine y_bipush hE (by decide) dX4_freezes_80 ?_
        refine y_aload_n hE rfl 1 rfl dX4_freezes_82 ?_
        refine gX4_265 (z := ((poseS S).length : Int)) hE h40 hR2.1 dX4_freezes_83 ?_
        refine y_iast hE (by unfold kC; decide) rfl (by simp [kTag]) hl_77 (by have hL : K2 100 0 (-1) = 1160 := (MObj.l hM2.1 0 (by decide)); omega) dX4_freezes_86 ?_
        refine y_aload_n hE rfl 1 rfl dX4_freezes_87 ?_
        refine gX4_7r (z := 0) hE h40 (MObj.r hM2.1 0 (by decide)) (by omega) dX4_freezes_88 (fun hl_88 => ?_)
        refine y_bipush hE (by decide) dX4_freezes_91 ?_
        refine y_iconst hE dX4_freezes_93 ?_
        refine y_iast hE (by unfold kC; decide) rfl (by simp [kTag]) hl_88 (by have hL : (up3 K2 100 0 21 ((poseS S).length : Int)) 100 0 (-1) = 1160 := (MObj.l hM2.1 0 (by decide)); omega) dX4_freezes_94 ?_
        refine y_aload_n hE rfl 1 rfl dX4_freezes_95 ?_
        refine gX4_7r (z := 0) hE h40 (MObj.r hM2.1 0 (by decide)) (by omega) dX4_freezes_96 (fun hl_96 => ?_)
        refine y_bipush hE (by decide) dX4_freezes_99 ?_
        refine y_dup2 hE rfl rfl dX4_freezes_101 ?_
        refine y_iald hE rfl hl_96 (by have hL : (up3 (up3 K2 100 0 21 ((poseS S).length : Int)) 100 0 20 1) 100 0 (-1) = 1160 := (MObj.l hM2.1 0 (by decide)); omega) dX4_freezes_102 ?_
        refine y_to (st' := [.int (iI ((frzM S (poseS S) k.toNat) 0 11)), .int (iI 11), .ref (α 100 0)]) rfl rfl (by rw [show (up3 (up3 K2 100 0 21 ((poseS S).length : Int)) 100 0 20 1) 100 0 11 = (frzM S (poseS S) k.toNat) 0 11 from (MRep.ra hM2 0 rfl (by omega) (by first | omega | (show _ < (1160 : Int); omega)))]) ?_
        refine y_iconst hE dX4_freezes_103 ?_
        refine y_iadd hE dX4_freezes_104 ?_
        refine y_iast hE (by unfold kC; decide) rfl (by simp [kTag]) hl_96 (by have hL : (up3 (up3 K2 100 0 21 ((poseS S).length : Int)) 100 0 20 1) 100 0 (-1) = 1160 := (MObj.l hM2.1 0 (by decide)); omega) dX4_freezes_105 ?_
        refine y_iload_n hE rfl 2 rfl dX4_freezes_106 ?_
        refine y_iconst hE dX4_freezes_107 ?_
        refine y_icmp_ne hE 119 (by decide) (by omega) (by omega) dX4_freezes_108 (fun c_108 => ?_) (fun c_108 => ?_)
        · exact y_vret (r := 0) hE rfl hQ dX4_freezes_119 Ext.rf ⟨rfl, rfl, by unfold frzS frzY; rw [show frzM S (poseS S) (poseS S).length = frzM S (poseS S) k.toNat by rw [hkl]]; first | (rw [if_pos (by omega)]; exact (MRep.a (MRep.a (MRep.a hM2 0 rfl (j := 21) (by omega) ((poseS S).length : Int)) 0 rfl (j := 20) (by omega) 1) 0 rfl (j := 11) (by omega) (((frzM S (poseS S) k.toNat) 0 11) + 1))) | (rw [if_neg (by omega)]; exact (MRep.a (MRep.a (MRep.a hM2 0 rfl (j := 21) (by omega) ((poseS S).length : Int)) 0 rfl (j := 20) (by omega) 1) 0 rfl (j := 11) (by omega) (((frzM S (poseS S) k.toNat) 0 11) + 1))), (KO.up (KO.up (KO.up hk2 (by decide)) (by decide)) (by decide)), by first | (simp [up3]; exact h25) | exact (hk_116 4 0 (by decide) 25).trans (by simp [up3]; exact h25)⟩
        · refine y_aload_n hE rfl 1 rfl dX4_freezes_111 ?_
          refine y_bipush hE (by decide) dX4_freezes_112 ?_
          refine y_bipush hE (by decide) dX4_freezes_114 ?_
          refine y_callV hE (m_X4_copiesTrack (up2 (up2 (up2 (frzM S (poseS S) k.toNat) 0 21 ((poseS S).length : Int)) 0 20 1) 0 11 (((frzM S (poseS S) k.toNat) 0 11) + 1)) 16 12 h40 (MRep.a (MRep.a (MRep.a hM2 0 rfl (j := 21) (by omega) ((poseS S).length : Int)) 0 rfl (j := 20) (by omega) 1) 0 rfl (j := 11) (by omega) (((frzM S (poseS S) k.toNat) 0 11) + 1)) (by omega) (by omega) (by omega)) (lw_V q3150 q3152 qs96 q133 q3153) (nA := 2) (by decide +kernel) rfl ⟨Nat.le_of_ble_eq_true rfl, Nat.le_of_ble_eq_true rfl⟩ (hdd := rfl) (hcc := rfl) (hq := rfl) (hi := h40) (rest := []) rfl (by decide) dX4_freezes_116 (bc' := 0) (bs' := 0) (Nat.le_refl _) (Nat.le_refl _) (fun r_116 n_116 α_116 K_116 hx_116 hp_116 => ?_)
          obtain ⟨rfl, rfl, hM_116, hk_116, hr_116⟩ := hp_116
          refine y_to (st' := []) rfl rfl rfl ?_
          exact y_vret (r := 0) hE rfl hQ dX4_freezes_119 Ext.rf ⟨rfl, rfl, by unfold frzS frzY; rw [show frzM S (poseS S) (poseS S).length = frzM S (poseS S) k.toNat by rw [hkl]]; first | (rw [if_pos (by omega)]; exact hM_116) | (rw [if_neg (by omega)]; exact hM_116), ((KO.up (KO.up (KO.up hk2 (by decide)) (by decide)) (by decide)).tr (KO.mono hk_116 (fun k i z => by (try dsimp only at z); (try dsimp only); omega))), by first | (simp [up3]; exact h25) | exact (hk_116 4 0 (by decide) 25).trans (by simp [up3]; exact h25)⟩
      · have hat := hR2.ats (k := k) (by rw [hR2.1]; omega)
        refine y_aload_n hE rfl 1 rfl dX4_freezes_14 ?_
        refine gX4_7r (z := 0) hE h40 (MObj.r hM2.1 0 (by decide)) (by omega) dX4_freezes_15 (fun hl_15 => ?_)
        refine y_bipush hE (by decide) dX4_freezes_18 ?_
        refine y_iconst hE dX4_freezes_20 ?_
        refine y_iload_n hE rfl 0 rfl dX4_freezes_21 ?_
        refine y_imul hE dX4_freezes_22 ?_
        refine y_iadd hE dX4_freezes_23 ?_
        refine y_aload_n hE rfl 1 rfl dX4_freezes_24 ?_
        refine gX4_82r (z := 0) hE h40 (MObj.r hM2.1 37 (by decide)) (by omega) dX4_freezes_25 (fun hl_25 => ?_)
        refine y_iload_n hE rfl 0 rfl dX4_freezes_28 ?_
        refine y_iald hE rfl hl_25 (by have hL : K2 137 0 (-1) = 72 := (MObj.l hM2.1 37 (by decide)); omega) dX4_freezes_29 ?_
        refine y_to (st' := [.int (iI (eC (poseS S) k)), .int (iI (22 + (3 * k))), .ref (α 100 0)]) rfl rfl (by rw [show K2 137 0 k = (eC (poseS S) k) from hat.1]) ?_
        refine y_iast hE (by unfold kC; decide) rfl (by simp [kTag]) hl_15 (by have hL : K2 100 0 (-1) = 1160 := (MObj.l hM2.1 0 (by decide)); omega) dX4_freezes_30 ?_
        refine y_aload_n hE rfl 1 rfl dX4_freezes_31 ?_
        refine gX4_7r (z := 0) hE h40 (MObj.r hM2.1 0 (by decide)) (by omega) dX4_freezes_32 (fun hl_32 => ?_)
        refine y_bipush hE (by decide) dX4_freezes_35 ?_
        refine y_iconst hE dX4_freezes_37 ?_
        refine y_iload_n hE rfl 0 rfl dX4_freezes_38 ?_
        refine y_imul hE dX4_freezes_39 ?_
        refine y_iadd hE dX4_freezes_40 ?_
        refine y_iconst hE dX4_freezes_41 ?_
        refine y_iadd hE dX4_freezes_42 ?_
        refine y_aload_n hE rfl 1 rfl dX4_freezes_43 ?_
        refine gX4_85r (z := 0) hE h40 (MObj.r hM2.1 38 (by decide)) (by omega) dX4_freezes_44 (fun hl_44 => ?_)
        refine y_iload_n hE rfl 0 rfl dX4_freezes_47 ?_
        refine y_iald hE rfl hl_44 (by have hL : (up3 K2 100 0 (22 + (3 * k)) (eC (poseS S) k)) 138 0 (-1) = 72 := (MObj.l hM2.1 38 (by decide)); omega) dX4_freezes_48 ?_
        refine y_to (st' := [.int (iI (eT (poseS S) k)), .int (iI ((22 + (3 * k)) + 1)), .ref (α 100 0)]) rfl rfl (by rw [show (up3 K2 100 0 (22 + (3 * k)) (eC (poseS S) k)) 138 0 k = (eT (poseS S) k) from hat.2.1]) ?_
        refine y_iast hE (by unfold kC; decide) rfl (by simp [kTag]) hl_32 (by have hL : (up3 K2 100 0 (22 + (3 * k)) (eC (poseS S) k)) 100 0 (-1) = 1160 := (MObj.l (MRep.a hM2 0 rfl (j := 22 + (3 * k)) (by omega) (eC (poseS S) k)).1 0 (by decide)); omega) dX4_freezes_49 ?_
        refine y_aload_n hE rfl 1 rfl dX4_freezes_50 ?_
        refine gX4_7r (z := 0) hE h40 (MObj.r hM2.1 0 (by decide)) (by omega) dX4_freezes_51 (fun hl_51 => ?_)
        refine y_bipush hE (by decide) dX4_freezes_54 ?_
        refine y_iconst hE dX4_freezes_56 ?_
        refine y_iload_n hE rfl 0 rfl dX4_freezes_57 ?_
        refine y_imul hE dX4_freezes_58 ?_
        refine y_iadd hE dX4_freezes_59 ?_
        refine y_iconst hE dX4_freezes_60 ?_
        refine y_iadd hE dX4_freezes_61 ?_
        refine y_aload_n hE rfl 1 rfl dX4_freezes_62 ?_
        refine gX4_88r (z := 0) hE h40 (MObj.r hM2.1 39 (by decide)) (by omega) dX4_freezes_63 (fun hl_63 => ?_)
        refine y_iload_n hE rfl 0 rfl dX4_freezes_66 ?_
        refine y_lald hE rfl hl_63 (by have hL : (up3 (up3 K2 100 0 (22 + (3 * k)) (eC (poseS S) k)) 100 0 ((22 + (3 * k)) + 1) (eT (poseS S) k)) 139 0 (-1) = 72 := (MObj.l hM2.1 39 (by decide)); omega) dX4_freezes_67 ?_
        refine y_to (st' := [.long (iL (eW (poseS S) k)), .int (iI ((22 + (3 * k)) + 2)), .ref (α 100 0)]) rfl rfl (by rw [show (up3 (up3 K2 100 0 (22 + (3 * k)) (eC (poseS S) k)) 100 0 ((22 + (3 * k)) + 1) (eT (poseS S) k)) 139 0 k = (eW (poseS S) k) from hat.2.2]) ?_
        refine y_l2i hE dX4_freezes_68 ?_
        refine y_iast hE (by unfold kC; decide) rfl (by simp [kTag]) hl_51 (by have hL : (up3 (up3 K2 100 0 (22 + (3 * k)) (eC (poseS S) k)) 100 0 ((22 + (3 * k)) + 1) (eT (poseS S) k)) 100 0 (-1) = 1160 := (MObj.l (MRep.a (MRep.a hM2 0 rfl (j := 22 + (3 * k)) (by omega) (eC (poseS S) k)) 0 rfl (j := (22 + (3 * k)) + 1) (by omega) (eT (poseS S) k)).1 0 (by decide)); omega) dX4_freezes_69 ?_
        refine y_iinc hE 0 rfl [(2, .int (iI (k + 1))), (0, .ref (α 4 0)), (1, .int (iI l))] (by decide) rfl dX4_freezes_70 ?_
        refine y_goto hE 6 (by decide) dX4_freezes_73 ?_
        exact ih6 (up3 (up3 (up3 K2 100 0 (22 + (3 * k)) (eC (poseS S) k)) 100 0 ((22 + (3 * k)) + 1) (eT (poseS S) k)) 100 0 ((22 + (3 * k)) + 2) (eW (poseS S) k)) (k + 1) (by rw [frzM_s (by omega)]; exact (MRep.a (MRep.a (MRep.a hM2 0 rfl (j := 22 + (3 * k)) (by omega) (eC (poseS S) k)) 0 rfl (j := (22 + (3 * k)) + 1) (by omega) (eT (poseS S) k)) 0 rfl (j := (22 + (3 * k)) + 2) (by omega) (eW (poseS S) k))) ((KO.up (KO.up (KO.up hk2 (by decide)) (by decide)) (by decide))) (by omega) (hR2.congr (by simp [up3]) (fun j _ _ => ⟨by simp [up3], by simp [up3], by simp [up3]⟩)) (by simp [up3]; exact h25) (by omega)
  exact L6 _ K_1 0 (hM_1) ((KO.mono hk_1 (fun k i z => by (try dsimp only at z); (try dsimp only); omega))) (by omega) (hr_1.1) (hr_1.2) (Nat.lt_succ_self _)
