set_option linter.unusedVariables false
set_option maxHeartbeats 4000000 in
set_option maxRecDepth 100000 in
theorem m_X4_advances {w : KW} {n : KN} {α : KA} {K : KS} (S : SS) (T a step : Int) (h40 : (0 : Int) ≤ 0 ∧ 0 < n 4) (hM : MRep S n K) (hW : WFs S) (ha : 0 ≤ a ∧ a + 3 < 1160) (htk : TkOk S a T) (hT0 : 0 ≤ T ∧ T ≤ 20001) (hstp : 0 ≤ step ∧ step ≤ 4000000) : KM w yX4_advances cX4_advances 6 none { frames := 1, cells := 0, slots := 0, locals := 21 } (3, 0) [.ref (α 4 0), .int (iI a), .long (iL step)] n α K (fun r n' α' K' => n = n' ∧ α = α' ∧ MRep (advS S a step) n K' ∧ KO K K' (fun k _ => k = 100) ∧ (True)) := by
  refine y_start (by decide) (Nat.le_of_ble_eq_true rfl) (fun x hE hQ => ?_)
  have hw := hQ.2
  subst hw
  have hE : YE x cX4_advances RX4 none "advances" 6 { frames := 1, cells := 0, slots := 0, locals := 21 } := hE
  refine y_wk (fun hWK => ?_)
  have hn0 := hWK.1
  refine y_bud (bc' := 0) (bs' := 0) (Nat.le_refl _) (Nat.le_refl _) ?_
  refine y_to (lv' := [(0, .ref (α 4 0)), (1, .int (iI a)), (2, .long (iL step))]) (st' := []) rfl rfl rfl ?_
  have wpar := hW.par
  have wclips := hW.clips
  have wnodes := hW.nodes
  have wsts := hW.sts
  have wtrs := hW.trs
  have wthr := hW.thr
  have wtxt := hW.txt
  have htk2 := htk
  unfold TkOk at htk2
  have ws := hW.st (S 0 a) (by omega) (by omega)
  have hpr : prgS S a = S 0 (a + 1) * 1000000 + S 0 (a + 2) := rfl
  refine y_aload_n hE rfl 0 rfl dX4_advances_0 ?_
  refine gX4_53r (z := 0) hE h40 (MObj.r hM.1 17 (by decide)) (by omega) dX4_advances_1 (fun hl_1 => ?_)
  refine y_aload_n hE rfl 0 rfl dX4_advances_4 ?_
  refine gX4_7r (z := 0) hE h40 (MObj.r hM.1 0 (by decide)) (by omega) dX4_advances_5 (fun hl_5 => ?_)
  refine y_iload_n hE rfl 1 rfl dX4_advances_8 ?_
  refine y_iconst hE dX4_advances_9 ?_
  refine y_iadd hE dX4_advances_10 ?_
  refine y_to (st' := [.int (iI a), .ref (α 100 0), .ref (α 117 0)]) rfl rfl (by rw [Int.add_zero]) ?_
  refine y_iald hE rfl hl_5 (by have hL : K 100 0 (-1) = 1160 := (MObj.l hM.1 0 (by decide)); omega) dX4_advances_11 ?_
  refine y_to (st' := [.int (iI (S 0 a)), .ref (α 117 0)]) rfl rfl (by rw [show K 100 0 a = S 0 a from (MRep.ra hM 0 rfl (by omega) (by first | omega | (show _ < (1160 : Int); omega)))]) ?_
  refine y_zald hE rfl hl_1 (by have hL : K 117 0 (-1) = 10 := (MObj.l hM.1 17 (by decide)); omega) dX4_advances_12 ?_
  refine y_to (st' := [.int (iI (S 17 (S 0 a)))]) rfl rfl (by rw [show K 117 0 (S 0 a) = S 17 (S 0 a) from (MRep.ra hM 17 rfl (by omega) (by first | omega | (show _ < (10 : Int); omega)))]) ?_
  refine y_if_eq hE 58 (by decide) (by omega) dX4_advances_13 (fun c_13 => ?_) (fun c_13 => ?_)
  · refine y_aload_n hE rfl 0 rfl dX4_advances_58 ?_
    refine gX4_7r (z := 0) hE h40 (MObj.r hM.1 0 (by decide)) (by omega) dX4_advances_59 (fun hl_59 => ?_)
    refine y_iload_n hE rfl 1 rfl dX4_advances_62 ?_
    refine y_iconst hE dX4_advances_63 ?_
    refine y_iadd hE dX4_advances_64 ?_
    refine y_iald hE rfl hl_59 (by have hL : K 100 0 (-1) = 1160 := (MObj.l hM.1 0 (by decide)); omega) dX4_advances_65 ?_
    refine y_to (st' := [.int (iI (S 0 (a + 2)))]) rfl rfl (by rw [show K 100 0 (a + 2) = S 0 (a + 2) from (MRep.ra hM 0 rfl (by omega) (by first | omega | (show _ < (1160 : Int); omega)))]) ?_
    refine y_i2l hE (by omega) dX4_advances_66 ?_
    refine y_lload_n hE rfl 2 rfl dX4_advances_67 ?_
    refine y_ladd hE dX4_advances_68 ?_
    refine y_lstore hE [(4, .long (iL ((S 0 (a + 2)) + step))), (0, .ref (α 4 0)), (1, .int (iI a)), (2, .long (iL step))] (by decide) rfl dX4_advances_69 ?_
    refine y_aload_n hE rfl 1 rfl dX4_advances_71 ?_
    refine gX4_7r (z := 0) hE h40 (MObj.r hM.1 0 (by decide)) (by omega) dX4_advances_72 (fun hl_72 => ?_)
    refine y_iload_n hE rfl 2 rfl dX4_advances_75 ?_
    refine y_iconst hE dX4_advances_76 ?_
    refine y_iadd hE dX4_advances_77 ?_
    have J96 : ∀ (v : Int), (v = if S 0 (a + 2) + step > 1000000 then 1000000 else S 0 (a + 2) + step) → Y x n α K 0 0 96 [(4, .long (iL ((S 0 (a + 2)) + step))), (0, .ref (α 4 0)), (1, .int (iI a)), (2, .long (iL step))] [.int (iI v), .int (iI (a + 2)), .ref (α 100 0)] := by
      intro v hv
      refine y_iast hE (by unfold kC; decide) rfl (by simp [kTag]) hl_72 (by have hL : K 100 0 (-1) = 1160 := (MObj.l hM.1 0 (by decide)); omega) dX4_advances_96 ?_
      refine y_aload_n hE rfl 1 rfl dX4_advances_97 ?_
      refine gX4_7r (z := 0) hE h40 (MObj.r hM.1 0 (by decide)) (by omega) dX4_advances_98 (fun hl_98 => ?_)
      refine y_iload_n hE rfl 2 rfl dX4_advances_101 ?_
      refine y_iconst hE dX4_advances_102 ?_
      refine y_iadd hE dX4_advances_103 ?_
      refine y_iconst hE dX4_advances_104 ?_
      refine y_iast hE (by unfold kC; decide) rfl (by simp [kTag]) hl_98 (by have hL : (up3 K 100 0 (a + 2) v) 100 0 (-1) = 1160 := (MObj.l (MRep.a hM 0 rfl (j := a + 2) (by omega) v).1 0 (by decide)); omega) dX4_advances_105 ?_
      exact y_vret (r := 0) hE rfl hQ dX4_advances_106 Ext.rf ⟨rfl, rfl, by unfold advS; first | (rw [if_pos (by omega)]; exact (MRep.a (MRep.a hM 0 rfl (j := a + 2) (by omega) v) 0 rfl (j := a + 3) (by omega) 0)) | (rw [if_neg (by omega), ← hv]; exact (MRep.a (MRep.a hM 0 rfl (j := a + 2) (by omega) v) 0 rfl (j := a + 3) (by omega) 0)), (KO.up (KO.up KO.rf (by decide)) (by decide)), trivial⟩
    refine y_lload hE 0 rfl dX4_advances_78 ?_
    refine y_ldc2 hE 1000000 (v := 1000000) (by decide) q3052 dX4_advances_80 ?_
    refine y_lcmp_le hE 93 (by decide) (by omega) (by omega) dX4_advances_83 dX4_advances_84 (fun c_83 => ?_) (fun c_83 => ?_)
    · refine y_lload hE 0 rfl dX4_advances_93 ?_
      refine y_l2i hE dX4_advances_95 ?_
      exact J96 ((S 0 (a + 2)) + step) (by first | rw [if_pos (by omega)] | rw [if_neg (by omega)])
    · refine y_ldcw hE 1000000 (v := 1000000) (by decide) q3162 dX4_advances_87 ?_
      refine y_goto hE 96 (by decide) dX4_advances_90 ?_
      exact J96 1000000 (by first | rw [if_pos (by omega)] | rw [if_neg (by omega)])
  · refine y_aload_n hE rfl 0 rfl dX4_advances_16 ?_
    refine y_iload_n hE rfl 1 rfl dX4_advances_17 ?_
    refine y_callV hE (m_X4_progressOf S a h40 hM (by omega) (by omega) (by omega)) (lw_V q3121 q3123 qs90 q133 q3124) (nA := 1) (by decide +kernel) rfl ⟨Nat.le_of_ble_eq_true rfl, Nat.le_of_ble_eq_true rfl⟩ (hdd := rfl) (hcc := rfl) (hq := rfl) (hi := h40) (rest := []) rfl (by decide) dX4_advances_18 (bc' := 0) (bs' := 0) (Nat.le_refl _) (Nat.le_refl _) (fun r_18 n_18 α_18 K_18 hx_18 hp_18 => ?_)
    obtain ⟨rfl, rfl, rfl, hr_18⟩ := hp_18
    have e_18 : prgS S a = r_18 := Eq.symm (by rw [hr_18])
    subst e_18
    refine y_to (st' := [.long (iL (prgS S a))]) rfl rfl rfl ?_
    refine y_lload_n hE rfl 2 rfl dX4_advances_21 ?_
    refine y_ladd hE dX4_advances_22 ?_
    refine y_lstore hE [(4, .long (iL ((prgS S a) + step))), (0, .ref (α 4 0)), (1, .int (iI a)), (2, .long (iL step))] (by decide) rfl dX4_advances_23 ?_
    refine y_aload_n hE rfl 1 rfl dX4_advances_25 ?_
    refine gX4_7r (z := 0) hE h40 (MObj.r hM.1 0 (by decide)) (by omega) dX4_advances_26 (fun hl_26 => ?_)
    refine y_iload_n hE rfl 2 rfl dX4_advances_29 ?_
    refine y_iconst hE dX4_advances_30 ?_
    refine y_iadd hE dX4_advances_31 ?_
    refine y_lload hE 0 rfl dX4_advances_32 ?_
    refine y_ldc2 hE 1000000 (v := 1000000) (by decide) q3052 dX4_advances_34 ?_
    refine y_ldiv hE (by omega) (by omega) dX4_advances_37 ?_
    refine y_l2i hE dX4_advances_38 ?_
    refine y_iast hE (by unfold kC; decide) rfl (by simp [kTag]) hl_26 (by have hL : K 100 0 (-1) = 1160 := (MObj.l hM.1 0 (by decide)); omega) dX4_advances_39 ?_
    refine y_aload_n hE rfl 1 rfl dX4_advances_40 ?_
    refine gX4_7r (z := 0) hE h40 (MObj.r hM.1 0 (by decide)) (by omega) dX4_advances_41 (fun hl_41 => ?_)
    refine y_iload_n hE rfl 2 rfl dX4_advances_44 ?_
    refine y_iconst hE dX4_advances_45 ?_
    refine y_iadd hE dX4_advances_46 ?_
    refine y_lload hE 0 rfl dX4_advances_47 ?_
    refine y_ldc2 hE 1000000 (v := 1000000) (by decide) q3052 dX4_advances_49 ?_
    refine y_lrem hE (by omega) (by omega) dX4_advances_52 ?_
    refine y_l2i hE dX4_advances_53 ?_
    refine y_iast hE (by unfold kC; decide) rfl (by simp [kTag]) hl_41 (by have hL : (up3 K 100 0 (a + 1) (((prgS S a) + step) / 1000000)) 100 0 (-1) = 1160 := (MObj.l (MRep.a hM 0 rfl (j := a + 1) (by omega) (((prgS S a) + step) / 1000000)).1 0 (by decide)); omega) dX4_advances_54 ?_
    refine y_goto hE 97 (by decide) dX4_advances_55 ?_
    refine y_aload_n hE rfl 1 rfl dX4_advances_97 ?_
    refine gX4_7r (z := 0) hE h40 (MObj.r hM.1 0 (by decide)) (by omega) dX4_advances_98 (fun hl_98_2 => ?_)
    refine y_iload_n hE rfl 2 rfl dX4_advances_101 ?_
    refine y_iconst hE dX4_advances_102 ?_
    refine y_iadd hE dX4_advances_103 ?_
    refine y_iconst hE dX4_advances_104 ?_
    refine y_iast hE (by unfold kC; decide) rfl (by simp [kTag]) hl_98_2 (by have hL : (up3 (up3 K 100 0 (a + 1) (((prgS S a) + step) / 1000000)) 100 0 (a + 2) (((prgS S a) + step) % 1000000)) 100 0 (-1) = 1160 := (MObj.l (MRep.a (MRep.a hM 0 rfl (j := a + 1) (by omega) (((prgS S a) + step) / 1000000)) 0 rfl (j := a + 2) (by omega) (((prgS S a) + step) % 1000000)).1 0 (by decide)); omega) dX4_advances_105 ?_
    exact y_vret (r := 0) hE rfl hQ dX4_advances_106 Ext.rf ⟨rfl, rfl, by unfold advS; first | (rw [if_pos (by omega)]; exact (MRep.a (MRep.a (MRep.a hM 0 rfl (j := a + 1) (by omega) (((prgS S a) + step) / 1000000)) 0 rfl (j := a + 2) (by omega) (((prgS S a) + step) % 1000000)) 0 rfl (j := a + 3) (by omega) 0)) | (rw [if_neg (by omega), ← hv]; exact (MRep.a (MRep.a (MRep.a hM 0 rfl (j := a + 1) (by omega) (((prgS S a) + step) / 1000000)) 0 rfl (j := a + 2) (by omega) (((prgS S a) + step) % 1000000)) 0 rfl (j := a + 3) (by omega) 0)), (KO.up (KO.up (KO.up KO.rf (by decide)) (by decide)) (by decide)), trivial⟩
set_option maxHeartbeats 4000000 in
set_option maxRecDepth 100000 in
theorem m_X4_advancesBoth {w : KW} {n : KN} {α : KA} {K : KS} (S : SS) (T : Int) (h40 : (0 : Int) ≤ 0 ∧ 0 < n 4) (hM : MRep S n K) (hW : WFs S) (hv0 : WFv S) (hx : 0 ≤ S 0 9 ∧ S 0 9 < S 21 0) (he : 0 ≤ S 0 10 ∧ S 0 10 ≤ S 20 (17 * S 0 9 + 2) ∧ 0 < S 20 (17 * S 0 9 + 2)) (hta : TkOk S 12 T) (htb : TkOk S 16 T) (hT0 : 0 ≤ T ∧ T ≤ 20000) (hfr : S 0 20 = 0 ∨ S 0 20 = 1) : KM w yX4_advancesBoth cX4_advancesBoth 11 none { frames := 4, cells := 0, slots := 0, locals := 102 } (3, 0) [.ref (α 4 0)] n α K (fun r n' α' K' => n = n' ∧ α = α' ∧ MRep (bthS S) n K' ∧ KO K K' (fun k i => k = 127 ∨ k = 128 ∨ k = 129 ∨ k = 100) ∧ (True)) := by
  refine y_start (by decide) (Nat.le_of_ble_eq_true rfl) (fun x hE hQ => ?_)
  have hw := hQ.2
  subst hw
  have hE : YE x cX4_advancesBoth RX4 none "advancesBoth" 11 { frames := 4, cells := 0, slots := 0, locals := 102 } := hE
  refine y_wk (fun hWK => ?_)
  have hn0 := hWK.1
  refine y_bud (bc' := 0) (bs' := 0) (Nat.le_refl _) (Nat.le_refl _) ?_
  refine y_to (lv' := [(0, .ref (α 4 0))]) (st' := []) rfl rfl rfl ?_
  have wpar := hW.par
  have wclips := hW.clips
  have wnodes := hW.nodes
  have wsts := hW.sts
  have wtrs := hW.trs
  have wthr := hW.thr
  have wtxt := hW.txt
  have htax := hta
  have htbx := htb
  unfold TkOk at htax htbx
  have wsa := hW.st (S 0 12) (by omega) (by omega)
  have wsb := hW.st (S 0 16) (by omega) (by omega)
  have hshi := shS_in he
  have hbi := bstS_in hW hshi (by omega) (by omega)
  have hmx := mix_in (m := 400) hshi (a := S 16 (S 0 12)) (b := S 16 (S 0 16)) (by omega) (by omega)
  have hla := lenS_in hW (s := S 0 12) (by omega)
  have hlb := lenS_in hW (s := S 0 16) (by omega)
  have hml := mix_in hshi hla hlb
  refine y_aload_n hE rfl 0 rfl dX4_advancesBoth_0 ?_
  refine y_callV hE (m_X4_isSynced S h40 hM (by first | exact hW | omega) (by omega) (by omega) (by first | exact hfr | omega)) (lw_V q3158 q3160 qs98 q133 q3161) (nA := 0) (by decide +kernel) rfl ⟨Nat.le_of_ble_eq_true rfl, Nat.le_of_ble_eq_true rfl⟩ (hdd := rfl) (hcc := rfl) (hq := rfl) (hi := h40) (rest := []) rfl (by decide) dX4_advancesBoth_1 (bc' := 0) (bs' := 0) (Nat.le_refl _) (Nat.le_refl _) (fun r_1 n_1 α_1 K_1 hx_1 hp_1 => ?_)
  obtain ⟨rfl, rfl, rfl, hr_1⟩ := hp_1
  refine y_to (st' := [.int (iI r_1)]) rfl rfl rfl ?_
  refine y_if_eq hE 120 (by decide) (by omega) dX4_advancesBoth_4 (fun c_4 => ?_) (fun c_4 => ?_)
  · have J142 : ∀ (K2 : KS) (S2 : SS), (MRep S2 n K2) → (KO K K2 (fun k i => k = 127 ∨ k = 128 ∨ k = 129 ∨ k = 100)) → (S2 = bthA S) → Y x n α K2 0 0 142 [(0, .ref (α 4 0))] [] := by
      intro K2 S2 hM2 hk2 hS2
      have f2 : ∀ f : Nat, f ≠ 0 → S2 f = S f := fun f h => by rw [hS2]; exact bthA_f h
      have hW2 : WFs S2 := hW.congr f2
      have hv2 : WFv S2 := hv0.o (fun j h => by rw [hS2]; exact bthA_o (by omega))
      have e219 : S2 19 0 = S 19 0 := congrFun (f2 19 (by decide)) 0
      have e216 : S2 0 16 = S 0 16 := by rw [hS2]; exact bthA_o (by omega)
      have htb2 : TkOk S2 16 T := by rw [hS2]; unfold bthA; split; exact advS_tk htb (by omega); exact htb
      refine y_aload_n hE rfl 0 rfl dX4_advancesBoth_142 ?_
      refine y_bipush hE (by decide) dX4_advancesBoth_143 ?_
      refine y_aload_n hE rfl 0 rfl dX4_advancesBoth_145 ?_
      refine y_bipush hE (by decide) dX4_advancesBoth_146 ?_
      refine y_callV hE (m_X4_stepOf S2 16 h40 hM2 (hW2) (hv2) (by omega) (by omega)) (lw_V q3168 q3170 qs100 q133 q3171) (nA := 1) (by decide +kernel) rfl ⟨Nat.le_of_ble_eq_true rfl, Nat.le_of_ble_eq_true rfl⟩ (hdd := rfl) (hcc := rfl) (hq := rfl) (hi := h40) (rest := [.int (iI 16), .ref (α 4 0)]) rfl (by simp [refV_cat, Value.category]) dX4_advancesBoth_148 (bc' := 0) (bs' := 0) (Nat.le_refl _) (Nat.le_refl _) (fun r_148 n_148 α_148 K_148 hx_148 hp_148 => ?_)
      obtain ⟨rfl, rfl, hM_148, hk_148, hr_148⟩ := hp_148
      have e_148 : stpS S2 (S2 0 16) = r_148 := Eq.symm (by rw [hr_148.1])
      subst e_148
      refine y_to (st' := [.long (iL (stpS S2 (S2 0 16))), .int (iI 16), .ref (α 4 0)]) rfl rfl rfl ?_
      refine y_callV hE (m_X4_advances S2 T 16 (stpS S2 (S2 0 16)) h40 hM_148 (hW2) (by omega) (htb2) (by omega) (by omega)) (lw_V q3176 q3178 qs102 q133 q3179) (nA := 2) (by decide +kernel) rfl ⟨Nat.le_of_ble_eq_true rfl, Nat.le_of_ble_eq_true rfl⟩ (hdd := rfl) (hcc := rfl) (hq := rfl) (hi := h40) (rest := []) rfl (by decide) dX4_advancesBoth_151 (bc' := 0) (bs' := 0) (Nat.le_refl _) (Nat.le_refl _) (fun r_151 n_151 α_151 K_151 hx_151 hp_151 => ?_)
      obtain ⟨rfl, rfl, hM_151, hk_151, hr_151⟩ := hp_151
      refine y_to (st' := []) rfl rfl rfl ?_
      exact y_vret (r := 0) hE rfl hQ dX4_advancesBoth_154 Ext.rf ⟨rfl, rfl, by unfold bthS; rw [if_neg (by omega), ← hS2]; exact hM_151, ((hk2.tr (KO.mono hk_148 (fun k i z => by (try dsimp only at z); (try dsimp only); omega))).tr (KO.mono hk_151 (fun k i z => by (try dsimp only at z); (try dsimp only); omega))), trivial⟩
    refine y_aload_n hE rfl 0 rfl dX4_advancesBoth_120 ?_
    refine gX4_7r (z := 0) hE h40 (MObj.r hM.1 0 (by decide)) (by omega) dX4_advancesBoth_121 (fun hl_121 => ?_)
    refine y_bipush hE (by decide) dX4_advancesBoth_124 ?_
    refine y_iald hE rfl hl_121 (by have hL : K 100 0 (-1) = 1160 := (MObj.l hM.1 0 (by decide)); omega) dX4_advancesBoth_126 ?_
    refine y_to (st' := [.int (iI (S 0 20))]) rfl rfl (by rw [show K 100 0 20 = S 0 20 from (MRep.ra hM 0 rfl (by omega) (by first | omega | (show _ < (1160 : Int); omega)))]) ?_
    refine y_if_ne hE 142 (by decide) (by omega) dX4_advancesBoth_127 (fun c_127 => ?_) (fun c_127 => ?_)
    · exact J142 K S (hM) (KO.rf) (by unfold bthA; first | rw [if_pos (by omega)] | rw [if_neg (by omega)])
    · refine y_aload_n hE rfl 0 rfl dX4_advancesBoth_130 ?_
      refine y_bipush hE (by decide) dX4_advancesBoth_131 ?_
      refine y_aload_n hE rfl 0 rfl dX4_advancesBoth_133 ?_
      refine y_bipush hE (by decide) dX4_advancesBoth_134 ?_
      refine y_callV hE (m_X4_stepOf S 12 h40 hM (by first | exact hW | omega) (by first | exact hv0 | omega) (by omega) (by omega)) (lw_V q3168 q3170 qs100 q133 q3171) (nA := 1) (by decide +kernel) rfl ⟨Nat.le_of_ble_eq_true rfl, Nat.le_of_ble_eq_true rfl⟩ (hdd := rfl) (hcc := rfl) (hq := rfl) (hi := h40) (rest := [.int (iI 12), .ref (α 4 0)]) rfl (by simp [refV_cat, Value.category]) dX4_advancesBoth_136 (bc' := 0) (bs' := 0) (Nat.le_refl _) (Nat.le_refl _) (fun r_136 n_136 α_136 K_136 hx_136 hp_136 => ?_)
      obtain ⟨rfl, rfl, hM_136, hk_136, hr_136⟩ := hp_136
      have e_136 : stpS S (S 0 12) = r_136 := Eq.symm (by rw [hr_136.1])
      subst e_136
      refine y_to (st' := [.long (iL (stpS S (S 0 12))), .int (iI 12), .ref (α 4 0)]) rfl rfl rfl ?_
      refine y_callV hE (m_X4_advances S T 12 (stpS S (S 0 12)) h40 hM_136 (by assumption) (by omega) (by assumption) (by omega) (by omega)) (lw_V q3176 q3178 qs102 q133 q3179) (nA := 2) (by decide +kernel) rfl ⟨Nat.le_of_ble_eq_true rfl, Nat.le_of_ble_eq_true rfl⟩ (hdd := rfl) (hcc := rfl) (hq := rfl) (hi := h40) (rest := []) rfl (by decide) dX4_advancesBoth_139 (bc' := 0) (bs' := 0) (Nat.le_refl _) (Nat.le_refl _) (fun r_139 n_139 α_139 K_139 hx_139 hp_139 => ?_)
      obtain ⟨rfl, rfl, hM_139, hk_139, hr_139⟩ := hp_139
      refine y_to (st' := []) rfl rfl rfl ?_
      exact J142 K_139 (advS S 12 (stpS S (S 0 12))) (hM_139) (((KO.mono hk_136 (fun k i z => by (try dsimp only at z); (try dsimp only); omega)).tr (KO.mono hk_139 (fun k i z => by (try dsimp only at z); (try dsimp only); omega)))) (by unfold bthA; first | rw [if_pos (by omega)] | rw [if_neg (by omega)])
  · refine y_aload_n hE rfl 0 rfl dX4_advancesBoth_7 ?_
    refine y_callV hE (m_X4_shareOfTarget S h40 hM (by first | exact hW | omega) (by first | exact hx | omega) (by first | exact he | omega)) (lw_V q3069 q3071 qs81 q133 q3072) (nA := 0) (by decide +kernel) rfl ⟨Nat.le_of_ble_eq_true rfl, Nat.le_of_ble_eq_true rfl⟩ (hdd := rfl) (hcc := rfl) (hq := rfl) (hi := h40) (rest := []) rfl (by decide) dX4_advancesBoth_8 (bc' := 0) (bs' := 0) (Nat.le_refl _) (Nat.le_refl _) (fun r_8 n_8 α_8 K_8 hx_8 hp_8 => ?_)
    obtain ⟨rfl, rfl, rfl, hr_8⟩ := hp_8
    have e_8 : shS S = r_8 := Eq.symm (by rw [hr_8.1])
    subst e_8
    refine y_to (st' := [.long (iL (shS S))]) rfl rfl rfl ?_
    refine y_lstore_n hE rfl [(1, .long (iL (shS S))), (0, .ref (α 4 0))] (by decide) rfl dX4_advancesBoth_11 ?_
    refine y_ldc2 hE 1000000 (v := 1000000) (by decide) q3052 dX4_advancesBoth_12 ?_
    refine y_lload_n hE rfl 0 rfl dX4_advancesBoth_15 ?_
    refine y_lsub hE dX4_advancesBoth_16 ?_
    refine y_lstore_n hE rfl [(3, .long (iL (1000000 - (shS S)))), (1, .long (iL (shS S))), (0, .ref (α 4 0))] (by decide) rfl dX4_advancesBoth_17 ?_
    refine y_lload_n hE rfl 0 rfl dX4_advancesBoth_18 ?_
    refine y_aload_n hE rfl 2 rfl dX4_advancesBoth_19 ?_
    refine gX4_50r (z := 0) hE h40 (MObj.r hM.1 16 (by decide)) (by omega) dX4_advancesBoth_20 (fun hl_20 => ?_)
    refine y_aload_n hE rfl 2 rfl dX4_advancesBoth_23 ?_
    refine gX4_7r (z := 0) hE h40 (MObj.r hM.1 0 (by decide)) (by omega) dX4_advancesBoth_24 (fun hl_24 => ?_)
    refine y_bipush hE (by decide) dX4_advancesBoth_27 ?_
    refine y_iald hE rfl hl_24 (by have hL : K 100 0 (-1) = 1160 := (MObj.l hM.1 0 (by decide)); omega) dX4_advancesBoth_29 ?_
    refine y_to (st' := [.int (iI (S 0 12)), .ref (α 116 0), .long (iL (1000000 - (shS S)))]) rfl rfl (by rw [show K 100 0 12 = S 0 12 from (MRep.ra hM 0 rfl (by omega) (by first | omega | (show _ < (1160 : Int); omega)))]) ?_
    refine y_iald hE rfl hl_20 (by have hL : K 116 0 (-1) = 10 := (MObj.l hM.1 16 (by decide)); omega) dX4_advancesBoth_30 ?_
    refine y_to (st' := [.int (iI (S 16 (S 0 12))), .long (iL (1000000 - (shS S)))]) rfl rfl (by rw [show K 116 0 (S 0 12) = S 16 (S 0 12) from (MRep.ra hM 16 rfl (by omega) (by first | omega | (show _ < (10 : Int); omega)))]) ?_
    refine y_i2l hE (by omega) dX4_advancesBoth_31 ?_
    refine y_lmul hE dX4_advancesBoth_32 ?_
    refine y_lload_n hE rfl 1 rfl dX4_advancesBoth_33 ?_
    refine y_aload_n hE rfl 2 rfl dX4_advancesBoth_34 ?_
    refine gX4_50r (z := 0) hE h40 (MObj.r hM.1 16 (by decide)) (by omega) dX4_advancesBoth_35 (fun hl_35 => ?_)
    refine y_aload_n hE rfl 2 rfl dX4_advancesBoth_38 ?_
    refine gX4_7r (z := 0) hE h40 (MObj.r hM.1 0 (by decide)) (by omega) dX4_advancesBoth_39 (fun hl_39 => ?_)
    refine y_bipush hE (by decide) dX4_advancesBoth_42 ?_
    refine y_iald hE rfl hl_39 (by have hL : K 100 0 (-1) = 1160 := (MObj.l hM.1 0 (by decide)); omega) dX4_advancesBoth_44 ?_
    refine y_to (st' := [.int (iI (S 0 16)), .ref (α 116 0), .long (iL (shS S)), .long (iL ((1000000 - (shS S)) * (S 16 (S 0 12))))]) rfl rfl (by rw [show K 100 0 16 = S 0 16 from (MRep.ra hM 0 rfl (by omega) (by first | omega | (show _ < (1160 : Int); omega)))]) ?_
    refine y_iald hE rfl hl_35 (by have hL : K 116 0 (-1) = 10 := (MObj.l hM.1 16 (by decide)); omega) dX4_advancesBoth_45 ?_
    refine y_to (st' := [.int (iI (S 16 (S 0 16))), .long (iL (shS S)), .long (iL ((1000000 - (shS S)) * (S 16 (S 0 12))))]) rfl rfl (by rw [show K 116 0 (S 0 16) = S 16 (S 0 16) from (MRep.ra hM 16 rfl (by omega) (by first | omega | (show _ < (10 : Int); omega)))]) ?_
    refine y_i2l hE (by omega) dX4_advancesBoth_46 ?_
    refine y_lmul hE dX4_advancesBoth_47 ?_
    refine y_ladd hE dX4_advancesBoth_48 ?_
    refine y_ldc2 hE 1000000 (v := 1000000) (by decide) q3052 dX4_advancesBoth_49 ?_
    refine y_ldiv hE (by omega) (by omega) dX4_advancesBoth_52 ?_
    refine y_lstore hE [(5, .long (iL ((((1000000 - (shS S)) * (S 16 (S 0 12))) + ((shS S) * (S 16 (S 0 16)))) / 1000000))), (3, .long (iL (1000000 - (shS S)))), (1, .long (iL (shS S))), (0, .ref (α 4 0))] (by decide) rfl dX4_advancesBoth_53 ?_
    refine y_lload_n hE rfl 1 rfl dX4_advancesBoth_55 ?_
    refine y_aload_n hE rfl 3 rfl dX4_advancesBoth_56 ?_
    refine y_aload_n hE rfl 3 rfl dX4_advancesBoth_57 ?_
    refine gX4_7r (z := 0) hE h40 (MObj.r hM.1 0 (by decide)) (by omega) dX4_advancesBoth_58 (fun hl_58 => ?_)
    refine y_bipush hE (by decide) dX4_advancesBoth_61 ?_
    refine y_iald hE rfl hl_58 (by have hL : K 100 0 (-1) = 1160 := (MObj.l hM.1 0 (by decide)); omega) dX4_advancesBoth_63 ?_
    refine y_to (st' := [.int (iI (S 0 12)), .ref (α 4 0), .long (iL (1000000 - (shS S)))]) rfl rfl (by rw [show K 100 0 12 = S 0 12 from (MRep.ra hM 0 rfl (by omega) (by first | omega | (show _ < (1160 : Int); omega)))]) ?_
    refine y_callV hE (m_X4_lengthOf S (S 0 12) h40 hM (by first | exact hW | omega) (by first | exact hv0 | omega) (by omega)) (lw_V q3172 q3174 qs101 q133 q3175) (nA := 1) (by decide +kernel) rfl ⟨Nat.le_of_ble_eq_true rfl, Nat.le_of_ble_eq_true rfl⟩ (hdd := rfl) (hcc := rfl) (hq := rfl) (hi := h40) (rest := [.long (iL (1000000 - (shS S)))]) rfl (by simp [refV_cat, Value.category]) dX4_advancesBoth_64 (bc' := 0) (bs' := 0) (Nat.le_refl _) (Nat.le_refl _) (fun r_64 n_64 α_64 K_64 hx_64 hp_64 => ?_)
    obtain ⟨rfl, rfl, hM_64, hk_64, hr_64⟩ := hp_64
    have e_64 : lenS S (S 0 12) = r_64 := Eq.symm (by rw [hr_64.1])
    subst e_64
    refine y_to (st' := [.long (iL (lenS S (S 0 12))), .long (iL (1000000 - (shS S)))]) rfl rfl rfl ?_
    refine y_lmul hE dX4_advancesBoth_67 ?_
    refine y_lload_n hE rfl 2 rfl dX4_advancesBoth_68 ?_
    refine y_aload_n hE rfl 3 rfl dX4_advancesBoth_69 ?_
    refine y_aload_n hE rfl 3 rfl dX4_advancesBoth_70 ?_
    refine gX4_7r (z := 0) hE h40 (MObj.r hM_64.1 0 (by decide)) (by omega) dX4_advancesBoth_71 (fun hl_71 => ?_)
    refine y_bipush hE (by decide) dX4_advancesBoth_74 ?_
    refine y_iald hE rfl hl_71 (by have hL : K_64 100 0 (-1) = 1160 := (MObj.l hM_64.1 0 (by decide)); omega) dX4_advancesBoth_76 ?_
    refine y_to (st' := [.int (iI (S 0 16)), .ref (α 4 0), .long (iL (shS S)), .long (iL ((1000000 - (shS S)) * (lenS S (S 0 12))))]) rfl rfl (by rw [show K_64 100 0 16 = S 0 16 from (MRep.ra hM_64 0 rfl (by omega) (by first | omega | (show _ < (1160 : Int); omega)))]) ?_
    refine y_callV hE (m_X4_lengthOf S (S 0 16) h40 hM_64 (by assumption) (by assumption) (by omega)) (lw_V q3172 q3174 qs101 q133 q3175) (nA := 1) (by decide +kernel) rfl ⟨Nat.le_of_ble_eq_true rfl, Nat.le_of_ble_eq_true rfl⟩ (hdd := rfl) (hcc := rfl) (hq := rfl) (hi := h40) (rest := [.long (iL (shS S)), .long (iL ((1000000 - (shS S)) * (lenS S (S 0 12))))]) rfl (by simp [refV_cat, Value.category]) dX4_advancesBoth_77 (bc' := 0) (bs' := 0) (Nat.le_refl _) (Nat.le_refl _) (fun r_77 n_77 α_77 K_77 hx_77 hp_77 => ?_)
    obtain ⟨rfl, rfl, hM_77, hk_77, hr_77⟩ := hp_77
    have e_77 : lenS S (S 0 16) = r_77 := Eq.symm (by rw [hr_77.1])
    subst e_77
    refine y_to (st' := [.long (iL (lenS S (S 0 16))), .long (iL (shS S)), .long (iL ((1000000 - (shS S)) * (lenS S (S 0 12))))]) rfl rfl rfl ?_
    refine y_lmul hE dX4_advancesBoth_80 ?_
    refine y_ladd hE dX4_advancesBoth_81 ?_
    refine y_ldc2 hE 1000000 (v := 1000000) (by decide) q3052 dX4_advancesBoth_82 ?_
    refine y_ldiv hE (by omega) (by omega) dX4_advancesBoth_85 ?_
    refine y_lstore hE [(7, .long (iL ((((1000000 - (shS S)) * (lenS S (S 0 12))) + ((shS S) * (lenS S (S 0 16)))) / 1000000))), (5, .long (iL ((((1000000 - (shS S)) * (S 16 (S 0 12))) + ((shS S) * (S 16 (S 0 16)))) / 1000000))), (3, .long (iL (1000000 - (shS S)))), (1, .long (iL (shS S))), (0, .ref (α 4 0))] (by decide) rfl dX4_advancesBoth_86 ?_
    refine y_ldc2 hE 1000000 (v := 1000000) (by decide) q3052 dX4_advancesBoth_88 ?_
    refine y_lload hE 1 rfl dX4_advancesBoth_91 ?_
    refine y_lmul hE dX4_advancesBoth_93 ?_
    refine y_ldc2 hE 100 (v := 100) (by decide) q2884 dX4_advancesBoth_94 ?_
    refine y_lload hE 0 rfl dX4_advancesBoth_97 ?_
    refine y_lmul hE dX4_advancesBoth_99 ?_
    refine y_ldiv hE (by omega) (by omega) dX4_advancesBoth_100 ?_
    refine y_lstore hE [(9, .long (iL ((1000000 * ((((1000000 - (shS S)) * (S 16 (S 0 12))) + ((shS S) * (S 16 (S 0 16)))) / 1000000)) / (100 * ((((1000000 - (shS S)) * (lenS S (S 0 12))) + ((shS S) * (lenS S (S 0 16)))) / 1000000))))), (7, .long (iL ((((1000000 - (shS S)) * (lenS S (S 0 12))) + ((shS S) * (lenS S (S 0 16)))) / 1000000))), (5, .long (iL ((((1000000 - (shS S)) * (S 16 (S 0 12))) + ((shS S) * (S 16 (S 0 16)))) / 1000000))), (3, .long (iL (1000000 - (shS S)))), (1, .long (iL (shS S))), (0, .ref (α 4 0))] (by decide) rfl dX4_advancesBoth_101 ?_
    have hbe : 1000000 * (((1000000 - shS S) * S 16 (S 0 12) + shS S * S 16 (S 0 16)) / 1000000) / (100 * (((1000000 - shS S) * lenS S (S 0 12) + shS S * lenS S (S 0 16)) / 1000000)) = bstS S := rfl
    refine y_aload_n hE rfl 5 rfl dX4_advancesBoth_103 ?_
    refine y_bipush hE (by decide) dX4_advancesBoth_104 ?_
    refine y_lload hE 0 rfl dX4_advancesBoth_106 ?_
    refine y_callV hE (m_X4_advances S T 12 ((1000000 * ((((1000000 - (shS S)) * (S 16 (S 0 12))) + ((shS S) * (S 16 (S 0 16)))) / 1000000)) / (100 * ((((1000000 - (shS S)) * (lenS S (S 0 12))) + ((shS S) * (lenS S (S 0 16)))) / 1000000))) h40 hM_77 (by assumption) (by omega) (by assumption) (by omega) (by rw [hbe]; exact hbi)) (lw_V q3176 q3178 qs102 q133 q3179) (nA := 2) (by decide +kernel) rfl ⟨Nat.le_of_ble_eq_true rfl, Nat.le_of_ble_eq_true rfl⟩ (hdd := rfl) (hcc := rfl) (hq := rfl) (hi := h40) (rest := []) rfl (by decide) dX4_advancesBoth_108 (bc' := 0) (bs' := 0) (Nat.le_refl _) (Nat.le_refl _) (fun r_108 n_108 α_108 K_108 hx_108 hp_108 => ?_)
    obtain ⟨rfl, rfl, hM_108, hk_108, hr_108⟩ := hp_108
    obtain ⟨S1, hS1⟩ : ∃ z : SS, z = advS S 12 ((1000000 * ((((1000000 - (shS S)) * (S 16 (S 0 12))) + ((shS S) * (S 16 (S 0 16)))) / 1000000)) / (100 * ((((1000000 - (shS S)) * (lenS S (S 0 12))) + ((shS S) * (lenS S (S 0 16)))) / 1000000))) := ⟨_, rfl⟩
    rw [← hS1] at hM_108
    rw [hbe] at hS1
    have f1 : ∀ f : Nat, f ≠ 0 → S1 f = S f := fun f h => by rw [hS1]; exact advS_f h
    have hW1 : WFs S1 := hW.congr f1
    have htb1 : TkOk S1 16 T := by rw [hS1]; exact advS_tk htb (by omega)
    refine y_to (st' := []) rfl rfl rfl ?_
    refine y_aload_n hE rfl 5 rfl dX4_advancesBoth_111 ?_
    refine y_bipush hE (by decide) dX4_advancesBoth_112 ?_
    refine y_lload hE 0 rfl dX4_advancesBoth_114 ?_
    refine y_callV hE (m_X4_advances S1 T 16 ((1000000 * ((((1000000 - (shS S)) * (S 16 (S 0 12))) + ((shS S) * (S 16 (S 0 16)))) / 1000000)) / (100 * ((((1000000 - (shS S)) * (lenS S (S 0 12))) + ((shS S) * (lenS S (S 0 16)))) / 1000000))) h40 hM_108 (hW1) (by omega) (htb1) (by omega) (by rw [hbe]; exact hbi)) (lw_V q3176 q3178 qs102 q133 q3179) (nA := 2) (by decide +kernel) rfl ⟨Nat.le_of_ble_eq_true rfl, Nat.le_of_ble_eq_true rfl⟩ (hdd := rfl) (hcc := rfl) (hq := rfl) (hi := h40) (rest := []) rfl (by decide) dX4_advancesBoth_116 (bc' := 0) (bs' := 0) (Nat.le_refl _) (Nat.le_refl _) (fun r_116 n_116 α_116 K_116 hx_116 hp_116 => ?_)
    obtain ⟨rfl, rfl, hM_116, hk_116, hr_116⟩ := hp_116
    refine y_to (st' := []) rfl rfl rfl ?_
    exact y_vret (r := 0) hE rfl hQ dX4_advancesBoth_119 Ext.rf ⟨rfl, rfl, by unfold bthS; rw [if_pos (by omega), ← hS1]; rw [← hbe]; exact hM_116, ((((KO.mono hk_64 (fun k i z => by (try dsimp only at z); (try dsimp only); omega)).tr (KO.mono hk_77 (fun k i z => by (try dsimp only at z); (try dsimp only); omega))).tr (KO.mono hk_108 (fun k i z => by (try dsimp only at z); (try dsimp only); omega))).tr (KO.mono hk_116 (fun k i z => by (try dsimp only at z); (try dsimp only); omega))), trivial⟩
