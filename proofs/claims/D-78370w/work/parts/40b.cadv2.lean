set_option linter.unusedVariables false
theorem bth_b {S : SS} {b d y1 y2 : Int} (h3 : y1 = if S 17 (S 0 16) = 0 then S 0 17 else S 0 17 + (S 0 18 + d) / 1000000) (h4 : y2 = if S 17 (S 0 16) = 0 then min 1000000 (S 0 18 + d) else (S 0 18 + d) % 1000000) : y1 = advS (advS S 12 b) 16 d 0 17 ∧ y2 = advS (advS S 12 b) 16 d 0 18 := by
  have e16 : advS S 12 b 0 16 = S 0 16 := advS_o (by omega)
  have e17 : advS S 12 b 17 = S 17 := advS_f (by decide)
  exact adv_1 (S := advS S 12 b) (a := 16) (step := d) (q1 := S 0 17) (q2 := S 0 18) (x1 := y1) (x2 := y2) (advS_o (by omega)).symm (advS_o (by omega)).symm (by rw [e16, e17]; exact h3) (by rw [e16, e17]; exact h4)
theorem bth_a {S : SS} {b d x1 x2 : Int} (h1 : x1 = if S 17 (S 0 12) = 0 then S 0 13 else S 0 13 + (S 0 14 + b) / 1000000) (h2 : x2 = if S 17 (S 0 12) = 0 then min 1000000 (S 0 14 + b) else (S 0 14 + b) % 1000000) : x1 = advS (advS S 12 b) 16 d 0 13 ∧ x2 = advS (advS S 12 b) 16 d 0 14 := by
  have a := adv_1 (S := S) (a := 12) rfl rfl h1 h2
  exact ⟨a.1.trans (advS_o (by omega)).symm, a.2.trans (advS_o (by omega)).symm⟩
theorem bth_o {S : SS} {b d j : Int} (h : j < 13 ∨ j = 16 ∨ 19 < j) : advS (advS S 12 b) 16 d 0 j = S 0 j := by rw [advS_o (by omega), advS_o (by omega)]
set_option maxHeartbeats 4000000 in
set_option maxRecDepth 100000 in
theorem m_X12_advanceTogether {w : KW} {n : KN} {α : KA} {K : KS} (S : SS) (mi ta tb fa fb : Int)  (hR : Rst S n K) (hW : WFs S) (hlm : 0 ≤ mi ∧ mi < n 12) (hV : MV S n K mi ta tb fa fb) (hv0 : WFv S) (hin : S 0 8 = 1) (hx : 0 ≤ S 0 9 ∧ S 0 9 < S 21 0) (he : 0 ≤ S 0 10 ∧ S 0 10 ≤ S 20 (17 * S 0 9 + 2) ∧ 0 < S 20 (17 * S 0 9 + 2)) (hsa : 0 ≤ S 0 12 ∧ S 0 12 < S 19 0) (hsb : 0 ≤ S 0 16 ∧ S 0 16 < S 19 0) (ha1 : 0 ≤ S 0 13 ∧ S 0 13 ≤ 1000000000) (ha2 : 0 ≤ S 0 14 ∧ S 0 14 ≤ 1000000) (hb1 : 0 ≤ S 0 17 ∧ S 0 17 ≤ 1000000000) (hb2 : 0 ≤ S 0 18 ∧ S 0 18 ≤ 1000000) : KM w yX12_advanceTogether cX12_advanceTogether 8 none { frames := 8, cells := 0, slots := 0, locals := 208 } (3, 0) [.ref (α 12 mi)] n α K (fun r n' α' K' => n = n' ∧ α = α' ∧ KF K K' (fun k i f => k = 13 ∧ i = (ta) ∨ k = 13 ∧ i = (tb) ∨ k = 34 ∧ i = 2 ∧ 0 ≤ f) ∧ (MV (advS (advS S 12 (bstS S)) 16 (bstS S)) n K' mi ta tb fa fb ∧ K' 13 ta 4 = S 0 13 * 1000000 + S 0 14 ∧ K' 13 tb 4 = S 0 17 * 1000000 + S 0 18)) := by
  refine y_start (by decide) (Nat.le_of_ble_eq_true rfl) (fun x hE hQ => ?_)
  have hw := hQ.2
  subst hw
  have hE : YE x cX12_advanceTogether RX12 none "advanceTogether" 8 { frames := 8, cells := 0, slots := 0, locals := 208 } := hE
  refine y_wk (fun hWK => ?_)
  have hn0 := hWK.1
  refine y_bud (bc' := 0) (bs' := 0) (Nat.le_refl _) (Nat.le_refl _) ?_
  refine y_to (lv' := [(0, .ref (α 12 mi))]) (st' := []) rfl rfl rfl ?_
  have hfoot : ∀ (k : Nat) (i f : Int), (fun k i f => k = 13 ∧ i = (ta) ∨ k = 13 ∧ i = (tb) ∨ k = 34 ∧ i = 2 ∧ 0 ≤ f) k i f → ¬ SKd k f := fun k i f z => by unfold SKd; (try dsimp only at z); omega
  have wcl := hW.clips
  have n1 := hR.n1
  have n3 := hR.n3
  have n34 := hR.n34
  have n6 := hR.n6
  have n21 := hR.n21
  have n51 := hR.n51
  have n8 := hR.n8
  have n11 := hR.n11
  have wsts := hW.sts
  have wnodes := hW.nodes
  have va := hV.a
  have vb := hV.b
  have vs := hV.st
  have vl := hV.lg
  have vt := vs.resolve_left (by omega)
  obtain ⟨-, ⟨vt0, vt1, vt2, vt3, vt4, vt5⟩, vt6, vt7, vt8, vt9⟩ := vt
  have n11 := hR.n11
  have wsa := hW.st _ hsa.1 hsa.2
  have wsb := hW.st _ hsb.1 hsb.2
  have hshi := shS_in he
  have hbi := bstS_in hW hshi hsa hsb
  have hla := lenS_in hW hsa
  have hlb := lenS_in hW hsb
  have va4 := va.2.2.2.1
  refine y_aload_n hE rfl 0 rfl dX12_advanceTogether_0 ?_
  refine y_callV hE (m_X12_targetShare S mi ta tb fa fb hR hW hlm hV hin hx he) (lw_V q818 q819 q820 q145 q821) (nA := 0) (by decide +kernel) rfl ⟨Nat.le_of_ble_eq_true rfl, Nat.le_of_ble_eq_true rfl⟩ (hdd := rfl) (hcc := rfl) (hq := rfl) (hi := hlm) (rest := []) rfl (by decide) dX12_advanceTogether_1 (bc' := 0) (bs' := 0) (Nat.le_refl _) (Nat.le_refl _) (fun r_1 n_1 α_1 K_1 hx_1 hp_1 => ?_)
  obtain ⟨rfl, rfl, rfl, hr_1⟩ := hp_1
  have e_1 : shS S = r_1 := Eq.symm (by rw [hr_1.1])
  subst e_1
  refine y_to (st' := [.int (iI (shS S))]) rfl rfl rfl ?_
  refine y_istore_n hE rfl [(1, .int (iI (shS S))), (0, .ref (α 12 mi))] (by decide) rfl dX12_advanceTogether_4 ?_
  refine y_aload_n hE rfl 1 rfl dX12_advanceTogether_5 ?_
  refine y_iload_n hE rfl 0 rfl dX12_advanceTogether_6 ?_
  refine y_aload_n hE rfl 1 rfl dX12_advanceTogether_7 ?_
  refine gX12_45r (z := ta) hE hlm va.1 (by omega) dX12_advanceTogether_8 (fun hl_8 => ?_)
  refine gX12_89r (z := (S 0 12)) hE hl_8 va.2.2.2.1 (by omega) dX12_advanceTogether_11 (fun hl_11 => ?_)
  refine gX12_208 (z := (S 16 (S 0 12))) hE hl_11 (hR.s2 (i := (S 0 12)) (by omega)) dX12_advanceTogether_14 ?_
  refine y_aload_n hE rfl 1 rfl dX12_advanceTogether_17 ?_
  refine gX12_53r (z := tb) hE hlm vb.1 (by omega) dX12_advanceTogether_18 (fun hl_18 => ?_)
  refine gX12_89r (z := (S 0 16)) hE hl_18 vt2 (by omega) dX12_advanceTogether_21 (fun hl_21 => ?_)
  refine gX12_208 (z := (S 16 (S 0 16))) hE hl_21 (hR.s2 (i := (S 0 16)) (by omega)) dX12_advanceTogether_24 ?_
  refine y_callV hE (m_X12_mixed S mi (shS S) (S 16 (S 0 12)) (S 16 (S 0 16)) hR hlm (by omega) (by omega) (by omega)) (lw_V q2440 q2442 qs42 q145 q2443) (nA := 3) (by decide +kernel) rfl ⟨Nat.le_of_ble_eq_true rfl, Nat.le_of_ble_eq_true rfl⟩ (hdd := rfl) (hcc := rfl) (hq := rfl) (hi := hlm) (rest := []) rfl (by decide) dX12_advanceTogether_27 (bc' := 0) (bs' := 0) (Nat.le_refl _) (Nat.le_refl _) (fun r_27 n_27 α_27 K_27 hx_27 hp_27 => ?_)
  obtain ⟨rfl, rfl, rfl, hr_27⟩ := hp_27
  have hq27 : r_27 = mixS S (S 16 (S 0 12)) (S 16 (S 0 16)) := hr_27.trans (by unfold mixS; rfl)
  clear hr_27
  have hm1 : 1 ≤ r_27 ∧ r_27 ≤ 400 := by rw [hq27]; exact mixS_in hshi (by omega) (by omega)
  refine y_to (st' := [.long (iL r_27)]) rfl rfl rfl ?_
  refine y_lstore_n hE rfl [(2, .long (iL r_27)), (1, .int (iI (shS S))), (0, .ref (α 12 mi))] (by decide) rfl dX12_advanceTogether_30 ?_
  refine y_aload_n hE rfl 2 rfl dX12_advanceTogether_31 ?_
  refine y_iload_n hE rfl 1 rfl dX12_advanceTogether_32 ?_
  refine y_aload_n hE rfl 2 rfl dX12_advanceTogether_33 ?_
  refine gX12_14r (z := 0) hE hlm (hR.m14 (i := mi) (by omega)) (by omega) dX12_advanceTogether_34 (fun hl_34 => ?_)
  refine y_aload_n hE rfl 2 rfl dX12_advanceTogether_37 ?_
  refine gX12_45r (z := ta) hE hlm va.1 (by omega) dX12_advanceTogether_38 (fun hl_38 => ?_)
  refine gX12_89r (z := (S 0 12)) hE hl_38 va.2.2.2.1 (by omega) dX12_advanceTogether_41 (fun hl_41 => ?_)
  refine y_callVN hE (m_X1_lengthOf S (S 0 12) hR hl_34 hW hv0 (by omega) hl_41) q2406 q2408 qs39 q108 q2409 (nA := 1) (by decide +kernel) rfl ⟨Nat.le_of_ble_eq_true rfl, Nat.le_of_ble_eq_true rfl⟩ (hdd := rfl) (hcc := rfl) (hq := rfl) (hi := hl_34) (rest := [.int (iI (shS S)), .ref (α 12 mi)]) rfl (by simp [refV_cat, Value.category]) dX12_advanceTogether_44 (bc' := 0) (bs' := 0) (Nat.le_refl _) (Nat.le_refl _) (fun r_44 n_44 α_44 K_44 hx_44 hp_44 => ?_)
  obtain ⟨rfl, rfl, hk_44, hr_44⟩ := hp_44
  have e_44 : lenS S (S 0 12) = r_44 := Eq.symm (by rw [hr_44.1])
  subst e_44
  refine y_to (st' := [.int (iI (lenS S (S 0 12))), .int (iI (shS S)), .ref (α 12 mi)]) rfl rfl rfl ?_
  refine y_aload_n hE rfl 2 rfl dX12_advanceTogether_47 ?_
  refine gX12_14r (z := 0) hE hlm ((hk_44 12 mi 14 (by (try dsimp only); omega)).trans (hR.m14 (i := mi) (by omega))) (by omega) dX12_advanceTogether_48 (fun hl_48 => ?_)
  refine y_aload_n hE rfl 2 rfl dX12_advanceTogether_51 ?_
  refine gX12_53r (z := tb) hE hlm ((hk_44 12 mi 1 (by (try dsimp only); omega)).trans vb.1) (by omega) dX12_advanceTogether_52 (fun hl_52 => ?_)
  refine gX12_89r (z := (S 0 16)) hE hl_52 ((hk_44 13 tb 0 (by (try dsimp only); omega)).trans vt2) (by omega) dX12_advanceTogether_55 (fun hl_55 => ?_)
  refine y_callVN hE (m_X1_lengthOf S (S 0 16) (hR.kf (P := fun k i f => k = 13 ∧ i = (ta) ∨ k = 13 ∧ i = (tb) ∨ k = 34 ∧ i = 2 ∧ 0 ≤ f) (KF.mono hk_44 (fun k i f z => by (try dsimp only at z ⊢); omega)) hfoot) hl_48 (by assumption) (by assumption) (by omega) hl_55) q2406 q2408 qs39 q108 q2409 (nA := 1) (by decide +kernel) rfl ⟨Nat.le_of_ble_eq_true rfl, Nat.le_of_ble_eq_true rfl⟩ (hdd := rfl) (hcc := rfl) (hq := rfl) (hi := hl_48) (rest := [.int (iI (lenS S (S 0 12))), .int (iI (shS S)), .ref (α 12 mi)]) rfl (by simp [refV_cat, Value.category]) dX12_advanceTogether_58 (bc' := 0) (bs' := 0) (Nat.le_refl _) (Nat.le_refl _) (fun r_58 n_58 α_58 K_58 hx_58 hp_58 => ?_)
  obtain ⟨rfl, rfl, hk_58, hr_58⟩ := hp_58
  have e_58 : lenS S (S 0 16) = r_58 := Eq.symm (by rw [hr_58.1])
  subst e_58
  refine y_to (st' := [.int (iI (lenS S (S 0 16))), .int (iI (lenS S (S 0 12))), .int (iI (shS S)), .ref (α 12 mi)]) rfl rfl rfl ?_
  refine y_callV hE (m_X12_mixed S mi (shS S) (lenS S (S 0 12)) (lenS S (S 0 16)) (hR.kf (P := fun k i f => k = 13 ∧ i = (ta) ∨ k = 13 ∧ i = (tb) ∨ k = 34 ∧ i = 2 ∧ 0 ≤ f) ((KF.mono hk_44 (fun k i f z => by (try dsimp only at z ⊢); omega)).tr (KF.mono hk_58 (fun k i f z => by (try dsimp only at z ⊢); omega))) hfoot) hlm (by omega) (by omega) (by omega)) (lw_V q2440 q2442 qs42 q145 q2443) (nA := 3) (by decide +kernel) rfl ⟨Nat.le_of_ble_eq_true rfl, Nat.le_of_ble_eq_true rfl⟩ (hdd := rfl) (hcc := rfl) (hq := rfl) (hi := hlm) (rest := []) rfl (by decide) dX12_advanceTogether_61 (bc' := 0) (bs' := 0) (Nat.le_refl _) (Nat.le_refl _) (fun r_61 n_61 α_61 K_61 hx_61 hp_61 => ?_)
  obtain ⟨rfl, rfl, rfl, hr_61⟩ := hp_61
  have hq61 : r_61 = mixS S (lenS S (S 0 12)) (lenS S (S 0 16)) := hr_61.trans (by unfold mixS; rfl)
  clear hr_61
  have hm2 : 1 ≤ r_61 ∧ r_61 ≤ 500 := by rw [hq61]; exact mixS_in hshi hla hlb
  refine y_to (st' := [.long (iL r_61)]) rfl rfl rfl ?_
  refine y_lstore hE [(4, .long (iL r_61)), (2, .long (iL r_27)), (1, .int (iI (shS S))), (0, .ref (α 12 mi))] (by decide) rfl dX12_advanceTogether_64 ?_
  refine y_aload_n hE rfl 3 rfl dX12_advanceTogether_66 ?_
  refine y_lload_n hE rfl 1 rfl dX12_advanceTogether_67 ?_
  refine y_lload hE 0 rfl dX12_advanceTogether_68 ?_
  refine y_callV hE (m_X12_stepOf S mi r_27 r_61 (hR.kf (P := fun k i f => k = 13 ∧ i = (ta) ∨ k = 13 ∧ i = (tb) ∨ k = 34 ∧ i = 2 ∧ 0 ≤ f) ((KF.mono hk_44 (fun k i f z => by (try dsimp only at z ⊢); omega)).tr (KF.mono hk_58 (fun k i f z => by (try dsimp only at z ⊢); omega))) hfoot) hlm (by omega) (by omega)) (lw_V q2423 q2425 qs40 q145 q2426) (nA := 2) (by decide +kernel) rfl ⟨Nat.le_of_ble_eq_true rfl, Nat.le_of_ble_eq_true rfl⟩ (hdd := rfl) (hcc := rfl) (hq := rfl) (hi := hlm) (rest := []) rfl (by decide) dX12_advanceTogether_70 (bc' := 0) (bs' := 0) (Nat.le_refl _) (Nat.le_refl _) (fun r_70 n_70 α_70 K_70 hx_70 hp_70 => ?_)
  obtain ⟨rfl, rfl, rfl, hr_70⟩ := hp_70
  have hb70 : r_70 = bstS S := by rw [hr_70, hq27, hq61]; unfold bstS; rfl
  clear hr_70
  refine y_to (st' := [.long (iL r_70)]) rfl rfl rfl ?_
  refine y_lstore hE [(6, .long (iL r_70)), (4, .long (iL r_61)), (2, .long (iL r_27)), (1, .int (iI (shS S))), (0, .ref (α 12 mi))] (by decide) rfl dX12_advanceTogether_73 ?_
  refine y_aload_n hE rfl 4 rfl dX12_advanceTogether_75 ?_
  refine gX12_45r (z := ta) hE hlm ((hk_58 12 mi 0 (by (try dsimp only); omega)).trans ((hk_44 12 mi 0 (by (try dsimp only); omega)).trans va.1)) (by omega) dX12_advanceTogether_76 (fun hl_76 => ?_)
  refine y_lload hE 0 rfl dX12_advanceTogether_79 ?_
  refine y_callV hE (m_X13_advanceF S ta (S 0 12) (S 0 13) (S 0 14) r_70 (hR.kf (P := fun k i f => k = 13 ∧ i = (ta) ∨ k = 13 ∧ i = (tb) ∨ k = 34 ∧ i = 2 ∧ 0 ≤ f) ((KF.mono hk_44 (fun k i f z => by (try dsimp only at z ⊢); omega)).tr (KF.mono hk_58 (fun k i f z => by (try dsimp only at z ⊢); omega))) hfoot) (by assumption) hl_76 (by omega) (((hk_58 13 ta 0 (by (try dsimp only); omega)).trans (hk_44 13 ta 0 (by (try dsimp only); omega))).trans va.2.2.2.1) (((hk_58 13 ta 1 (by (try dsimp only); omega)).trans (hk_44 13 ta 1 (by (try dsimp only); omega))).trans va.2.2.2.2.1) (((hk_58 13 ta 2 (by (try dsimp only); omega)).trans (hk_44 13 ta 2 (by (try dsimp only); omega))).trans va.2.2.2.2.2.1) (by omega) (by omega) (by rw [hb70]; omega)) (lw_V q2428 q2429 q2430 q146 q2431) (nA := 1) (by decide +kernel) rfl ⟨Nat.le_of_ble_eq_true rfl, Nat.le_of_ble_eq_true rfl⟩ (hdd := rfl) (hcc := rfl) (hq := rfl) (hi := hl_76) (rest := []) rfl (by decide) dX12_advanceTogether_81 (bc' := 0) (bs' := 0) (Nat.le_refl _) (Nat.le_refl _) (fun r_81 n_81 α_81 K_81 hx_81 hp_81 => ?_)
  obtain ⟨rfl, rfl, hk_81, hr_81⟩ := hp_81
  rw [hb70] at hr_81
  have h81 := bth_a (d := bstS S) hr_81.1 hr_81.2.1
  have g81 := hr_81.2.2
  clear hr_81
  refine y_to (st' := []) rfl rfl rfl ?_
  refine y_aload_n hE rfl 4 rfl dX12_advanceTogether_84 ?_
  refine gX12_53r (z := tb) hE hlm ((hk_81 12 mi 1 (by (try dsimp only); omega)).trans ((hk_58 12 mi 1 (by (try dsimp only); omega)).trans ((hk_44 12 mi 1 (by (try dsimp only); omega)).trans vb.1))) (by omega) dX12_advanceTogether_85 (fun hl_85 => ?_)
  refine y_lload hE 0 rfl dX12_advanceTogether_88 ?_
  refine y_callV hE (m_X13_advanceF S tb (S 0 16) (S 0 17) (S 0 18) r_70 (hR.kf (P := fun k i f => k = 13 ∧ i = (ta) ∨ k = 13 ∧ i = (tb) ∨ k = 34 ∧ i = 2 ∧ 0 ≤ f) (((KF.mono hk_44 (fun k i f z => by (try dsimp only at z ⊢); omega)).tr (KF.mono hk_58 (fun k i f z => by (try dsimp only at z ⊢); omega))).tr (KF.mono hk_81 (fun k i f z => by (try dsimp only at z ⊢); omega))) hfoot) (by assumption) hl_85 (by omega) ((hk_81 13 tb 0 (by (try dsimp only); omega)).trans (((hk_58 13 tb 0 (by (try dsimp only); omega)).trans (hk_44 13 tb 0 (by (try dsimp only); omega))).trans vt2)) ((hk_81 13 tb 1 (by (try dsimp only); omega)).trans (((hk_58 13 tb 1 (by (try dsimp only); omega)).trans (hk_44 13 tb 1 (by (try dsimp only); omega))).trans vt3)) ((hk_81 13 tb 2 (by (try dsimp only); omega)).trans (((hk_58 13 tb 2 (by (try dsimp only); omega)).trans (hk_44 13 tb 2 (by (try dsimp only); omega))).trans vt4)) (by omega) (by omega) (by rw [hb70]; omega)) (lw_V q2428 q2429 q2430 q146 q2431) (nA := 1) (by decide +kernel) rfl ⟨Nat.le_of_ble_eq_true rfl, Nat.le_of_ble_eq_true rfl⟩ (hdd := rfl) (hcc := rfl) (hq := rfl) (hi := hl_85) (rest := []) rfl (by decide) dX12_advanceTogether_90 (bc' := 0) (bs' := 0) (Nat.le_refl _) (Nat.le_refl _) (fun r_90 n_90 α_90 K_90 hx_90 hp_90 => ?_)
  obtain ⟨rfl, rfl, hk_90, hr_90⟩ := hp_90
  rw [hb70] at hr_90
  have h90 := bth_b (b := bstS S) hr_90.1 hr_90.2.1
  have g90 := hr_90.2.2
  clear hr_90
  refine y_to (st' := []) rfl rfl rfl ?_
  refine y_vret (r := 0) hE rfl hQ dX12_advanceTogether_93 Ext.rf ?_
  have hka : ∀ f, K_90 13 ta f = K_81 13 ta f := fun f => hk_90 13 ta f (by (try dsimp only); omega)
  have hkk : KF K K_90 (fun k i f => k = 13 ∧ i = ta ∨ k = 13 ∧ i = tb ∨ k = 34 ∧ i = 2 ∧ 0 ≤ f) := ((((KF.mono hk_44 (fun k i f z => by (try dsimp only at z ⊢); omega)).tr (KF.mono hk_58 (fun k i f z => by (try dsimp only at z ⊢); omega))).tr (KF.mono hk_81 (fun k i f z => by (try dsimp only at z ⊢); omega))).tr (KF.mono hk_90 (fun k i f z => by (try dsimp only at z ⊢); omega)))
  refine ⟨rfl, rfl, hkk, hV.tk hkk (fun f hf => ⟨(hk_90 13 ta f (by (try dsimp only); omega)).trans ((hk_81 13 ta f (by (try dsimp only); omega)).trans ((hk_58 13 ta f (by (try dsimp only); omega)).trans (hk_44 13 ta f (by (try dsimp only); omega)))), (hk_90 13 tb f (by (try dsimp only); omega)).trans ((hk_81 13 tb f (by (try dsimp only); omega)).trans ((hk_58 13 tb f (by (try dsimp only); omega)).trans (hk_44 13 tb f (by (try dsimp only); omega))))⟩) (fun j hj => bth_o hj) ⟨(hka 1).trans h81.1, (hka 2).trans h81.2⟩ (fun _ => h90), (hka 4).trans g81, g90⟩
