set_option linter.unusedVariables false
set_option maxHeartbeats 4000000 in
set_option maxRecDepth 100000 in
theorem m_X12_listCandidates {w : KW} {n : KN} {α : KA} {K : KS} (S : SS) (mi ta tb fa fb : Int) (T : Int) (hR : Rst S n K) (hW : WFs S) (hlm : 0 ≤ mi ∧ mi < n 12) (hV : MV S n K mi ta tb fa fb) (hX : WFm S 0 T) (h19 : 0 < S 19 0) : KM w yX12_listCandidates cX12_listCandidates 2 none { frames := 4, cells := 0, slots := 0, locals := 91 } (3, 0) [.ref (α 12 mi)] n α K (fun r n' α' K' => n = n' ∧ α = α' ∧ KF K K' (fun k i f => k = 12 ∧ i = (mi) ∧ f = 13 ∨ k = 36 ∧ i = (mi) ∧ 0 ≤ f ∨ k = 37 ∧ i = (mi) ∧ 0 ≤ f) ∧ (CA (lcL S) (K' 12 mi 13) (K' 36 mi) (K' 37 mi))) := by
  refine y_start (by decide) (Nat.le_of_ble_eq_true rfl) (fun x hE hQ => ?_)
  have hw := hQ.2
  subst hw
  have hE : YE x cX12_listCandidates RX12 none "listCandidates" 2 { frames := 4, cells := 0, slots := 0, locals := 91 } := hE
  refine y_wk (fun hWK => ?_)
  have hn0 := hWK.1
  refine y_bud (bc' := 0) (bs' := 0) (Nat.le_refl _) (Nat.le_refl _) ?_
  refine y_to (lv' := [(0, .ref (α 12 mi))]) (st' := []) rfl rfl rfl ?_
  have hfoot : ∀ (k : Nat) (i f : Int), (fun k i f => k = 12 ∧ i = (mi) ∧ f = 13 ∨ k = 36 ∧ i = (mi) ∧ 0 ≤ f ∨ k = 37 ∧ i = (mi) ∧ 0 ≤ f) k i f → ¬ SKd k f := fun k i f z => by unfold SKd; (try dsimp only at z); omega
  have wcl := hW.clips
  have n1 := hR.n1
  have n3 := hR.n3
  have n34 := hR.n34
  have n6 := hR.n6
  have n21 := hR.n21
  have n51 := hR.n51
  have n8 := hR.n8
  have n11 := hR.n11
  have wsts := hW.sts
  have wnodes := hW.nodes
  have va := hV.a
  have vb := hV.b
  have vs := hV.st
  have vl := hV.lg
  have hfe : ∀ (k : Nat) (i f : Int), (fun k i f => k = 12 ∧ i = (mi) ∧ f = 13 ∨ k = 36 ∧ i = (mi) ∧ 0 ≤ f ∨ k = 37 ∧ i = (mi) ∧ 0 ≤ f) k i f → ¬ MVe mi k i f := fun k i f z => by unfold MVe; (try dsimp only at z); omega
  have xinn := hX.inn
  have xfro := hX.fro
  have xmany := hX.many
  have xcuts := hX.cuts
  have xta := hX.ta
  have xtb := hX.tb
  have xfz := hX.fz
  simp only [Int.zero_add] at xinn xfro xmany xcuts xta xtb xfz
  unfold TkOk at xta xtb
  have xtaa := xta h19
  have n24 := hR.n24
  have n54 := hR.n54
  have n40 := hR.n40
  have n11 := hR.n11
  have wtrs := hW.trs
  refine y_aload_n hE rfl 0 rfl dX12_listCandidates_0 ?_
  refine y_iconst hE dX12_listCandidates_1 ?_
  refine pX12_114 hE hlm dX12_listCandidates_2 ?_
  refine y_aload_n hE rfl 0 rfl dX12_listCandidates_5 ?_
  refine y_callV hE (m_X12_isIdle S mi ta tb fa fb (hR.kf (P := fun k i f => k = 12 ∧ i = (mi) ∧ f = 13 ∨ k = 36 ∧ i = (mi) ∧ 0 ≤ f ∨ k = 37 ∧ i = (mi) ∧ 0 ≤ f) (KF.up KF.rf (by (try dsimp only); omega)) hfoot) (by assumption) hlm (hV.kfc (P := fun k i f => k = 12 ∧ i = (mi) ∧ f = 13 ∨ k = 36 ∧ i = (mi) ∧ 0 ≤ f ∨ k = 37 ∧ i = (mi) ∧ 0 ≤ f) (KF.up KF.rf (by (try dsimp only); omega)) hfe)) (lw_V q817 q790 q791 q145 q792) (nA := 0) (by decide +kernel) rfl ⟨Nat.le_of_ble_eq_true rfl, Nat.le_of_ble_eq_true rfl⟩ (hdd := rfl) (hcc := rfl) (hq := rfl) (hi := hlm) (rest := []) rfl (by decide) dX12_listCandidates_6 (bc' := 0) (bs' := 0) (Nat.le_refl _) (Nat.le_refl _) (fun r_6 n_6 α_6 K_6 hx_6 hp_6 => ?_)
  obtain ⟨rfl, rfl, rfl, hr_6⟩ := hp_6
  refine y_to (st' := [.int (iI r_6)]) rfl rfl rfl ?_
  refine y_if_eq hE 25 (by decide) (by omega) dX12_listCandidates_9 (fun c_9 => ?_) (fun c_9 => ?_)
  · have h81 : S 0 8 = 1 := by omega
    obtain ⟨-, ⟨vt0, vt1, vt2, vt3, vt4, vt5⟩, vt6, vt7, vt8, vt9⟩ := vs.resolve_left (by omega)
    have xbb := xtb h81
    unfold TkOk at xbb
    have wx := hW.tr (S 0 9) xbb.2.1 xbb.2.2.1
    have h54n := hR.t54 (i := S 0 9) ⟨xbb.2.1, xbb.2.2.1⟩
    have J57 : ∀ (md : Int), (md = modS S) → (0 ≤ md ∧ md ≤ 4) → Y x n α (up3 K 12 mi 13 0) 0 0 57 [(0, .ref (α 12 mi))] [.int (iI md)] := by
      intro md hmd hmd2
      refine y_istore_n hE rfl [(1, .int (iI md)), (0, .ref (α 12 mi))] (by decide) rfl dX12_listCandidates_57 ?_
      have J80 : ∀ (K2 : KS), (KF K K2 (fun k i f => k = 12 ∧ i = (mi) ∧ f = 13 ∨ k = 36 ∧ i = (mi) ∧ 0 ≤ f ∨ k = 37 ∧ i = (mi) ∧ 0 ≤ f)) → (CA (lc1 S md) (K2 12 mi 13) (K2 36 mi) (K2 37 mi)) → Y x n α K2 0 0 80 [(1, .int (iI md)), (0, .ref (α 12 mi))] [] := by
        intro K2 hk2 hL2
        have J101 : ∀ (K3 : KS), (KF K K3 (fun k i f => k = 12 ∧ i = (mi) ∧ f = 13 ∨ k = 36 ∧ i = (mi) ∧ 0 ≤ f ∨ k = 37 ∧ i = (mi) ∧ 0 ≤ f)) → (CA (lc2 S md) (K3 12 mi 13) (K3 36 mi) (K3 37 mi)) → Y x n α K3 0 0 101 [(1, .int (iI md)), (0, .ref (α 12 mi))] [] := by
          intro K3 hk3 hL3
          refine y_iload_n hE rfl 0 rfl dX12_listCandidates_101 ?_
          refine y_iconst hE dX12_listCandidates_102 ?_
          refine y_icmp_ne hE 118 (by decide) (by omega) (by omega) dX12_listCandidates_103 (fun c_103 => ?_) (fun c_103 => ?_)
          · exact y_vret (r := 0) hE rfl hQ dX12_listCandidates_118 Ext.rf ⟨rfl, rfl, hk3, by unfold lcL; rw [if_neg (by omega), ← hmd]; unfold lc3; first | (rw [if_pos (by omega)]; exact hr_115) | (rw [if_neg (by omega)]; exact hL3)⟩
          · refine y_aload_n hE rfl 1 rfl dX12_listCandidates_106 ?_
            refine y_aload_n hE rfl 1 rfl dX12_listCandidates_107 ?_
            refine gX12_45r (z := ta) hE hlm ((hk3 12 mi 0 (by (try dsimp only); omega)).trans va.1) (by omega) dX12_listCandidates_108 (fun hl_108 => ?_)
            refine gX12_89r (z := (S 0 12)) hE hl_108 ((hk3 13 ta 0 (by (try dsimp only); omega)).trans va.2.2.2.1) (by omega) dX12_listCandidates_111 (fun hl_111 => ?_)
            refine y_iconst hE dX12_listCandidates_114 ?_
            refine y_callV hE (m_X12_list S mi ta tb fa fb T (S 0 12) 1 (lc2 S md) (hR.kf (P := fun k i f => k = 12 ∧ i = (mi) ∧ f = 13 ∨ k = 36 ∧ i = (mi) ∧ 0 ≤ f ∨ k = 37 ∧ i = (mi) ∧ 0 ≤ f) hk3 hfoot) (by assumption) hlm (hV.kfc (P := fun k i f => k = 12 ∧ i = (mi) ∧ f = 13 ∨ k = 36 ∧ i = (mi) ∧ 0 ≤ f ∨ k = 37 ∧ i = (mi) ∧ 0 ≤ f) hk3 hfe) (by assumption) (by omega) (by omega) hl_111 (lc2_ok hW md) (hL3)) (lw_V q2340 q2342 qs33 q145 q2343) (nA := 2) (by decide +kernel) rfl ⟨Nat.le_of_ble_eq_true rfl, Nat.le_of_ble_eq_true rfl⟩ (hdd := rfl) (hcc := rfl) (hq := rfl) (hi := hlm) (rest := []) rfl (by decide) dX12_listCandidates_115 (bc' := 0) (bs' := 0) (Nat.le_refl _) (Nat.le_refl _) (fun r_115 n_115 α_115 K_115 hx_115 hp_115 => ?_)
            obtain ⟨rfl, rfl, hk_115, hr_115⟩ := hp_115
            refine y_to (st' := []) rfl rfl rfl ?_
            exact y_vret (r := 0) hE rfl hQ dX12_listCandidates_118 Ext.rf ⟨rfl, rfl, (hk3.tr (KF.mono hk_115 (fun k i f z => by (try dsimp only at z ⊢); omega))), by unfold lcL; rw [if_neg (by omega), ← hmd]; unfold lc3; first | (rw [if_pos (by omega)]; exact hr_115) | (rw [if_neg (by omega)]; exact hL3)⟩
        refine y_iload_n hE rfl 0 rfl dX12_listCandidates_80 ?_
        refine y_if_eq hE 101 (by decide) (by omega) dX12_listCandidates_81 (fun c_81 => ?_) (fun c_81 => ?_)
        · exact J101 K2 (hk2) (by unfold lc2; first | (rw [if_pos (by omega)]; exact hr_98) | (rw [if_neg (by omega)]; exact hL2))
        · refine y_iload_n hE rfl 0 rfl dX12_listCandidates_84 ?_
          refine y_iconst hE dX12_listCandidates_85 ?_
          refine y_icmp_eq hE 101 (by decide) (by omega) (by omega) dX12_listCandidates_86 (fun c_86 => ?_) (fun c_86 => ?_)
          · exact J101 K2 (hk2) (by unfold lc2; first | (rw [if_pos (by omega)]; exact hr_98) | (rw [if_neg (by omega)]; exact hL2))
          · refine y_aload_n hE rfl 1 rfl dX12_listCandidates_89 ?_
            refine y_aload_n hE rfl 1 rfl dX12_listCandidates_90 ?_
            refine gX12_53r (z := tb) hE hlm ((hk2 12 mi 1 (by (try dsimp only); omega)).trans vb.1) (by omega) dX12_listCandidates_91 (fun hl_91 => ?_)
            refine gX12_89r (z := (S 0 16)) hE hl_91 ((hk2 13 tb 0 (by (try dsimp only); omega)).trans vt2) (by omega) dX12_listCandidates_94 (fun hl_94 => ?_)
            refine y_iconst hE dX12_listCandidates_97 ?_
            refine y_callV hE (m_X12_list S mi ta tb fa fb T (S 0 16) 0 (lc1 S md) (hR.kf (P := fun k i f => k = 12 ∧ i = (mi) ∧ f = 13 ∨ k = 36 ∧ i = (mi) ∧ 0 ≤ f ∨ k = 37 ∧ i = (mi) ∧ 0 ≤ f) hk2 hfoot) (by assumption) hlm (hV.kfc (P := fun k i f => k = 12 ∧ i = (mi) ∧ f = 13 ∨ k = 36 ∧ i = (mi) ∧ 0 ≤ f ∨ k = 37 ∧ i = (mi) ∧ 0 ≤ f) hk2 hfe) (by assumption) (by omega) (by omega) hl_94 (lc1_ok hW md) (hL2)) (lw_V q2340 q2342 qs33 q145 q2343) (nA := 2) (by decide +kernel) rfl ⟨Nat.le_of_ble_eq_true rfl, Nat.le_of_ble_eq_true rfl⟩ (hdd := rfl) (hcc := rfl) (hq := rfl) (hi := hlm) (rest := []) rfl (by decide) dX12_listCandidates_98 (bc' := 0) (bs' := 0) (Nat.le_refl _) (Nat.le_refl _) (fun r_98 n_98 α_98 K_98 hx_98 hp_98 => ?_)
            obtain ⟨rfl, rfl, hk_98, hr_98⟩ := hp_98
            refine y_to (st' := []) rfl rfl rfl ?_
            exact J101 K_98 ((hk2.tr (KF.mono hk_98 (fun k i f z => by (try dsimp only at z ⊢); omega)))) (by unfold lc2; first | (rw [if_pos (by omega)]; exact hr_98) | (rw [if_neg (by omega)]; exact hL2))
      have J68 : (md = 1 ∨ md = 3) → Y x n α (up3 K 12 mi 13 0) 0 0 68 [(1, .int (iI md)), (0, .ref (α 12 mi))] [] := by
        intro h13
        refine y_aload_n hE rfl 1 rfl dX12_listCandidates_68 ?_
        refine y_aload_n hE rfl 1 rfl dX12_listCandidates_69 ?_
        refine gX12_45r (z := ta) hE hlm va.1 (by omega) dX12_listCandidates_70 (fun hl_70 => ?_)
        refine gX12_89r (z := (S 0 12)) hE hl_70 va.2.2.2.1 (by omega) dX12_listCandidates_73 (fun hl_73 => ?_)
        refine y_iconst hE dX12_listCandidates_76 ?_
        refine y_callV hE (m_X12_list S mi ta tb fa fb T (S 0 12) 1 ([]) (hR.kf (P := fun k i f => k = 12 ∧ i = (mi) ∧ f = 13 ∨ k = 36 ∧ i = (mi) ∧ 0 ≤ f ∨ k = 37 ∧ i = (mi) ∧ 0 ≤ f) (KF.up KF.rf (by (try dsimp only); omega)) hfoot) (by assumption) hlm (hV.kfc (P := fun k i f => k = 12 ∧ i = (mi) ∧ f = 13 ∨ k = 36 ∧ i = (mi) ∧ 0 ≤ f ∨ k = 37 ∧ i = (mi) ∧ 0 ≤ f) (KF.up KF.rf (by (try dsimp only); omega)) hfe) (by assumption) (by omega) (by omega) hl_73 (COk.nil S) (by rw [up3_s]; exact CA.nil _ _)) (lw_V q2340 q2342 qs33 q145 q2343) (nA := 2) (by decide +kernel) rfl ⟨Nat.le_of_ble_eq_true rfl, Nat.le_of_ble_eq_true rfl⟩ (hdd := rfl) (hcc := rfl) (hq := rfl) (hi := hlm) (rest := []) rfl (by decide) dX12_listCandidates_77 (bc' := 0) (bs' := 0) (Nat.le_refl _) (Nat.le_refl _) (fun r_77 n_77 α_77 K_77 hx_77 hp_77 => ?_)
        obtain ⟨rfl, rfl, hk_77, hr_77⟩ := hp_77
        refine y_to (st' := []) rfl rfl rfl ?_
        exact J80 K_77 (((KF.up KF.rf (by (try dsimp only); omega)).tr (KF.mono hk_77 (fun k i f z => by (try dsimp only at z ⊢); omega)))) (by unfold lc1; first | (rw [if_pos (by omega)]; exact hr_77) | (rw [if_neg (by omega)]; rw [up3_s]; exact CA.nil _ _))
      refine y_iload_n hE rfl 0 rfl dX12_listCandidates_58 ?_
      refine y_iconst hE dX12_listCandidates_59 ?_
      refine y_icmp_eq hE 68 (by decide) (by omega) (by omega) dX12_listCandidates_60 (fun c_60 => ?_) (fun c_60 => ?_)
      · exact J68  (by omega)
      · refine y_iload_n hE rfl 0 rfl dX12_listCandidates_63 ?_
        refine y_iconst hE dX12_listCandidates_64 ?_
        refine y_icmp_ne hE 80 (by decide) (by omega) (by omega) dX12_listCandidates_65 (fun c_65 => ?_) (fun c_65 => ?_)
        · exact J80 (up3 K 12 mi 13 0) ((KF.up KF.rf (by (try dsimp only); omega))) (by unfold lc1; first | (rw [if_pos (by omega)]; exact hr_77) | (rw [if_neg (by omega)]; rw [up3_s]; exact CA.nil _ _))
        · exact J68  (by omega)
    refine y_aload_n hE rfl 0 rfl dX12_listCandidates_25 ?_
    refine gX12_59 (z := (S 0 11)) hE hlm vt8 dX12_listCandidates_26 ?_
    refine y_iconst hE dX12_listCandidates_29 ?_
    refine y_icmp_ne hE 37 (by decide) (by omega) (by omega) dX12_listCandidates_30 (fun c_30 => ?_) (fun c_30 => ?_)
    · refine y_aload_n hE rfl 0 rfl dX12_listCandidates_37 ?_
      refine gX12_14r (z := 0) hE hlm (hR.m14 (i := mi) (by omega)) (by omega) dX12_listCandidates_38 (fun hl_38 => ?_)
      refine gX12_95r (z := 0) hE hl_38 (hR.c4) (by omega) dX12_listCandidates_41 (fun hl_41 => ?_)
      refine y_aload_n hE rfl 0 rfl dX12_listCandidates_44 ?_
      refine gX12_23 (z := (S 0 9)) hE hlm vt6 dX12_listCandidates_45 ?_
      refine y_callV hE (m_J2_get 24 54 14 0 (S 0 9) rfl rfl hl_41 (by have e1 : (up3 K 12 mi 13 0) 24 0 1 = 0 := (hR.l24); omega) (by have e1 : (up3 K 12 mi 13 0) 24 0 1 = 0 := (hR.l24); have e2 : (up3 K 12 mi 13 0) 24 0 2 = (S 21 0) := (hR.z24); have e3 : (up3 K 12 mi 13 0) 54 0 (-1) = 24 := (hR.m24); rw [e1, e2, e3]; omega) (by have e2 : (up3 K 12 mi 13 0) 24 0 2 = (S 21 0) := (hR.z24); rw [e2]; omega) (by have e1 : (up3 K 12 mi 13 0) 24 0 1 = 0 := (hR.l24); have e4 : (up3 K 12 mi 13 0) 54 0 (S 0 9) = K 54 0 (S 0 9) := rfl; rw [e1, e4]; omega)) (lw_V q823 q673 q674 q111 q675) (nA := 1) (by decide +kernel) rfl ⟨Nat.le_of_ble_eq_true rfl, Nat.le_of_ble_eq_true rfl⟩ (hdd := rfl) (hcc := rfl) (hq := rfl) (hi := hl_41) (rest := []) rfl (by decide) dX12_listCandidates_48 (bc' := 0) (bs' := 0) (Nat.le_refl _) (Nat.le_refl _) (fun r_48 n_48 α_48 K_48 hx_48 hp_48 => ?_)
      obtain ⟨rfl, rfl, rfl, hr_48⟩ := hp_48
      have e_48 : K 54 0 (S 0 9) = r_48 := Eq.symm (by have e1 : (up3 K 12 mi 13 0) 24 0 1 = 0 := (hR.l24); have e4 : (up3 K 12 mi 13 0) 54 0 (S 0 9) = K 54 0 (S 0 9) := rfl; rw [hr_48.1, e1, e4])
      subst e_48
      refine y_to (st' := [refV α 14 (K 54 0 (S 0 9))]) rfl rfl rfl ?_
      have hl_48 : (0 : Int) ≤ K 54 0 (S 0 9) ∧ K 54 0 (S 0 9) < n 14 := hr_48.2
      refine y_ref hl_48.1 ?_
      refine y_castE hE rfl rfl hl_48 q824 rfl dX12_listCandidates_51 ?_
      refine gX12_142 (z := (S 20 (17 * (S 0 9) + 5))) hE hl_48 (hR.t5 (i := S 0 9) (by omega)) dX12_listCandidates_54 ?_
      exact J57 (S 20 (17 * (S 0 9) + 5)) (by unfold modS; first | rw [if_pos (by omega)] | rw [if_neg (by omega)]) (by omega)
    · refine y_iconst hE dX12_listCandidates_33 ?_
      refine y_goto hE 57 (by decide) dX12_listCandidates_34 ?_
      exact J57 0 (by unfold modS; first | rw [if_pos (by omega)] | rw [if_neg (by omega)]) (by omega)
  · refine y_aload_n hE rfl 0 rfl dX12_listCandidates_12 ?_
    refine y_aload_n hE rfl 0 rfl dX12_listCandidates_13 ?_
    refine gX12_45r (z := ta) hE hlm va.1 (by omega) dX12_listCandidates_14 (fun hl_14 => ?_)
    refine gX12_89r (z := (S 0 12)) hE hl_14 va.2.2.2.1 (by omega) dX12_listCandidates_17 (fun hl_17 => ?_)
    refine y_iconst hE dX12_listCandidates_20 ?_
    refine y_callV hE (m_X12_list S mi ta tb fa fb T (S 0 12) 1 ([]) (hR.kf (P := fun k i f => k = 12 ∧ i = (mi) ∧ f = 13 ∨ k = 36 ∧ i = (mi) ∧ 0 ≤ f ∨ k = 37 ∧ i = (mi) ∧ 0 ≤ f) (KF.up KF.rf (by (try dsimp only); omega)) hfoot) (by assumption) hlm (hV.kfc (P := fun k i f => k = 12 ∧ i = (mi) ∧ f = 13 ∨ k = 36 ∧ i = (mi) ∧ 0 ≤ f ∨ k = 37 ∧ i = (mi) ∧ 0 ≤ f) (KF.up KF.rf (by (try dsimp only); omega)) hfe) (by assumption) (by omega) (by omega) hl_17 (COk.nil S) (by rw [up3_s]; exact CA.nil _ _)) (lw_V q2340 q2342 qs33 q145 q2343) (nA := 2) (by decide +kernel) rfl ⟨Nat.le_of_ble_eq_true rfl, Nat.le_of_ble_eq_true rfl⟩ (hdd := rfl) (hcc := rfl) (hq := rfl) (hi := hlm) (rest := []) rfl (by decide) dX12_listCandidates_21 (bc' := 0) (bs' := 0) (Nat.le_refl _) (Nat.le_refl _) (fun r_21 n_21 α_21 K_21 hx_21 hp_21 => ?_)
    obtain ⟨rfl, rfl, hk_21, hr_21⟩ := hp_21
    refine y_to (st' := []) rfl rfl rfl ?_
    exact y_vret (r := 0) hE rfl hQ dX12_listCandidates_24 Ext.rf ⟨rfl, rfl, ((KF.up KF.rf (by (try dsimp only); omega)).tr (KF.mono hk_21 (fun k i f z => by (try dsimp only at z ⊢); omega))), by unfold lcL; rw [if_pos (by omega)]; exact hr_21⟩
