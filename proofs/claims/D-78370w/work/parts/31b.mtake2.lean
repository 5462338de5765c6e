set_option linter.unusedVariables false
set_option maxHeartbeats 4000000 in
set_option maxRecDepth 100000 in
theorem m_X4_ends {w : KW} {n : KN} {α : KA} {K : KS} (S : SS)  (h40 : (0 : Int) ≤ 0 ∧ 0 < n 4) (hM : MRep S n K) : KM w yX4_ends cX4_ends 1 none { frames := 1, cells := 0, slots := 0, locals := 23 } (3, 0) [.ref (α 4 0)] n α K (fun r n' α' K' => n = n' ∧ α = α' ∧ MRep (endS S) n K' ∧ KO K K' (fun k _ => k = 100) ∧ (True)) := by
  refine y_start (by decide) (Nat.le_of_ble_eq_true rfl) (fun x hE hQ => ?_)
  have hw := hQ.2
  subst hw
  have hE : YE x cX4_ends RX4 none "ends" 1 { frames := 1, cells := 0, slots := 0, locals := 23 } := hE
  refine y_wk (fun hWK => ?_)
  have hn0 := hWK.1
  refine y_bud (bc' := 0) (bs' := 0) (Nat.le_refl _) (Nat.le_refl _) ?_
  refine y_to (lv' := [(0, .ref (α 4 0))]) (st' := []) rfl rfl rfl ?_
  refine y_aload_n hE rfl 0 rfl dX4_ends_0 ?_
  refine y_bipush hE (by decide) dX4_ends_1 ?_
  refine y_bipush hE (by decide) dX4_ends_3 ?_
  refine y_callV hE (m_X4_copiesTrack S 16 12 h40 hM (by omega) (by omega) (by omega)) (lw_V q3150 q3152 qs96 q133 q3153) (nA := 2) (by decide +kernel) rfl ⟨Nat.le_of_ble_eq_true rfl, Nat.le_of_ble_eq_true rfl⟩ (hdd := rfl) (hcc := rfl) (hq := rfl) (hi := h40) (rest := []) rfl (by decide) dX4_ends_5 (bc' := 0) (bs' := 0) (Nat.le_refl _) (Nat.le_refl _) (fun r_5 n_5 α_5 K_5 hx_5 hp_5 => ?_)
  obtain ⟨rfl, rfl, hM_5, hk_5, hr_5⟩ := hp_5
  refine y_to (st' := []) rfl rfl rfl ?_
  refine y_aload_n hE rfl 0 rfl dX4_ends_8 ?_
  refine gX4_7r (z := 0) hE h40 (MObj.r hM_5.1 0 (by decide)) (by omega) dX4_ends_9 (fun hl_9 => ?_)
  refine y_bipush hE (by decide) dX4_ends_12 ?_
  refine y_iconst hE dX4_ends_14 ?_
  refine y_iast hE (by unfold kC; decide) rfl (by simp [kTag]) hl_9 (by have hL : K_5 100 0 (-1) = 1160 := (MObj.l hM_5.1 0 (by decide)); omega) dX4_ends_15 ?_
  refine y_aload_n hE rfl 0 rfl dX4_ends_16 ?_
  refine gX4_7r (z := 0) hE h40 (MObj.r hM_5.1 0 (by decide)) (by omega) dX4_ends_17 (fun hl_17 => ?_)
  refine y_bipush hE (by decide) dX4_ends_20 ?_
  refine y_iconst hE dX4_ends_22 ?_
  refine y_iast hE (by unfold kC; decide) rfl (by simp [kTag]) hl_17 (by have hL : (up3 K_5 100 0 8 0) 100 0 (-1) = 1160 := (MObj.l hM_5.1 0 (by decide)); omega) dX4_ends_23 ?_
  refine y_aload_n hE rfl 0 rfl dX4_ends_24 ?_
  refine gX4_7r (z := 0) hE h40 (MObj.r hM_5.1 0 (by decide)) (by omega) dX4_ends_25 (fun hl_25 => ?_)
  refine y_bipush hE (by decide) dX4_ends_28 ?_
  refine y_iconst hE dX4_ends_30 ?_
  refine y_iast hE (by unfold kC; decide) rfl (by simp [kTag]) hl_25 (by have hL : (up3 (up3 K_5 100 0 8 0) 100 0 11 0) 100 0 (-1) = 1160 := (MObj.l hM_5.1 0 (by decide)); omega) dX4_ends_31 ?_
  refine y_aload_n hE rfl 0 rfl dX4_ends_32 ?_
  refine gX4_7r (z := 0) hE h40 (MObj.r hM_5.1 0 (by decide)) (by omega) dX4_ends_33 (fun hl_33 => ?_)
  refine y_bipush hE (by decide) dX4_ends_36 ?_
  refine y_iconst hE dX4_ends_38 ?_
  refine y_iast hE (by unfold kC; decide) rfl (by simp [kTag]) hl_33 (by have hL : (up3 (up3 (up3 K_5 100 0 8 0) 100 0 11 0) 100 0 20 0) 100 0 (-1) = 1160 := (MObj.l hM_5.1 0 (by decide)); omega) dX4_ends_39 ?_
  exact y_vret (r := 0) hE rfl hQ dX4_ends_40 Ext.rf ⟨rfl, rfl, (MRep.a (MRep.a (MRep.a (MRep.a hM_5 0 rfl (j := 8) (by omega) 0) 0 rfl (j := 11) (by omega) 0) 0 rfl (j := 20) (by omega) 0) 0 rfl (j := 21) (by omega) 0), (KO.up (KO.up (KO.up (KO.up hk_5 (by decide)) (by decide)) (by decide)) (by decide)), trivial⟩
set_option maxHeartbeats 4000000 in
set_option maxRecDepth 100000 in
theorem m_X4_goesTo {w : KW} {n : KN} {α : KA} {K : KS} (S : SS) (T t : Int) (h40 : (0 : Int) ≤ 0 ∧ 0 < n 4) (hM : MRep S n K) (hW : WFs S) (ht : 0 ≤ t ∧ t < S 21 0) (hta : TkOk S 12 T) (hfr : S 0 20 = 0 ∨ S 0 20 = 1) : KM w yX4_goesTo cX4_goesTo 4 none { frames := 2, cells := 0, slots := 0, locals := 43 } (3, 0) [.ref (α 4 0), .int (iI t)] n α K (fun r n' α' K' => n = n' ∧ α = α' ∧ MRep (goS S t) n K' ∧ KO K K' (fun k _ => k = 100) ∧ (True)) := by
  refine y_start (by decide) (Nat.le_of_ble_eq_true rfl) (fun x hE hQ => ?_)
  have hw := hQ.2
  subst hw
  have hE : YE x cX4_goesTo RX4 none "goesTo" 4 { frames := 2, cells := 0, slots := 0, locals := 43 } := hE
  refine y_wk (fun hWK => ?_)
  have hn0 := hWK.1
  refine y_bud (bc' := 0) (bs' := 0) (Nat.le_refl _) (Nat.le_refl _) ?_
  refine y_to (lv' := [(0, .ref (α 4 0)), (1, .int (iI t))]) (st' := []) rfl rfl rfl ?_
  have wpar := hW.par
  have wclips := hW.clips
  have wnodes := hW.nodes
  have wsts := hW.sts
  have wtrs := hW.trs
  have wthr := hW.thr
  have wtxt := hW.txt
  have wt := hW.tr t ht.1 ht.2
  have htax := hta
  unfold TkOk at htax
  refine y_aload_n hE rfl 0 rfl dX4_goesTo_0 ?_
  refine y_iload_n hE rfl 1 rfl dX4_goesTo_1 ?_
  refine y_iconst hE dX4_goesTo_2 ?_
  refine y_callV hE (m_X4_of S t 1 h40 hM (by omega)) (lw_V q2964 q2966 qs64 q133 q2967) (nA := 2) (by decide +kernel) rfl ⟨Nat.le_of_ble_eq_true rfl, Nat.le_of_ble_eq_true rfl⟩ (hdd := rfl) (hcc := rfl) (hq := rfl) (hi := h40) (rest := []) rfl (by decide) dX4_goesTo_3 (bc' := 0) (bs' := 0) (Nat.le_refl _) (Nat.le_refl _) (fun r_3 n_3 α_3 K_3 hx_3 hp_3 => ?_)
  obtain ⟨rfl, rfl, rfl, hr_3⟩ := hp_3
  have e_3 : S 20 (17 * t + 1) = r_3 := Eq.symm (by rw [hr_3])
  subst e_3
  refine y_to (st' := [.int (iI (S 20 (17 * t + 1)))]) rfl rfl rfl ?_
  refine y_istore_n hE rfl [(2, .int (iI (S 20 (17 * t + 1)))), (0, .ref (α 4 0)), (1, .int (iI t))] (by decide) rfl dX4_goesTo_6 ?_
  refine y_aload_n hE rfl 1 rfl dX4_goesTo_7 ?_
  refine y_bipush hE (by decide) dX4_goesTo_8 ?_
  refine y_iload_n hE rfl 0 rfl dX4_goesTo_10 ?_
  refine y_aload_n hE rfl 1 rfl dX4_goesTo_11 ?_
  refine y_iload_n hE rfl 2 rfl dX4_goesTo_12 ?_
  refine y_iconst hE dX4_goesTo_13 ?_
  refine y_callV hE (m_X4_of S t 4 h40 hM (by omega)) (lw_V q2964 q2966 qs64 q133 q2967) (nA := 2) (by decide +kernel) rfl ⟨Nat.le_of_ble_eq_true rfl, Nat.le_of_ble_eq_true rfl⟩ (hdd := rfl) (hcc := rfl) (hq := rfl) (hi := h40) (rest := [.int (iI (S 20 (17 * t + 1))), .int (iI 16), .ref (α 4 0)]) rfl (by simp [refV_cat, Value.category]) dX4_goesTo_14 (bc' := 0) (bs' := 0) (Nat.le_refl _) (Nat.le_refl _) (fun r_14 n_14 α_14 K_14 hx_14 hp_14 => ?_)
  obtain ⟨rfl, rfl, rfl, hr_14⟩ := hp_14
  have e_14 : S 20 (17 * t + 4) = r_14 := Eq.symm (by rw [hr_14])
  subst e_14
  refine y_to (st' := [.int (iI (S 20 (17 * t + 4))), .int (iI (S 20 (17 * t + 1))), .int (iI 16), .ref (α 4 0)]) rfl rfl rfl ?_
  refine y_sipush hE (by decide) dX4_goesTo_17 ?_
  refine y_imul hE dX4_goesTo_20 ?_
  refine y_callV hE (m_X4_track S 16 (S 20 (17 * t + 1)) ((S 20 (17 * t + 4)) * 10000) h40 hM (by omega)) (lw_V q2937 q2939 qs60 q133 q2940) (nA := 3) (by decide +kernel) rfl ⟨Nat.le_of_ble_eq_true rfl, Nat.le_of_ble_eq_true rfl⟩ (hdd := rfl) (hcc := rfl) (hq := rfl) (hi := h40) (rest := []) rfl (by decide) dX4_goesTo_21 (bc' := 0) (bs' := 0) (Nat.le_refl _) (Nat.le_refl _) (fun r_21 n_21 α_21 K_21 hx_21 hp_21 => ?_)
  obtain ⟨rfl, rfl, hM_21, hk_21, hr_21⟩ := hp_21
  obtain ⟨S1, hS1⟩ : ∃ z : SS, z = trkS S 16 (S 20 (17 * t + 1)) ((S 20 (17 * t + 4)) * 10000) := ⟨_, rfl⟩
  rw [← hS1] at hM_21
  have f1 : ∀ f : Nat, f ≠ 0 → S1 f = S f := fun f h => by rw [hS1]; exact trkS_f h
  have o1 : ∀ j : Int, j < 16 ∨ 19 < j → S1 0 j = S 0 j := fun j h => by rw [hS1]; exact trkS_o (by omega)
  have i1 := trkS_i S 16 (S 20 (17 * t + 1)) (S 20 (17 * t + 4) * 10000)
  rw [← hS1] at i1
  have hW1 : WFs S1 := hW.congr f1
  have q12 := o1 12 (by omega)
  have q14 := o1 14 (by omega)
  rw [show (12 : Int) + 2 = 14 by rfl] at htax
  have q20 := o1 20 (by omega)
  have q19 : S1 19 0 = S 19 0 := congrFun (f1 19 (by decide)) 0
  have q21 : S1 21 0 = S 21 0 := congrFun (f1 21 (by decide)) 0
  have ws1 := hW1.st (S 20 (17 * t + 1)) (by omega) (by omega)
  have wsts1 := hW1.sts
  refine y_to (st' := []) rfl rfl rfl ?_
  refine y_aload_n hE rfl 1 rfl dX4_goesTo_24 ?_
  refine y_callV hE (m_X4_isSynced S1 h40 hM_21 (hW1) (by omega) (by omega) (by omega)) (lw_V q3158 q3160 qs98 q133 q3161) (nA := 0) (by decide +kernel) rfl ⟨Nat.le_of_ble_eq_true rfl, Nat.le_of_ble_eq_true rfl⟩ (hdd := rfl) (hcc := rfl) (hq := rfl) (hi := h40) (rest := []) rfl (by decide) dX4_goesTo_25 (bc' := 0) (bs' := 0) (Nat.le_refl _) (Nat.le_refl _) (fun r_25 n_25 α_25 K_25 hx_25 hp_25 => ?_)
  obtain ⟨rfl, rfl, rfl, hr_25⟩ := hp_25
  refine y_to (st' := [.int (iI r_25)]) rfl rfl rfl ?_
  have J69 : ∀ (K2 : KS) (S2 : SS), (MRep S2 n K2) → (KO K K2 (fun k _ => k = 100)) → (S2 = goB S1 (S 20 (17 * t + 1))) → Y x n α K2 0 0 69 [(2, .int (iI (S 20 (17 * t + 1)))), (0, .ref (α 4 0)), (1, .int (iI t))] [] := by
    intro K2 S2 hM2 hk2 hS2
    have f2 : ∀ f : Nat, f ≠ 0 → S2 f = S f := fun f h => by rw [hS2, goB_f h, f1 f h]
    have hW2 : WFs S2 := hW.congr f2
    have wt2 := hW2.tr t ht.1 (by rw [f2 21 (by decide)]; exact ht.2)
    refine y_aload_n hE rfl 1 rfl dX4_goesTo_69 ?_
    refine y_iload_n hE rfl 2 rfl dX4_goesTo_70 ?_
    refine y_iconst hE dX4_goesTo_71 ?_
    refine y_callV hE (m_X4_of S2 t 2 h40 hM2 (by omega)) (lw_V q2964 q2966 qs64 q133 q2967) (nA := 2) (by decide +kernel) rfl ⟨Nat.le_of_ble_eq_true rfl, Nat.le_of_ble_eq_true rfl⟩ (hdd := rfl) (hcc := rfl) (hq := rfl) (hi := h40) (rest := []) rfl (by decide) dX4_goesTo_72 (bc' := 0) (bs' := 0) (Nat.le_refl _) (Nat.le_refl _) (fun r_72 n_72 α_72 K_72 hx_72 hp_72 => ?_)
    obtain ⟨rfl, rfl, rfl, hr_72⟩ := hp_72
    have e_72 : S2 20 (17 * t + 2) = r_72 := Eq.symm (by rw [hr_72])
    subst e_72
    refine y_to (st' := [.int (iI (S2 20 (17 * t + 2)))]) rfl rfl rfl ?_
    refine y_if_ne hE 83 (by decide) (by omega) dX4_goesTo_75 (fun c_75 => ?_) (fun c_75 => ?_)
    · refine y_aload_n hE rfl 1 rfl dX4_goesTo_83 ?_
      refine gX4_7r (z := 0) hE h40 (MObj.r hM2.1 0 (by decide)) (by omega) dX4_goesTo_84 (fun hl_84 => ?_)
      refine y_bipush hE (by decide) dX4_goesTo_87 ?_
      refine y_iconst hE dX4_goesTo_89 ?_
      refine y_iast hE (by unfold kC; decide) rfl (by simp [kTag]) hl_84 (by have hL : K2 100 0 (-1) = 1160 := (MObj.l hM2.1 0 (by decide)); omega) dX4_goesTo_90 ?_
      refine y_aload_n hE rfl 1 rfl dX4_goesTo_91 ?_
      refine gX4_7r (z := 0) hE h40 (MObj.r hM2.1 0 (by decide)) (by omega) dX4_goesTo_92 (fun hl_92 => ?_)
      refine y_bipush hE (by decide) dX4_goesTo_95 ?_
      refine y_iload_n hE rfl 2 rfl dX4_goesTo_97 ?_
      refine y_iast hE (by unfold kC; decide) rfl (by simp [kTag]) hl_92 (by have hL : (up3 K2 100 0 8 1) 100 0 (-1) = 1160 := (MObj.l hM2.1 0 (by decide)); omega) dX4_goesTo_98 ?_
      refine y_aload_n hE rfl 1 rfl dX4_goesTo_99 ?_
      refine gX4_7r (z := 0) hE h40 (MObj.r hM2.1 0 (by decide)) (by omega) dX4_goesTo_100 (fun hl_100 => ?_)
      refine y_bipush hE (by decide) dX4_goesTo_103 ?_
      refine y_iconst hE dX4_goesTo_105 ?_
      refine y_iast hE (by unfold kC; decide) rfl (by simp [kTag]) hl_100 (by have hL : (up3 (up3 K2 100 0 8 1) 100 0 9 t) 100 0 (-1) = 1160 := (MObj.l hM2.1 0 (by decide)); omega) dX4_goesTo_106 ?_
      exact y_vret (r := 0) hE rfl hQ dX4_goesTo_107 Ext.rf ⟨rfl, rfl, by unfold goS; rw [← hS1, ← hS2]; unfold goE; rw [if_neg (by omega)]; exact (MRep.a (MRep.a (MRep.a hM2 0 rfl (j := 8) (by omega) 1) 0 rfl (j := 9) (by omega) t) 0 rfl (j := 10) (by omega) 0), (KO.up (KO.up (KO.up hk2 (by decide)) (by decide)) (by decide)), trivial⟩
    · refine y_aload_n hE rfl 1 rfl dX4_goesTo_78 ?_
      refine y_callV hE (m_X4_ends S2 h40 hM2) (lw_V q3164 q3166 qs99 q133 q3167) (nA := 0) (by decide +kernel) rfl ⟨Nat.le_of_ble_eq_true rfl, Nat.le_of_ble_eq_true rfl⟩ (hdd := rfl) (hcc := rfl) (hq := rfl) (hi := h40) (rest := []) rfl (by decide) dX4_goesTo_79 (bc' := 0) (bs' := 0) (Nat.le_refl _) (Nat.le_refl _) (fun r_79 n_79 α_79 K_79 hx_79 hp_79 => ?_)
      obtain ⟨rfl, rfl, hM_79, hk_79, hr_79⟩ := hp_79
      refine y_to (st' := []) rfl rfl rfl ?_
      exact y_vret (r := 0) hE rfl hQ dX4_goesTo_82 Ext.rf ⟨rfl, rfl, by unfold goS; rw [← hS1, ← hS2]; unfold goE; rw [if_pos (by omega)]; exact hM_79, (hk2.tr hk_79), trivial⟩
  refine y_if_eq hE 69 (by decide) (by omega) dX4_goesTo_28 (fun c_28 => ?_) (fun c_28 => ?_)
  · exact J69 K_21 S1 (hM_21) (hk_21) (by unfold goB; first | (rw [if_pos (by omega), ← hv]) | (rw [if_neg (by omega)]))
  · refine y_aload_n hE rfl 1 rfl dX4_goesTo_31 ?_
    refine gX4_7r (z := 0) hE h40 (MObj.r hM_21.1 0 (by decide)) (by omega) dX4_goesTo_32 (fun hl_32 => ?_)
    refine y_bipush hE (by decide) dX4_goesTo_35 ?_
    refine y_iald hE rfl hl_32 (by have hL : K_21 100 0 (-1) = 1160 := (MObj.l hM_21.1 0 (by decide)); omega) dX4_goesTo_37 ?_
    refine y_to (st' := [.int (iI (S1 0 14))]) rfl rfl (by rw [show K_21 100 0 14 = S1 0 14 from (MRep.ra hM_21 0 rfl (by omega) (by first | omega | (show _ < (1160 : Int); omega)))]) ?_
    refine y_istore_n hE rfl [(3, .int (iI (S1 0 14))), (2, .int (iI (S 20 (17 * t + 1)))), (0, .ref (α 4 0)), (1, .int (iI t))] (by decide) rfl dX4_goesTo_38 ?_
    refine y_aload_n hE rfl 2 rfl dX4_goesTo_39 ?_
    refine gX4_7r (z := 0) hE h40 (MObj.r hM_21.1 0 (by decide)) (by omega) dX4_goesTo_40 (fun hl_40 => ?_)
    refine y_bipush hE (by decide) dX4_goesTo_43 ?_
    refine y_iload_n hE rfl 0 rfl dX4_goesTo_45 ?_
    have J68 : ∀ (v : Int), (v = if S1 0 14 = 1000000 ∧ S1 17 (S 20 (17 * t + 1)) ≠ 0 then 999999 else S1 0 14) → Y x n α K_21 0 0 68 [(3, .int (iI (S1 0 14))), (2, .int (iI (S 20 (17 * t + 1)))), (0, .ref (α 4 0)), (1, .int (iI t))] [.int (iI v), .int (iI 18), .ref (α 100 0)] := by
      intro v hv
      refine y_iast hE (by unfold kC; decide) rfl (by simp [kTag]) hl_40 (by have hL : K_21 100 0 (-1) = 1160 := (MObj.l hM_21.1 0 (by decide)); omega) dX4_goesTo_68 ?_
      refine y_lv [1, 2, 3] [(2, .int (iI (S 20 (17 * t + 1)))), (0, .ref (α 4 0)), (1, .int (iI t))] rfl ?_
      exact J69 (up3 K_21 100 0 18 v) (up2 S1 0 18 v) ((MRep.a hM_21 0 rfl (j := 18) (by omega) v)) ((KO.up hk_21 (by decide))) (by unfold goB; first | (rw [if_pos (by omega), ← hv]) | (rw [if_neg (by omega)]))
    refine y_ldcw hE 1000000 (v := 1000000) (by decide) q3162 dX4_goesTo_46 ?_
    refine y_icmp_ne hE 67 (by decide) (by omega) (by omega) dX4_goesTo_49 (fun c_49 => ?_) (fun c_49 => ?_)
    · refine y_iload_n hE rfl 0 rfl dX4_goesTo_67 ?_
      exact J68 (S1 0 14) (by first | rw [if_pos (by omega)] | rw [if_neg (by omega)])
    · refine y_aload_n hE rfl 2 rfl dX4_goesTo_52 ?_
      refine gX4_53r (z := 0) hE h40 (MObj.r hM_21.1 17 (by decide)) (by omega) dX4_goesTo_53 (fun hl_53 => ?_)
      refine y_iload_n hE rfl 1 rfl dX4_goesTo_56 ?_
      refine y_zald hE rfl hl_53 (by have hL : K_21 117 0 (-1) = 10 := (MObj.l hM_21.1 17 (by decide)); omega) dX4_goesTo_57 ?_
      refine y_to (st' := [.int (iI (S1 17 (S 20 (17 * t + 1)))), .int (iI 18), .ref (α 100 0)]) rfl rfl (by rw [show K_21 117 0 (S 20 (17 * t + 1)) = S1 17 (S 20 (17 * t + 1)) from (MRep.ra hM_21 17 rfl (by omega) (by first | omega | (show _ < (10 : Int); omega)))]) ?_
      refine y_if_eq hE 67 (by decide) (by omega) dX4_goesTo_58 (fun c_58 => ?_) (fun c_58 => ?_)
      · refine y_iload_n hE rfl 0 rfl dX4_goesTo_67 ?_
        exact J68 (S1 0 14) (by first | rw [if_pos (by omega)] | rw [if_neg (by omega)])
      · refine y_ldcw hE 999999 (v := 999999) (by decide) q3163 dX4_goesTo_61 ?_
        refine y_goto hE 68 (by decide) dX4_goesTo_64 ?_
        exact J68 999999 (by first | rw [if_pos (by omega)] | rw [if_neg (by omega)])
