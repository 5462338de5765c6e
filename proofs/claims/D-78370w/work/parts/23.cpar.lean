set_option linter.unusedVariables false
set_option maxHeartbeats 4000000 in
set_option maxRecDepth 100000 in
theorem m_X1_parameter {w : KW} {n : KN} {α : KA} {K : KS} (S : SS) (p : Int) (h10 : (0 : Int) ≤ 0 ∧ 0 < n 1) (hP : RepPar S n K) (hc : 0 ≤ S 3 0 ∧ S 3 0 ≤ 8) (hp : -2147483648 ≤ p ∧ p ≤ 2147483647) : KMX w yX1_parameter cX1_parameter 2 (some (.object "AnimationController$Parameter")) { frames := 7, cells := 1, slots := 6, locals := 102 } (2, 5) [.ref (α 1 0), .int (iI p)] n α K (fun r n' α' K' => n = n' ∧ α = α' ∧ K = K' ∧ (r = p ∧ 0 ≤ p ∧ p < S 3 0 ∧ 0 ≤ r ∧ r < n 5)) (fun E n' α' K' => n = n' ∧ α = α' ∧ K = K' ∧ (E = xIOOBE ∧ ¬ (0 ≤ p ∧ p < S 3 0))) := by
  refine y_startX (by decide) (Nat.le_of_ble_eq_true rfl) (fun x hE hQ hN => ?_)
  have hw := hQ.2
  subst hw
  have hE : YE x cX1_parameter RX1 (some (.object "AnimationController$Parameter")) "parameter" 2 { frames := 7, cells := 1, slots := 6, locals := 102 } := hE
  refine y_wk (fun hWK => ?_)
  have hn0 := hWK.1
  refine y_bud (bc' := 1) (bs' := 6) (Nat.le_refl _) (Nat.le_refl _) ?_
  refine y_to (lv' := [(0, .ref (α 1 0)), (1, .int (iI p))]) (st' := []) rfl rfl rfl ?_
  have q0 := hP.1
  have q1 := hP.2.2.2.1
  have q2 := hP.2.2.2.2.2.1
  have q3 := hP.2.2.2.2.1
  have q4 := hP.2.2.2.2.2.2.2
  have q5 := hP.2.2.2.2.2.2.1
  have q20 := hP.2.1
  have q50 := hP.2.2.1
  refine y_iload_n hE rfl 1 rfl dX1_parameter_0 ?_
  refine y_aload_n hE rfl 0 rfl dX1_parameter_1 ?_
  refine gX1_27r (z := 0) hE h10 q0 (by omega) dX1_parameter_2 (fun hl_2 => ?_)
  refine y_callV hE (m_J2_size 0 rfl hl_2) (lw_V q668 q669 q670 q111 q671) (nA := 0) (by decide +kernel) rfl ⟨Nat.le_of_ble_eq_true rfl, Nat.le_of_ble_eq_true rfl⟩ (hdd := rfl) (hcc := rfl) (hq := rfl) (hi := hl_2) (rest := [.int (iI p)]) rfl (by simp [refV_cat, Value.category]) dX1_parameter_5 (bc' := 1) (bs' := 6) (Nat.le_refl _) (Nat.le_refl _) (fun r_5 n_5 α_5 K_5 hx_5 hp_5 => ?_)
  obtain ⟨rfl, rfl, rfl, hr_5⟩ := hp_5
  refine y_to (st' := [.int (iI r_5), .int (iI p)]) rfl rfl rfl ?_
  refine y_callSX hE hQ hN Ext.rf (m_X1_checkIndex p r_5 (by omega) (by omega)) (lw_S q1975 q1976 q108 q1977) (nA := 2) (by decide +kernel) rfl ⟨Nat.le_of_ble_eq_true rfl, Nat.le_of_ble_eq_true rfl⟩ (rest := []) rfl (by decide) dX1_parameter_8 (bc' := 0) (bs' := 0) (Nat.le_of_ble_eq_true rfl) (Nat.le_of_ble_eq_true rfl) (fun E n9 α9 K9 hx9 he => by obtain ⟨rfl, rfl, rfl, he⟩ := he; exact ⟨rfl, rfl, rfl, ⟨he.1, by omega⟩⟩) (fun r_8 n_8 α_8 K_8 hx_8 hp_8 => ?_)
  obtain ⟨rfl, rfl, rfl, hr_8⟩ := hp_8
  refine y_to (st' := []) rfl rfl rfl ?_
  refine y_aload_n hE rfl 0 rfl dX1_parameter_11 ?_
  refine gX1_27r (z := 0) hE h10 q0 (by omega) dX1_parameter_12 (fun hl_12 => ?_)
  refine y_iload_n hE rfl 1 rfl dX1_parameter_15 ?_
  refine y_callV hE (m_J2_get 20 50 5 0 p rfl rfl hl_12 (by omega) (by rw [q1]; omega) (by omega) (by rw [q1, (q4 _ (by omega) (by omega)).1]; omega)) (lw_V q672 q673 q674 q111 q675) (nA := 1) (by decide +kernel) rfl ⟨Nat.le_of_ble_eq_true rfl, Nat.le_of_ble_eq_true rfl⟩ (hdd := rfl) (hcc := rfl) (hq := rfl) (hi := hl_12) (rest := []) rfl (by decide) dX1_parameter_16 (bc' := 0) (bs' := 0) (Nat.le_refl _) (Nat.le_refl _) (fun r_16 n_16 α_16 K_16 hx_16 hp_16 => ?_)
  obtain ⟨rfl, rfl, rfl, hr_16⟩ := hp_16
  have e_16 : p = r_16 := Eq.symm (by rw [hr_16.1, q1, (q4 p (by omega) (by omega)).1])
  subst e_16
  refine y_to (st' := [refV α 5 p]) rfl rfl rfl ?_
  have hl_16 : (0 : Int) ≤ p ∧ p < n 5 := hr_16.2
  refine y_ref hl_16.1 ?_
  refine y_castE hE rfl rfl hl_16 q686 rfl dX1_parameter_19 ?_
  refine y_to (st' := [refV α 5 p]) rfl rfl (by rw [refV_s hl_16.1]) ?_
  exact y_aretX hE rfl (Or.inl ⟨_, rfl⟩) hQ dX1_parameter_22 Ext.rf ⟨rfl, rfl, rfl, rfl, by omega, by omega, hl_16⟩
set_option maxHeartbeats 4000000 in
set_option maxRecDepth 100000 in
theorem m_X1_value {w : KW} {n : KN} {α : KA} {K : KS} (S : SS) (p : Int) (h10 : (0 : Int) ≤ 0 ∧ 0 < n 1) (hP : RepPar S n K) (hc : 0 ≤ S 3 0 ∧ S 3 0 ≤ 8) (hp : -2147483648 ≤ p ∧ p ≤ 2147483647) : KMX w yX1_value cX1_value 2 (some (.int)) { frames := 8, cells := 1, slots := 6, locals := 123 } (0, 0) [.ref (α 1 0), .int (iI p)] n α K (fun r n' α' K' => n = n' ∧ α = α' ∧ K = K' ∧ (r = S 0 p ∧ 0 ≤ p ∧ p < S 3 0)) (fun E n' α' K' => n = n' ∧ α = α' ∧ K = K' ∧ (E = xIOOBE ∧ ¬ (0 ≤ p ∧ p < S 3 0))) := by
  refine y_startX (by decide) (Nat.le_of_ble_eq_true rfl) (fun x hE hQ hN => ?_)
  have hw := hQ.2
  subst hw
  have hE : YE x cX1_value RX1 (some (.int)) "value" 2 { frames := 8, cells := 1, slots := 6, locals := 123 } := hE
  refine y_wk (fun hWK => ?_)
  have hn0 := hWK.1
  refine y_bud (bc' := 1) (bs' := 6) (Nat.le_refl _) (Nat.le_refl _) ?_
  refine y_to (lv' := [(0, .ref (α 1 0)), (1, .int (iI p))]) (st' := []) rfl rfl rfl ?_
  have q0 := hP.1
  have q1 := hP.2.2.2.1
  have q2 := hP.2.2.2.2.2.1
  have q3 := hP.2.2.2.2.1
  have q4 := hP.2.2.2.2.2.2.2
  have q5 := hP.2.2.2.2.2.2.1
  have q20 := hP.2.1
  have q50 := hP.2.2.1
  refine y_aload_n hE rfl 0 rfl dX1_value_0 ?_
  refine y_iload_n hE rfl 1 rfl dX1_value_1 ?_
  refine y_callVX hE hQ hN Ext.rf (m_X1_parameter S p h10 hP hc hp) (lw_V q1971 q1973 qs22 q108 q1974) (nA := 1) (by decide +kernel) rfl ⟨Nat.le_of_ble_eq_true rfl, Nat.le_of_ble_eq_true rfl⟩ (hdd := rfl) (hcc := rfl) (hq := rfl) (hi := h10) (rest := []) rfl (by decide) dX1_value_2 (bc' := 0) (bs' := 0) (Nat.le_of_ble_eq_true rfl) (Nat.le_of_ble_eq_true rfl) (fun E n9 α9 K9 hx9 he => by obtain ⟨rfl, rfl, rfl, he⟩ := he; exact ⟨rfl, rfl, rfl, ⟨he.1, by omega⟩⟩) (fun r_2 n_2 α_2 K_2 hx_2 hp_2 => ?_)
  obtain ⟨rfl, rfl, rfl, hr_2⟩ := hp_2
  have e_2 : p = r_2 := Eq.symm (hr_2.1)
  subst e_2
  refine y_to (st' := [refV α 5 p]) rfl rfl rfl ?_
  have hl_2 : (0 : Int) ≤ p ∧ p < n 5 := hr_2.2.2.2
  refine y_ref hl_2.1 ?_
  refine gX1_119 (z := K 5 p 1) hE hl_2 rfl dX1_value_5 ?_
  exact y_iretX hE rfl rfl hQ dX1_value_8 Ext.rf ⟨rfl, rfl, rfl, (q4 p hr_2.2.1 hr_2.2.2.1).2.2, hr_2.2.1, hr_2.2.2.1⟩
set_option maxHeartbeats 4000000 in
set_option maxRecDepth 100000 in
theorem m_X1_set {w : KW} {n : KN} {α : KA} {K : KS} (S : SS) (p v : Int) (h10 : (0 : Int) ≤ 0 ∧ 0 < n 1) (hP : RepPar S n K) (hc : 0 ≤ S 3 0 ∧ S 3 0 ≤ 8) (hp : -2147483648 ≤ p ∧ p ≤ 2147483647) (hv : -2147483648 ≤ v ∧ v ≤ 2147483647) (hkd : ∀ p, 0 ≤ p → p < 8 → 0 ≤ S 2 p ∧ S 2 p ≤ 2) : KMX w yX1_set cX1_set 5 (some (.int)) { frames := 8, cells := 2, slots := 12, locals := 123 } (0, 0) [.ref (α 1 0), .int (iI p), .int (iI v)] n α K (fun r n' α' K' => n = n' ∧ α = α' ∧ (K' = up3 K 5 p 1 v ∧ r = S 0 p ∧ 0 ≤ p ∧ p < S 3 0 ∧ (S 2 p = 0 ∧ -100 ≤ v ∧ v ≤ 100 ∨ ¬ S 2 p = 0 ∧ 0 ≤ v ∧ v ≤ 1))) (fun E n' α' K' => n = n' ∧ α = α' ∧ K = K' ∧ (E = xIOOBE ∧ ¬ (0 ≤ p ∧ p < S 3 0) ∨ E = xIAE ∧ 0 ≤ p ∧ p < S 3 0 ∧ ¬ (S 2 p = 0 ∧ -100 ≤ v ∧ v ≤ 100 ∨ ¬ S 2 p = 0 ∧ 0 ≤ v ∧ v ≤ 1))) := by
  refine y_startX (by decide) (Nat.le_of_ble_eq_true rfl) (fun x hE hQ hN => ?_)
  have hw := hQ.2
  subst hw
  have hE : YE x cX1_set RX1 (some (.int)) "set" 5 { frames := 8, cells := 2, slots := 12, locals := 123 } := hE
  refine y_wk (fun hWK => ?_)
  have hn0 := hWK.1
  refine y_bud (bc' := 2) (bs' := 12) (Nat.le_refl _) (Nat.le_refl _) ?_
  refine y_to (lv' := [(0, .ref (α 1 0)), (1, .int (iI p)), (2, .int (iI v))]) (st' := []) rfl rfl rfl ?_
  have q0 := hP.1
  have q1 := hP.2.2.2.1
  have q2 := hP.2.2.2.2.2.1
  have q3 := hP.2.2.2.2.1
  have q4 := hP.2.2.2.2.2.2.2
  have q5 := hP.2.2.2.2.2.2.1
  have q20 := hP.2.1
  have q50 := hP.2.2.1
  refine y_aload_n hE rfl 0 rfl dX1_set_0 ?_
  refine y_iload_n hE rfl 1 rfl dX1_set_1 ?_
  refine y_callVX hE hQ hN Ext.rf (m_X1_parameter S p h10 hP hc hp) (lw_V q1971 q1973 qs22 q108 q1974) (nA := 1) (by decide +kernel) rfl ⟨Nat.le_of_ble_eq_true rfl, Nat.le_of_ble_eq_true rfl⟩ (hdd := rfl) (hcc := rfl) (hq := rfl) (hi := h10) (rest := []) rfl (by decide) dX1_set_2 (bc' := 1) (bs' := 6) (Nat.le_of_ble_eq_true rfl) (Nat.le_of_ble_eq_true rfl) (fun E n9 α9 K9 hx9 he => by obtain ⟨rfl, rfl, rfl, he⟩ := he; exact ⟨rfl, rfl, rfl, Or.inl he⟩) (fun r_2 n_2 α_2 K_2 hx_2 hp_2 => ?_)
  obtain ⟨rfl, rfl, rfl, hr_2⟩ := hp_2
  have e_2 : p = r_2 := Eq.symm (hr_2.1)
  subst e_2
  refine y_to (st' := [refV α 5 p]) rfl rfl rfl ?_
  have hl_2 : (0 : Int) ≤ p ∧ p < n 5 := hr_2.2.2.2
  refine y_ref hl_2.1 ?_
  obtain ⟨-, k1, k2⟩ := q4 p hr_2.2.1 hr_2.2.2.1
  have hkp := hkd p (by omega) (by omega)
  refine y_astore_n hE rfl [(3, .ref (α 5 p)), (0, .ref (α 1 0)), (1, .int (iI p)), (2, .int (iI v))] (by decide) rfl dX1_set_5 ?_
  refine y_aload_n hE rfl 0 rfl dX1_set_6 ?_
  refine y_iload_n hE rfl 3 rfl dX1_set_7 ?_
  refine y_callV hE (m_X5_takes p v hl_2 (by omega) hv) (lw_V q1993 q1994 q1995 q135 q1996) (nA := 1) (by decide +kernel) rfl ⟨Nat.le_of_ble_eq_true rfl, Nat.le_of_ble_eq_true rfl⟩ (hdd := rfl) (hcc := rfl) (hq := rfl) (hi := hl_2) (rest := []) rfl (by decide) dX1_set_8 (bc' := 1) (bs' := 6) (Nat.le_refl _) (Nat.le_refl _) (fun r_8 n_8 α_8 K_8 hx_8 hp_8 => ?_)
  obtain ⟨rfl, rfl, rfl, hr_8⟩ := hp_8
  refine y_to (st' := [.int (iI r_8)]) rfl rfl rfl ?_
  refine y_callSX hE hQ hN Ext.rf (m_X1_require r_8 (by omega)) (lw_S q1910 q1911 q108 q1912) (nA := 1) (by decide +kernel) rfl ⟨Nat.le_of_ble_eq_true rfl, Nat.le_of_ble_eq_true rfl⟩ (rest := []) rfl (by decide) dX1_set_11 (bc' := 0) (bs' := 0) (Nat.le_of_ble_eq_true rfl) (Nat.le_of_ble_eq_true rfl) (fun E n9 α9 K9 hx9 he => by obtain ⟨rfl, rfl, rfl, he⟩ := he; exact ⟨rfl, rfl, rfl, Or.inr ⟨he.1, by omega, by omega, by omega⟩⟩) (fun r_11 n_11 α_11 K_11 hx_11 hp_11 => ?_)
  obtain ⟨rfl, rfl, rfl, hr_11⟩ := hp_11
  refine y_to (st' := []) rfl rfl rfl ?_
  refine y_aload_n hE rfl 0 rfl dX1_set_14 ?_
  refine gX1_119 (z := K 5 p 1) hE hl_2 rfl dX1_set_15 ?_
  refine y_istore hE [(4, .int (iI (K 5 p 1))), (3, .ref (α 5 p)), (0, .ref (α 1 0)), (1, .int (iI p)), (2, .int (iI v))] (by decide) rfl dX1_set_18 ?_
  refine y_aload_n hE rfl 1 rfl dX1_set_20 ?_
  refine y_iload_n hE rfl 4 rfl dX1_set_21 ?_
  refine pX1_119 hE hl_2 dX1_set_22 ?_
  refine y_iload hE 0 rfl dX1_set_25 ?_
  exact y_iretX hE rfl rfl hQ dX1_set_27 Ext.rf ⟨rfl, rfl, rfl, k2, by omega, by omega, by omega⟩
theorem repPar_add {S : SS} {n : KN} {K : KS} (h : RepPar S n K) (k md : Int) (h0 : 0 ≤ S 3 0 ∧ S 3 0 < 8) : RepPar (up2 (up2 (up2 S 2 (S 3 0) k) 0 (S 3 0) 0) 3 0 (S 3 0 + 1)) (upn n 5) (up3 (up3 (up3 (up3 (upo K 5 (n 5) (dflG [(0, 0), (0, 0)] 0)) 5 (n 5) 0 k) 20 0 0 md) 50 0 (S 3 0) (n 5)) 20 0 2 (S 3 0 + 1)) := by
  obtain ⟨h1, h2, h3, h4, h5, h6, h7, h8⟩ := h
  refine ⟨h1, h2, h3, h4, ?_, ?_, ?_, fun p p0 p1 => ?_⟩
  · simp [up3, upo, h5]; omega
  · simp [up3, up2]
  · simp [upn, up2, h7]
  · simp only [up2, and_self, if_true] at p1
    by_cases e : p = S 3 0
    · subst e
      refine ⟨?_, ?_, ?_⟩
      · simp [up3, up2, h7]
      · simp [up3, up2, h7]
      · simp [up3, upo, up2, dflG, h7]
    · obtain ⟨a, b, c⟩ := h8 p p0 (by omega)
      have en : p ≠ n 5 := by omega
      refine ⟨?_, ?_, ?_⟩
      · simp [up3, upo, e, a]
      · simp [up3, upo, up2, e, en, b]
      · simp [up3, upo, up2, e, en, c]
set_option maxHeartbeats 4000000 in
set_option maxRecDepth 100000 in
theorem m_X1_addParameter {w : KW} {n : KN} {α : KA} {K : KS} (S : SS) (k : Int) (h10 : (0 : Int) ≤ 0 ∧ 0 < n 1) (hP : RepPar S n K) (hc : 0 ≤ S 3 0 ∧ S 3 0 ≤ 8) (hk : -2147483648 ≤ k ∧ k ≤ 2147483647) : KMX w yX1_addParameter cX1_addParameter 2 (some (.int)) { frames := 7, cells := 3, slots := 14, locals := 101 } (0, 0) [.ref (α 1 0), .int (iI k)] n α K (fun r n' α' K' => RepPar (up2 (up2 (up2 S 2 (S 3 0) k) 0 (S 3 0) 0) 3 0 (S 3 0 + 1)) n' K' ∧ KO K K' (fun k _ => k = 20 ∨ k = 50 ∨ k = 5) ∧ n' = upn n 5 ∧ r = S 3 0 ∧ (0 ≤ k ∧ k ≤ 2) ∧ S 3 0 < 8) (fun E n' α' K' => n = n' ∧ α = α' ∧ K = K' ∧ (E = xIAE ∧ ¬ (0 ≤ k ∧ k ≤ 2) ∨ E = xISE ∧ (0 ≤ k ∧ k ≤ 2) ∧ S 3 0 = 8)) := by
  refine y_startX (by decide) (Nat.le_of_ble_eq_true rfl) (fun x hE hQ hN => ?_)
  have hw := hQ.2
  subst hw
  have hE : YE x cX1_addParameter RX1 (some (.int)) "addParameter" 2 { frames := 7, cells := 3, slots := 14, locals := 101 } := hE
  refine y_wk (fun hWK => ?_)
  have hn0 := hWK.1
  refine y_bud (bc' := 3) (bs' := 14) (Nat.le_refl _) (Nat.le_refl _) ?_
  refine y_to (lv' := [(0, .ref (α 1 0)), (1, .int (iI k))]) (st' := []) rfl rfl rfl ?_
  have q0 := hP.1
  have q1 := hP.2.2.2.1
  have q2 := hP.2.2.2.2.2.1
  have q3 := hP.2.2.2.2.1
  have q4 := hP.2.2.2.2.2.2.2
  have q5 := hP.2.2.2.2.2.2.1
  have q20 := hP.2.1
  have q50 := hP.2.2.1
  refine y_iload_n hE rfl 1 rfl dX1_addParameter_0 ?_
  refine y_i2l hE (by omega) dX1_addParameter_1 ?_
  refine y_lconst hE 0 (by decide) dX1_addParameter_2 ?_
  refine y_ldc2 hE 2 (v := 2) (by decide) q1908 dX1_addParameter_3 ?_
  refine y_callS hE (m_X1_in k 0 2 (by omega) (by omega) (by omega)) (lw_S q1909 q1024 q108 q1025) (nA := 3) (by decide +kernel) rfl ⟨Nat.le_of_ble_eq_true rfl, Nat.le_of_ble_eq_true rfl⟩ (rest := []) rfl (by decide) dX1_addParameter_6 (bc' := 3) (bs' := 14) (Nat.le_refl _) (Nat.le_refl _) (fun r_6 n_6 α_6 K_6 hx_6 hp_6 => ?_)
  obtain ⟨rfl, rfl, rfl, hr_6⟩ := hp_6
  refine y_to (st' := [.int (iI r_6)]) rfl rfl rfl ?_
  refine y_callSX hE hQ hN Ext.rf (m_X1_require r_6 (by omega)) (lw_S q1910 q1911 q108 q1912) (nA := 1) (by decide +kernel) rfl ⟨Nat.le_of_ble_eq_true rfl, Nat.le_of_ble_eq_true rfl⟩ (rest := []) rfl (by decide) dX1_addParameter_9 (bc' := 2) (bs' := 8) (Nat.le_of_ble_eq_true rfl) (Nat.le_of_ble_eq_true rfl) (fun E n9 α9 K9 hx9 he => by obtain ⟨rfl, rfl, rfl, he⟩ := he; exact ⟨rfl, rfl, rfl, Or.inl ⟨he.1, by omega⟩⟩) (fun r_9 n_9 α_9 K_9 hx_9 hp_9 => ?_)
  obtain ⟨rfl, rfl, rfl, hr_9⟩ := hp_9
  refine y_to (st' := []) rfl rfl rfl ?_
  refine y_aload_n hE rfl 0 rfl dX1_addParameter_12 ?_
  refine gX1_27r (z := 0) hE h10 q0 (by omega) dX1_addParameter_13 (fun hl_13 => ?_)
  refine y_callV hE (m_J2_size 0 rfl hl_13) (lw_V q668 q669 q670 q111 q671) (nA := 0) (by decide +kernel) rfl ⟨Nat.le_of_ble_eq_true rfl, Nat.le_of_ble_eq_true rfl⟩ (hdd := rfl) (hcc := rfl) (hq := rfl) (hi := hl_13) (rest := []) rfl (by decide) dX1_addParameter_16 (bc' := 2) (bs' := 8) (Nat.le_refl _) (Nat.le_refl _) (fun r_16 n_16 α_16 K_16 hx_16 hp_16 => ?_)
  obtain ⟨rfl, rfl, rfl, hr_16⟩ := hp_16
  refine y_to (st' := [.int (iI r_16)]) rfl rfl rfl ?_
  refine y_bipush hE (by decide) dX1_addParameter_19 ?_
  have J29 : ∀ (b : Int), (b = 1 ∧ S 3 0 < 8 ∨ b = 0 ∧ ¬ S 3 0 < 8) → Y x n α K 2 8 29 [(0, .ref (α 1 0)), (1, .int (iI k))] [.int (iI b)] := by
    intro b hb
    refine y_callSX hE hQ hN Ext.rf (m_X1_demand b (by omega)) (lw_S q1924 q1925 q108 q1926) (nA := 1) (by decide +kernel) rfl ⟨Nat.le_of_ble_eq_true rfl, Nat.le_of_ble_eq_true rfl⟩ (rest := []) rfl (by decide) dX1_addParameter_29 (bc' := 1) (bs' := 2) (Nat.le_of_ble_eq_true rfl) (Nat.le_of_ble_eq_true rfl) (fun E n9 α9 K9 hx9 he => by obtain ⟨rfl, rfl, rfl, he⟩ := he; exact ⟨rfl, rfl, rfl, Or.inr ⟨he.1, by omega, by omega⟩⟩) (fun r_29 n_29 α_29 K_29 hx_29 hp_29 => ?_)
    obtain ⟨rfl, rfl, rfl, hr_29⟩ := hp_29
    refine y_to (st' := []) rfl rfl rfl ?_
    refine y_aload_n hE rfl 0 rfl dX1_addParameter_32 ?_
    refine gX1_27r (z := 0) hE h10 q0 (by omega) dX1_addParameter_33 (fun hl_33 => ?_)
    refine y_new hE 5 0 (codes := [(0, 0), (0, 0)]) (ci := 4) (C := RX5) (T := TX5) (N := 2) (by unfold kC; decide) rfl rfl in_X5 tyX5 tyX5_ok q686 q1942 q135 rfl (by decide) dX1_addParameter_36 (bc' := 0) (bs' := 0) (by omega) (by omega) (fun α_36 hx_36 => ?_)
    obtain ⟨K_36, hK_36⟩ : ∃ z, z = upo K 5 (n 5) (dflG [(0, 0), (0, 0)] 0) := ⟨_, rfl⟩
    rw [← hK_36]
    obtain ⟨n_36, hn_36⟩ : ∃ z, z = upn n 5 := ⟨_, rfl⟩
    rw [← hn_36] at hx_36 ⊢
    obtain ⟨i_36, hi_36⟩ : ∃ z, z = n 5 := ⟨_, rfl⟩
    rw [← hi_36] at hK_36 ⊢
    have hl_36 : 0 ≤ i_36 ∧ i_36 < n_36 5 := by rw [hn_36, hi_36]; exact upn_self hn0 5
    have hv_36 : (0 : Int) ≤ 0 ∧ 0 < n_36 1 := ⟨h10.1, Int.lt_of_lt_of_le h10.2 (hx_36 1).1⟩
    have hv_36_2 : (0 : Int) ≤ 0 ∧ 0 < n_36 20 := ⟨hl_33.1, Int.lt_of_lt_of_le hl_33.2 (hx_36 20).1⟩
    refine y_to (lv' := [(0, .ref (α_36 1 0)), (1, .int (iI k))]) (st' := [.ref (α_36 5 i_36), .ref (α_36 20 0)]) rfl (by first | rfl | rw [ext_r hx_36 h10, ext_r hx_36 hl_33] | simp only [ext_r hx_36 h10, ext_r hx_36 hl_33]) (by first | rfl | rw [ext_r hx_36 h10, ext_r hx_36 hl_33] | simp only [ext_r hx_36 h10, ext_r hx_36 hl_33]) ?_
    have u0 : K_36 1 0 0 = 0 := by rw [hK_36]; exact q0
    have u1 : K_36 20 0 1 = 0 := by rw [hK_36]; exact q1
    have u2 : K_36 20 0 2 = S 3 0 := by rw [hK_36]; exact q2
    have u3 : K_36 50 0 (-1) = 8 := by rw [hK_36]; exact q3
    refine y_dup hE rfl dX1_addParameter_39 ?_
    refine y_iload_n hE rfl 1 rfl dX1_addParameter_40 ?_
    refine y_callI hE (m_X5_init i_36 k hl_36) q1945 q135 q1943 q1944 rfl (nA := 1) (by decide +kernel) rfl ⟨Nat.le_of_ble_eq_true rfl, Nat.le_of_ble_eq_true rfl⟩ (rest := [.ref (α_36 5 i_36), .ref (α_36 20 0)]) rfl (by simp [refV_cat, Value.category]) dX1_addParameter_41 (bc' := 0) (bs' := 0) (Nat.le_refl _) (Nat.le_refl _) (fun r_41 n_41 α_41 K_41 hx_41 hp_41 => ?_)
    obtain ⟨rfl, rfl, rfl, hr_41⟩ := hp_41
    refine y_to (st' := [.ref (α_36 5 i_36), .ref (α_36 20 0)]) rfl rfl rfl ?_
    refine y_callV hE (m_J2_add 20 50 5 0 i_36 0 (S 3 0) ((up3 K_36 5 i_36 0 k) 20 0 0) rfl rfl rfl (rfl) q3302 hl_36 (by unfold kC; decide) (by unfold kC; decide) (fun f => by simp [kTag]) (by decide) hv_36_2 (u1) (u2) (rfl) (by omega) (by have z3 : ((up3 K_36 5 i_36 0 k)) 50 0 (-1) = 8 := u3; omega)) (lw_V q1960 q1092 q1093 q111 q1094) (nA := 1) (by decide +kernel) rfl ⟨Nat.le_of_ble_eq_true rfl, Nat.le_of_ble_eq_true rfl⟩ (hdd := rfl) (hcc := rfl) (hq := rfl) (hi := hv_36_2) (rest := []) rfl (by decide) dX1_addParameter_44 (bc' := 0) (bs' := 0) (Nat.le_refl _) (Nat.le_refl _) (fun r_44 n_44 α_44 K_44 hx_44 hp_44 => ?_)
    obtain ⟨rfl, rfl, rfl, hr_44⟩ := hp_44
    refine y_to (st' := [.int (iI r_44)]) rfl rfl rfl ?_
    refine y_pop hE rfl dX1_addParameter_47 ?_
    refine y_aload_n hE rfl 0 rfl dX1_addParameter_48 ?_
    refine gX1_27r (z := 0) hE hv_36 u0 (by omega) dX1_addParameter_49 (fun hl_49 => ?_)
    refine y_callV hE (m_J2_size 0 rfl hl_49) (lw_V q668 q669 q670 q111 q671) (nA := 0) (by decide +kernel) rfl ⟨Nat.le_of_ble_eq_true rfl, Nat.le_of_ble_eq_true rfl⟩ (hdd := rfl) (hcc := rfl) (hq := rfl) (hi := hl_49) (rest := []) rfl (by decide) dX1_addParameter_52 (bc' := 0) (bs' := 0) (Nat.le_refl _) (Nat.le_refl _) (fun r_52 n_52 α_52 K_52 hx_52 hp_52 => ?_)
    obtain ⟨rfl, rfl, rfl, hr_52⟩ := hp_52
    have e_52 : (S 3 0 + 1) = r_52 := Eq.symm (by rw [hr_52]; simp [up3])
    subst e_52
    refine y_to (st' := [.int (iI (S 3 0 + 1))]) rfl rfl rfl ?_
    refine y_iconst hE dX1_addParameter_55 ?_
    refine y_isub hE dX1_addParameter_56 ?_
    refine y_iretX hE rfl rfl hQ dX1_addParameter_57 hx_36 ?_
    refine ⟨?_, ?_, hn_36, by omega, by omega, by omega⟩
    · rw [hK_36, hn_36, hi_36]; exact repPar_add hP k _ (by omega)
    · rw [hK_36]; intro k' i' h f
      rw [up3_ko (fun z => h (Or.inl z.1)), up3_ko (fun z => h (Or.inr (Or.inl z.1))), up3_ko (fun z => h (Or.inl z.1)), up3_ko (fun z => h (Or.inr (Or.inr z.1)))]
      exact upo_k _ _ _ _ _ (fun z => h (Or.inr (Or.inr z)))
  refine y_icmp_ge hE 28 (by decide) (by omega) (by omega) dX1_addParameter_21 (fun c_21 => ?_) (fun c_21 => ?_)
  · refine y_iconst hE dX1_addParameter_28 ?_
    exact J29 0 (by omega)
  · refine y_iconst hE dX1_addParameter_24 ?_
    refine y_goto hE 29 (by decide) dX1_addParameter_25 ?_
    exact J29 1 (by omega)
