set_option linter.unusedVariables false
set_option maxHeartbeats 4000000 in
set_option maxRecDepth 100000 in
theorem m_J17_compare {w : KW} {n : KN} {α : KA} {K : KS} (a b : Int) (ha : -2147483648 ≤ a ∧ a ≤ 2147483647) (hb : -2147483648 ≤ b ∧ b ≤ 2147483647) : KM w yJ17_compare cJ17_compare 2 (some (.int)) { frames := 0, cells := 0, slots := 0, locals := 0 } (0, 0) [.int (iI a), .int (iI b)] n α K (fun r n' α' K' => n = n' ∧ α = α' ∧ K = K' ∧ (a < b ∧ r = -1 ∨ a = b ∧ r = 0 ∨ b < a ∧ r = 1)) := by
  refine y_start (by decide) (Nat.le_of_ble_eq_true rfl) (fun x hE hQ => ?_)
  have hw := hQ.2
  subst hw
  have hE : YE x cJ17_compare RJ17 (some (.int)) "compare" 2 { frames := 0, cells := 0, slots := 0, locals := 0 } := hE
  refine y_wk (fun hWK => ?_)
  have hn0 := hWK.1
  refine y_bud (bc' := 0) (bs' := 0) (Nat.le_refl _) (Nat.le_refl _) ?_
  refine y_to (lv' := [(0, .int (iI a)), (1, .int (iI b))]) (st' := []) rfl rfl rfl ?_
  refine y_iload_n hE rfl 0 rfl dJ17_compare_0 ?_
  refine y_iload_n hE rfl 1 rfl dJ17_compare_1 ?_
  refine y_icmp_ge hE 9 (by decide) (by omega) (by omega) dJ17_compare_2 (fun c_2 => ?_) (fun c_2 => ?_)
  · refine y_iload_n hE rfl 0 rfl dJ17_compare_9 ?_
    refine y_iload_n hE rfl 1 rfl dJ17_compare_10 ?_
    refine y_icmp_ne hE 18 (by decide) (by omega) (by omega) dJ17_compare_11 (fun c_11 => ?_) (fun c_11 => ?_)
    · refine y_iconst hE dJ17_compare_18 ?_
      exact y_iret hE rfl rfl hQ dJ17_compare_19 Ext.rf ⟨rfl, rfl, rfl, by omega⟩
    · refine y_iconst hE dJ17_compare_14 ?_
      refine y_goto hE 19 (by decide) dJ17_compare_15 ?_
      exact y_iret hE rfl rfl hQ dJ17_compare_19 Ext.rf ⟨rfl, rfl, rfl, by omega⟩
  · refine y_iconst hE dJ17_compare_5 ?_
    refine y_goto hE 19 (by decide) dJ17_compare_6 ?_
    exact y_iret hE rfl rfl hQ dJ17_compare_19 Ext.rf ⟨rfl, rfl, rfl, by omega⟩
set_option maxHeartbeats 4000000 in
set_option maxRecDepth 100000 in
theorem m_X2_compare {w : KW} {n : KN} {α : KA} {K : KS} (p j c t : Int) (hp : 0 ≤ p ∧ p < n 2) (ha0 : K 2 p 0 = p ∧ p < n 31 ∧ K 31 p (-1) = 40) (ha1 : K 2 p 1 = p ∧ p < n 32 ∧ K 32 p (-1) = 40) (ha2 : K 2 p 2 = p ∧ p < n 33 ∧ K 33 p (-1) = 40) (hj : 0 ≤ j ∧ j < 40) (hc : -2147483648 ≤ c ∧ c ≤ 2147483647) (ht : -2147483648 ≤ t ∧ t ≤ 2147483647) (hcj : -2147483648 ≤ K 31 p j ∧ K 31 p j ≤ 2147483647) (htj : -2147483648 ≤ K 32 p j ∧ K 32 p j ≤ 2147483647) : KM w yX2_compare cX2_compare 4 (some (.int)) { frames := 1, cells := 0, slots := 0, locals := 21 } (0, 0) [.ref (α 2 p), .int (iI j), .int (iI c), .int (iI t)] n α K (fun r n' α' K' => n = n' ∧ α = α' ∧ K = K' ∧ ((K 31 p j < c ∨ K 31 p j = c ∧ K 32 p j < t) ∧ r = -1 ∨ (K 31 p j = c ∧ K 32 p j = t) ∧ r = 0 ∨ (c < K 31 p j ∨ K 31 p j = c ∧ t < K 32 p j) ∧ r = 1)) := by
  refine y_start (by decide) (Nat.le_of_ble_eq_true rfl) (fun x hE hQ => ?_)
  have hw := hQ.2
  subst hw
  have hE : YE x cX2_compare RX2 (some (.int)) "compare" 4 { frames := 1, cells := 0, slots := 0, locals := 21 } := hE
  refine y_wk (fun hWK => ?_)
  have hn0 := hWK.1
  refine y_bud (bc' := 0) (bs' := 0) (Nat.le_refl _) (Nat.le_refl _) ?_
  refine y_to (lv' := [(0, .ref (α 2 p)), (1, .int (iI j)), (2, .int (iI c)), (3, .int (iI t))]) (st' := []) rfl rfl rfl ?_
  refine y_aload_n hE rfl 0 rfl dX2_compare_0 ?_
  refine gX2_9r (z := p) hE hp ha0.1 (by omega) dX2_compare_1 (fun hl_1 => ?_)
  refine y_iload_n hE rfl 1 rfl dX2_compare_4 ?_
  refine y_iald hE rfl hl_1 (by have hL : K 31 p (-1) = 40 := ha0.2.2; omega) dX2_compare_5 ?_
  refine y_iload_n hE rfl 2 rfl dX2_compare_6 ?_
  refine y_icmp_eq hE 23 (by decide) (by omega) (by omega) dX2_compare_7 (fun c_7 => ?_) (fun c_7 => ?_)
  · refine y_aload_n hE rfl 0 rfl dX2_compare_23 ?_
    refine gX2_13r (z := p) hE hp ha1.1 (by omega) dX2_compare_24 (fun hl_24 => ?_)
    refine y_iload_n hE rfl 1 rfl dX2_compare_27 ?_
    refine y_iald hE rfl hl_24 (by have hL : K 32 p (-1) = 40 := ha1.2.2; omega) dX2_compare_28 ?_
    refine y_iload_n hE rfl 3 rfl dX2_compare_29 ?_
    refine y_callS hE (m_J17_compare (K 32 p j) t (by omega) (by omega)) (lw_S q841 q842 q127 q843) (nA := 2) (by decide +kernel) rfl ⟨Nat.le_of_ble_eq_true rfl, Nat.le_of_ble_eq_true rfl⟩ (rest := []) rfl (by decide) dX2_compare_30 (bc' := 0) (bs' := 0) (Nat.le_refl _) (Nat.le_refl _) (fun r_30 n_30 α_30 K_30 hx_30 hp_30 => ?_)
    obtain ⟨rfl, rfl, rfl, hr_30⟩ := hp_30
    refine y_to (st' := [.int (iI r_30)]) rfl rfl rfl ?_
    exact y_iret hE rfl rfl hQ dX2_compare_33 Ext.rf ⟨rfl, rfl, rfl, by omega⟩
  · refine y_aload_n hE rfl 0 rfl dX2_compare_10 ?_
    refine gX2_9r (z := p) hE hp ha0.1 (by omega) dX2_compare_11 (fun hl_11 => ?_)
    refine y_iload_n hE rfl 1 rfl dX2_compare_14 ?_
    refine y_iald hE rfl hl_11 (by have hL : K 31 p (-1) = 40 := ha0.2.2; omega) dX2_compare_15 ?_
    refine y_iload_n hE rfl 2 rfl dX2_compare_16 ?_
    refine y_callS hE (m_J17_compare (K 31 p j) c (by omega) (by omega)) (lw_S q841 q842 q127 q843) (nA := 2) (by decide +kernel) rfl ⟨Nat.le_of_ble_eq_true rfl, Nat.le_of_ble_eq_true rfl⟩ (rest := []) rfl (by decide) dX2_compare_17 (bc' := 0) (bs' := 0) (Nat.le_refl _) (Nat.le_refl _) (fun r_17 n_17 α_17 K_17 hx_17 hp_17 => ?_)
    obtain ⟨rfl, rfl, rfl, hr_17⟩ := hp_17
    refine y_to (st' := [.int (iI r_17)]) rfl rfl rfl ?_
    refine y_goto hE 33 (by decide) dX2_compare_20 ?_
    exact y_iret hE rfl rfl hQ dX2_compare_33 Ext.rf ⟨rfl, rfl, rfl, by omega⟩
set_option maxHeartbeats 4000000 in
set_option maxRecDepth 100000 in
theorem m_X2_copyTo {w : KW} {n : KN} {α : KA} {K : KS} (p q : Int) (hp : 0 ≤ p ∧ p < n 2) (ha0 : K 2 p 0 = p ∧ p < n 31 ∧ K 31 p (-1) = 40) (ha1 : K 2 p 1 = p ∧ p < n 32 ∧ K 32 p (-1) = 40) (ha2 : K 2 p 2 = p ∧ p < n 33 ∧ K 33 p (-1) = 40) (hq : 0 ≤ q ∧ q < n 2) (hb0 : K 2 q 0 = q ∧ q < n 31 ∧ K 31 q (-1) = 40) (hb1 : K 2 q 1 = q ∧ q < n 32 ∧ K 32 q (-1) = 40) (hb2 : K 2 q 2 = q ∧ q < n 33 ∧ K 33 q (-1) = 40) (hm : 0 ≤ K 2 p 3 ∧ K 2 p 3 ≤ 40) (hne : p ≠ q) : KM w yX2_copyTo cX2_copyTo 2 none { frames := 1, cells := 0, slots := 0, locals := 40 } (3, 0) [.ref (α 2 p), .ref (α 2 q)] n α K (fun r n' α' K' => n = n' ∧ α = α' ∧ (KO K K' (fun k i => (k = 2 ∨ k = 31 ∨ k = 32 ∨ k = 33) ∧ i = q) ∧ K' 2 q 0 = K 2 q 0 ∧ K' 2 q 1 = K 2 q 1 ∧ K' 2 q 2 = K 2 q 2 ∧ K' 2 q 3 = K 2 p 3 ∧ (∀ j, 0 ≤ j → j < K 2 p 3 → K' 31 q j = K 31 p j ∧ K' 32 q j = K 32 p j ∧ K' 33 q j = K 33 p j) ∧ K' 31 q (-1) = 40 ∧ K' 32 q (-1) = 40 ∧ K' 33 q (-1) = 40)) := by
  refine y_start (by decide) (Nat.le_of_ble_eq_true rfl) (fun x hE hQ => ?_)
  have hw := hQ.2
  subst hw
  have hE : YE x cX2_copyTo RX2 none "copyTo" 2 { frames := 1, cells := 0, slots := 0, locals := 40 } := hE
  refine y_wk (fun hWK => ?_)
  have hn0 := hWK.1
  refine y_bud (bc' := 0) (bs' := 0) (Nat.le_refl _) (Nat.le_refl _) ?_
  refine y_to (lv' := [(0, .ref (α 2 p)), (1, .ref (α 2 q))]) (st' := []) rfl rfl rfl ?_
  refine y_aload_n hE rfl 1 rfl dX2_copyTo_0 ?_
  refine y_aload_n hE rfl 0 rfl dX2_copyTo_1 ?_
  refine gX2_25 (z := K 2 p 3) hE hp rfl dX2_copyTo_2 ?_
  refine pX2_25 hE hq dX2_copyTo_5 ?_
  refine y_aload_n hE rfl 0 rfl dX2_copyTo_8 ?_
  refine gX2_9r (z := p) hE hp ha0.1 (by omega) dX2_copyTo_9 (fun hl_9 => ?_)
  refine y_iconst hE dX2_copyTo_12 ?_
  refine y_aload_n hE rfl 1 rfl dX2_copyTo_13 ?_
  refine gX2_9r (z := q) hE hq hb0.1 (by omega) dX2_copyTo_14 (fun hl_14 => ?_)
  refine y_iconst hE dX2_copyTo_17 ?_
  refine y_aload_n hE rfl 0 rfl dX2_copyTo_18 ?_
  refine gX2_25 (z := K 2 p 3) hE hp (by simp [up3, upr, hne, Ne.symm hne]) dX2_copyTo_19 ?_
  refine y_copyi hE (by unfold kC; decide) (by decide) rfl rfl (by unfold kC; decide) hl_9 hl_14 q2391 (by have hL : (up3 K 2 q 3 (K 2 p 3)) 31 p (-1) = 40 := ha0.2.2; omega) (by have hL : (up3 K 2 q 3 (K 2 p 3)) 31 q (-1) = 40 := hb0.2.2; omega) (Nat.le_of_ble_eq_true rfl) (Nat.le_of_ble_eq_true rfl) dX2_copyTo_22 ?_
  refine y_aload_n hE rfl 0 rfl dX2_copyTo_25 ?_
  refine gX2_13r (z := p) hE hp ha1.1 (by omega) dX2_copyTo_26 (fun hl_26 => ?_)
  refine y_iconst hE dX2_copyTo_29 ?_
  refine y_aload_n hE rfl 1 rfl dX2_copyTo_30 ?_
  refine gX2_13r (z := q) hE hq hb1.1 (by omega) dX2_copyTo_31 (fun hl_31 => ?_)
  refine y_iconst hE dX2_copyTo_34 ?_
  refine y_aload_n hE rfl 0 rfl dX2_copyTo_35 ?_
  refine gX2_25 (z := K 2 p 3) hE hp (by simp [up3, upr, hne, Ne.symm hne]) dX2_copyTo_36 ?_
  refine y_copyi hE (by unfold kC; decide) (by decide) rfl rfl (by unfold kC; decide) hl_26 hl_31 q2391 (by have hL : (upr (up3 K 2 q 3 (K 2 p 3)) 31 q 0 (0 + K 2 p 3) (fun f => (up3 K 2 q 3 (K 2 p 3)) 31 p (0 + (f - 0)))) 32 p (-1) = 40 := ha1.2.2; omega) (by have hL : (upr (up3 K 2 q 3 (K 2 p 3)) 31 q 0 (0 + K 2 p 3) (fun f => (up3 K 2 q 3 (K 2 p 3)) 31 p (0 + (f - 0)))) 32 q (-1) = 40 := hb1.2.2; omega) (Nat.le_of_ble_eq_true rfl) (Nat.le_of_ble_eq_true rfl) dX2_copyTo_39 ?_
  refine y_aload_n hE rfl 0 rfl dX2_copyTo_42 ?_
  refine gX2_16r (z := p) hE hp ha2.1 (by omega) dX2_copyTo_43 (fun hl_43 => ?_)
  refine y_iconst hE dX2_copyTo_46 ?_
  refine y_aload_n hE rfl 1 rfl dX2_copyTo_47 ?_
  refine gX2_16r (z := q) hE hq hb2.1 (by omega) dX2_copyTo_48 (fun hl_48 => ?_)
  refine y_iconst hE dX2_copyTo_51 ?_
  refine y_aload_n hE rfl 0 rfl dX2_copyTo_52 ?_
  refine gX2_25 (z := K 2 p 3) hE hp (by simp [up3, upr, hne, Ne.symm hne]) dX2_copyTo_53 ?_
  refine y_copyi hE (by unfold kC; decide) (by decide) rfl rfl (by unfold kC; decide) hl_43 hl_48 q2391 (by have hL : (upr (upr (up3 K 2 q 3 (K 2 p 3)) 31 q 0 (0 + K 2 p 3) (fun f => (up3 K 2 q 3 (K 2 p 3)) 31 p (0 + (f - 0)))) 32 q 0 (0 + K 2 p 3) (fun f => (upr (up3 K 2 q 3 (K 2 p 3)) 31 q 0 (0 + K 2 p 3) (fun f => (up3 K 2 q 3 (K 2 p 3)) 31 p (0 + (f - 0)))) 32 p (0 + (f - 0)))) 33 p (-1) = 40 := ha2.2.2; omega) (by have hL : (upr (upr (up3 K 2 q 3 (K 2 p 3)) 31 q 0 (0 + K 2 p 3) (fun f => (up3 K 2 q 3 (K 2 p 3)) 31 p (0 + (f - 0)))) 32 q 0 (0 + K 2 p 3) (fun f => (upr (up3 K 2 q 3 (K 2 p 3)) 31 q 0 (0 + K 2 p 3) (fun f => (up3 K 2 q 3 (K 2 p 3)) 31 p (0 + (f - 0)))) 32 p (0 + (f - 0)))) 33 q (-1) = 40 := hb2.2.2; omega) (Nat.le_of_ble_eq_true rfl) (Nat.le_of_ble_eq_true rfl) dX2_copyTo_56 ?_
  refine y_vret (r := 0) hE rfl hQ dX2_copyTo_59 Ext.rf ?_
  refine ⟨rfl, rfl, ?_, rfl, rfl, rfl, by simp [up3, upr], fun j j0 j1 => ?_, ?_, ?_, ?_⟩
  · intro k i h f
    have e1 : ∀ z : Nat, (z = 2 ∨ z = 31 ∨ z = 32 ∨ z = 33) → ¬ (k = z ∧ i = q) := fun z hz hh => h ⟨by rw [hh.1]; exact hz, hh.2⟩
    rw [upr_ko (e1 33 (by simp)), upr_ko (e1 32 (by simp)), upr_ko (e1 31 (by simp)), up3_ko (e1 2 (by simp))]
  · refine ⟨?_, ?_, ?_⟩ <;> simp [upr, up3, hne, Ne.symm hne, j0, j1]
  · rw [show (40 : Int) = K 31 q (-1) from hb0.2.2.symm]; simp [upr, up3]
  · rw [show (40 : Int) = K 32 q (-1) from hb1.2.2.symm]; simp [upr, up3]
  · rw [show (40 : Int) = K 33 q (-1) from hb2.2.2.symm]; simp [upr, up3]
