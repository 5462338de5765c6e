set_option linter.unusedVariables false
def xIAE : String := "java/lang/IllegalArgumentException"
def xISE : String := "java/lang/IllegalStateException"
def xIOOBE : String := "java/lang/IndexOutOfBoundsException"
set_option maxHeartbeats 4000000 in
set_option maxRecDepth 100000 in
theorem m_X1_require {w : KW} {n : KN} {α : KA} {K : KS} (b : Int) (hb : b = 0 ∨ b = 1) : KMX w yX1_require cX1_require 1 none { frames := 6, cells := 1, slots := 6, locals := 81 } (3, 0) [.int (iI b)] n α K (fun r n' α' K' => n = n' ∧ α = α' ∧ K = K' ∧ (b = 1)) (fun E n' α' K' => n = n' ∧ α = α' ∧ K = K' ∧ (E = xIAE ∧ b = 0)) := by
  refine y_startX (by decide) (Nat.le_of_ble_eq_true rfl) (fun x hE hQ hN => ?_)
  have hw := hQ.2
  subst hw
  have hE : YE x cX1_require RX1 none "require" 1 { frames := 6, cells := 1, slots := 6, locals := 81 } := hE
  refine y_wk (fun hWK => ?_)
  have hn0 := hWK.1
  refine y_bud (bc' := 1) (bs' := 6) (Nat.le_refl _) (Nat.le_refl _) ?_
  refine y_to (lv' := [(0, .int (iI b))]) (st' := []) rfl rfl rfl ?_
  refine y_iload_n hE rfl 0 rfl dX1_require_0 ?_
  refine y_if_ne hE 12 (by decide) (by omega) dX1_require_1 (fun c_1 => ?_) (fun c_1 => ?_)
  · exact y_vretX (r := 0) hE rfl hQ dX1_require_12 Ext.rf ⟨rfl, rfl, rfl, by omega⟩
  · exact y_throw0 hE hQ hN (by decide) q1913 q115 (at_IAE hE) ag_IAE dX1_require_4 dX1_require_7 dX1_require_8 dX1_require_11 (Nat.le_of_ble_eq_true rfl) (Nat.le_of_ble_eq_true rfl) (by omega) (by omega) Ext.rf ⟨rfl, rfl, rfl, rfl, by omega⟩
set_option maxHeartbeats 4000000 in
set_option maxRecDepth 100000 in
theorem m_X1_demand {w : KW} {n : KN} {α : KA} {K : KS} (b : Int) (hb : b = 0 ∨ b = 1) : KMX w yX1_demand cX1_demand 1 none { frames := 6, cells := 1, slots := 6, locals := 81 } (3, 0) [.int (iI b)] n α K (fun r n' α' K' => n = n' ∧ α = α' ∧ K = K' ∧ (b = 1)) (fun E n' α' K' => n = n' ∧ α = α' ∧ K = K' ∧ (E = xISE ∧ b = 0)) := by
  refine y_startX (by decide) (Nat.le_of_ble_eq_true rfl) (fun x hE hQ hN => ?_)
  have hw := hQ.2
  subst hw
  have hE : YE x cX1_demand RX1 none "demand" 1 { frames := 6, cells := 1, slots := 6, locals := 81 } := hE
  refine y_wk (fun hWK => ?_)
  have hn0 := hWK.1
  refine y_bud (bc' := 1) (bs' := 6) (Nat.le_refl _) (Nat.le_refl _) ?_
  refine y_to (lv' := [(0, .int (iI b))]) (st' := []) rfl rfl rfl ?_
  refine y_iload_n hE rfl 0 rfl dX1_demand_0 ?_
  refine y_if_ne hE 12 (by decide) (by omega) dX1_demand_1 (fun c_1 => ?_) (fun c_1 => ?_)
  · exact y_vretX (r := 0) hE rfl hQ dX1_demand_12 Ext.rf ⟨rfl, rfl, rfl, by omega⟩
  · exact y_throw0 hE hQ hN (by decide) q1927 q134 (at_ISE hE) ag_ISE dX1_demand_4 dX1_demand_7 dX1_demand_8 dX1_demand_11 (Nat.le_of_ble_eq_true rfl) (Nat.le_of_ble_eq_true rfl) (by omega) (by omega) Ext.rf ⟨rfl, rfl, rfl, rfl, by omega⟩
set_option maxHeartbeats 4000000 in
set_option maxRecDepth 100000 in
theorem m_X1_checkIndex {w : KW} {n : KN} {α : KA} {K : KS} (i m : Int) (hi : -2147483648 ≤ i ∧ i ≤ 2147483647) (hm : 0 ≤ m ∧ m ≤ 2147483647) : KMX w yX1_checkIndex cX1_checkIndex 2 none { frames := 6, cells := 1, slots := 6, locals := 81 } (3, 0) [.int (iI i), .int (iI m)] n α K (fun r n' α' K' => n = n' ∧ α = α' ∧ K = K' ∧ (0 ≤ i ∧ i < m)) (fun E n' α' K' => n = n' ∧ α = α' ∧ K = K' ∧ (E = xIOOBE ∧ ¬ (0 ≤ i ∧ i < m))) := by
  refine y_startX (by decide) (Nat.le_of_ble_eq_true rfl) (fun x hE hQ hN => ?_)
  have hw := hQ.2
  subst hw
  have hE : YE x cX1_checkIndex RX1 none "checkIndex" 2 { frames := 6, cells := 1, slots := 6, locals := 81 } := hE
  refine y_wk (fun hWK => ?_)
  have hn0 := hWK.1
  refine y_bud (bc' := 1) (bs' := 6) (Nat.le_refl _) (Nat.le_refl _) ?_
  refine y_to (lv' := [(0, .int (iI i)), (1, .int (iI m))]) (st' := []) rfl rfl rfl ?_
  refine y_iload_n hE rfl 0 rfl dX1_checkIndex_0 ?_
  refine y_i2l hE (by omega) dX1_checkIndex_1 ?_
  refine y_lconst hE 0 (by decide) dX1_checkIndex_2 ?_
  refine y_iload_n hE rfl 1 rfl dX1_checkIndex_3 ?_
  refine y_iconst hE dX1_checkIndex_4 ?_
  refine y_isub hE dX1_checkIndex_5 ?_
  refine y_i2l hE (by omega) dX1_checkIndex_6 ?_
  refine y_callS hE (m_X1_in i 0 (m - 1) (by omega) (by omega) (by omega)) (lw_S q1909 q1024 q108 q1025) (nA := 3) (by decide +kernel) rfl ⟨Nat.le_of_ble_eq_true rfl, Nat.le_of_ble_eq_true rfl⟩ (rest := []) rfl (by decide) dX1_checkIndex_7 (bc' := 1) (bs' := 6) (Nat.le_refl _) (Nat.le_refl _) (fun r_7 n_7 α_7 K_7 hx_7 hp_7 => ?_)
  obtain ⟨rfl, rfl, rfl, hr_7⟩ := hp_7
  refine y_to (st' := [.int (iI r_7)]) rfl rfl rfl ?_
  refine y_if_ne hE 21 (by decide) (by omega) dX1_checkIndex_10 (fun c_10 => ?_) (fun c_10 => ?_)
  · exact y_vretX (r := 0) hE rfl hQ dX1_checkIndex_21 Ext.rf ⟨rfl, rfl, rfl, by omega⟩
  · exact y_throw0 hE hQ hN (by decide) q1978 q136 (at_IOOBE hE) ag_IOOBE dX1_checkIndex_13 dX1_checkIndex_16 dX1_checkIndex_17 dX1_checkIndex_20 (Nat.le_of_ble_eq_true rfl) (Nat.le_of_ble_eq_true rfl) (by omega) (by omega) Ext.rf ⟨rfl, rfl, rfl, rfl, by omega⟩
set_option maxHeartbeats 4000000 in
set_option maxRecDepth 100000 in
theorem m_J14_checkIndex {w : KW} {n : KN} {α : KA} {K : KS} (i m : Int) (hi : 0 ≤ i ∧ i < m) (hm : m ≤ 2147483647) : KM w yJ14_checkIndex cJ14_checkIndex 3 (some (.int)) { frames := 0, cells := 0, slots := 0, locals := 0 } (0, 0) [.int (iI i), .int (iI m), .null] n α K (fun r n' α' K' => n = n' ∧ α = α' ∧ K = K' ∧ (r = i)) := by
  refine y_start (by decide) (Nat.le_of_ble_eq_true rfl) (fun x hE hQ => ?_)
  have hw := hQ.2
  subst hw
  have hE : YE x cJ14_checkIndex RJ14 (some (.int)) "checkIndex" 3 { frames := 0, cells := 0, slots := 0, locals := 0 } := hE
  refine y_wk (fun hWK => ?_)
  have hn0 := hWK.1
  refine y_bud (bc' := 0) (bs' := 0) (Nat.le_refl _) (Nat.le_refl _) ?_
  refine y_to (lv' := [(0, .int (iI i)), (1, .int (iI m)), (2, .null)]) (st' := []) rfl rfl rfl ?_
  refine y_iload_n hE rfl 0 rfl dJ14_checkIndex_0 ?_
  refine y_if_lt hE 9 (by decide) (by omega) dJ14_checkIndex_1 (fun c_1 => ?_) (fun c_1 => ?_)
  · exact absurd c_1 (by omega)
  · refine y_iload_n hE rfl 0 rfl dJ14_checkIndex_4 ?_
    refine y_iload_n hE rfl 1 rfl dJ14_checkIndex_5 ?_
    refine y_icmp_lt hE 16 (by decide) (by omega) (by omega) dJ14_checkIndex_6 (fun c_6 => ?_) (fun c_6 => ?_)
    · refine y_iload_n hE rfl 0 rfl dJ14_checkIndex_16 ?_
      exact y_iret hE rfl rfl hQ dJ14_checkIndex_17 Ext.rf ⟨rfl, rfl, rfl, by omega⟩
    · exact absurd c_6 (by omega)
set_option maxHeartbeats 4000000 in
set_option maxRecDepth 100000 in
theorem m_J24_checkIndex {w : KW} {n : KN} {α : KA} {K : KS} (i m : Int) (hi : 0 ≤ i ∧ i < m) (hm : m ≤ 2147483647) : KM w yJ24_checkIndex cJ24_checkIndex 2 (some (.int)) { frames := 1, cells := 0, slots := 0, locals := 22 } (0, 0) [.int (iI i), .int (iI m)] n α K (fun r n' α' K' => n = n' ∧ α = α' ∧ K = K' ∧ (r = i)) := by
  refine y_start (by decide) (Nat.le_of_ble_eq_true rfl) (fun x hE hQ => ?_)
  have hw := hQ.2
  subst hw
  have hE : YE x cJ24_checkIndex RJ24 (some (.int)) "checkIndex" 2 { frames := 1, cells := 0, slots := 0, locals := 22 } := hE
  refine y_wk (fun hWK => ?_)
  have hn0 := hWK.1
  refine y_bud (bc' := 0) (bs' := 0) (Nat.le_refl _) (Nat.le_refl _) ?_
  refine y_to (lv' := [(0, .int (iI i)), (1, .int (iI m))]) (st' := []) rfl rfl rfl ?_
  refine y_iload_n hE rfl 0 rfl dJ24_checkIndex_0 ?_
  refine y_iload_n hE rfl 1 rfl dJ24_checkIndex_1 ?_
  refine y_null hE dJ24_checkIndex_2 ?_
  refine y_callS hE (m_J14_checkIndex i m hi hm) (lw_S q679 q680 q124 q681) (nA := 3) (by decide +kernel) rfl ⟨Nat.le_of_ble_eq_true rfl, Nat.le_of_ble_eq_true rfl⟩ (rest := []) rfl (by decide) dJ24_checkIndex_3 (bc' := 0) (bs' := 0) (Nat.le_refl _) (Nat.le_refl _) (fun r_3 n_3 α_3 K_3 hx_3 hp_3 => ?_)
  obtain ⟨rfl, rfl, rfl, hr_3⟩ := hp_3
  refine y_to (st' := [.int (iI r_3)]) rfl rfl rfl ?_
  exact y_iret hE rfl rfl hQ dJ24_checkIndex_6 Ext.rf ⟨rfl, rfl, rfl, by omega⟩
set_option maxHeartbeats 4000000 in
set_option maxRecDepth 100000 in
theorem m_J2_size {w : KW} {n : KN} {α : KA} {K : KS} {kl kd : Nat} (l : Int) (hdl : kD K kl l = .inl (16, [(0, 0), (2, kd), (0, 0)])) (hl : 0 ≤ l ∧ l < n kl) : KM w yJ2_size cJ2_size 1 (some (.int)) { frames := 0, cells := 0, slots := 0, locals := 0 } (0, 0) [.ref (α kl l)] n α K (fun r n' α' K' => n = n' ∧ α = α' ∧ K = K' ∧ (r = K kl l 2)) := by
  refine y_start (by decide) (Nat.le_of_ble_eq_true rfl) (fun x hE hQ => ?_)
  have hw := hQ.2
  subst hw
  have hE : YE x cJ2_size RJ2 (some (.int)) "size" 1 { frames := 0, cells := 0, slots := 0, locals := 0 } := hE
  refine y_wk (fun hWK => ?_)
  have hn0 := hWK.1
  refine y_bud (bc' := 0) (bs' := 0) (Nat.le_refl _) (Nat.le_refl _) ?_
  refine y_to (lv' := [(0, .ref (α kl l))]) (st' := []) rfl rfl rfl ?_
  refine y_aload_n hE rfl 0 rfl dJ2_size_0 ?_
  refine gJ2_48 (z := K kl l 2) hE hdl hl rfl dJ2_size_1 ?_
  exact y_iret hE rfl rfl hQ dJ2_size_4 Ext.rf ⟨rfl, rfl, rfl, by omega⟩
set_option maxHeartbeats 4000000 in
set_option maxRecDepth 100000 in
theorem m_J2_elementData {w : KW} {n : KN} {α : KA} {K : KS} (kl kd ke : Nat) (l z : Int) (hdl : kD K kl l = .inl (16, [(0, 0), (2, kd), (0, 0)])) (hdd : kD K kd (K kl l 1) = .inr (4, 2, ke)) (hl : 0 ≤ l ∧ l < n kl) (h0 : 0 ≤ K kl l 1) (hsz : 0 ≤ K kl l 2 ∧ K kl l 2 ≤ K kd (K kl l 1) (-1)) (hz : 0 ≤ z ∧ z < K kl l 2) (hnn : 0 ≤ K kd (K kl l 1) z) : KM w yJ2_elementData cJ2_elementData 2 (some (.object "java/lang/Object")) { frames := 0, cells := 0, slots := 0, locals := 0 } (2, ke) [.ref (α kl l), .int (iI z)] n α K (fun r n' α' K' => n = n' ∧ α = α' ∧ K = K' ∧ (r = K kd (K kl l 1) z ∧ 0 ≤ r ∧ r < n ke)) := by
  refine y_start (by decide) (Nat.le_of_ble_eq_true rfl) (fun x hE hQ => ?_)
  have hw := hQ.2
  subst hw
  have hE : YE x cJ2_elementData RJ2 (some (.object "java/lang/Object")) "elementData" 2 { frames := 0, cells := 0, slots := 0, locals := 0 } := hE
  refine y_wk (fun hWK => ?_)
  have hn0 := hWK.1
  refine y_bud (bc' := 0) (bs' := 0) (Nat.le_refl _) (Nat.le_refl _) ?_
  refine y_to (lv' := [(0, .ref (α kl l)), (1, .int (iI z))]) (st' := []) rfl rfl rfl ?_
  have hcap := (wk_len hWK ⟨h0, wk_f hWK hl hdl (f := 1) (fi := 1) rfl rfl⟩ hdd).2
  refine y_aload_n hE rfl 0 rfl dJ2_elementData_0 ?_
  refine gJ2_9r (z := K kl l 1) hE hdl hl rfl (by omega) dJ2_elementData_1 (fun hl_1 => ?_)
  refine y_iload_n hE rfl 1 rfl dJ2_elementData_4 ?_
  refine y_aald hE hdd rfl hl_1 (by omega) (by omega) dJ2_elementData_5 (fun hl_5 => ?_)
  have hl_5 : (0 : Int) ≤ K kd (K kl l 1) z ∧ K kd (K kl l 1) z < n ke := ⟨by omega, hl_5⟩
  refine y_to (st' := [refV α ke (K kd (K kl l 1) z)]) rfl rfl (by rw [refV_s hl_5.1]) ?_
  exact y_aret hE rfl (Or.inl ⟨_, rfl⟩) hQ dJ2_elementData_6 Ext.rf ⟨rfl, rfl, rfl, rfl, hl_5⟩
set_option maxHeartbeats 4000000 in
set_option maxRecDepth 100000 in
theorem m_J2_get {w : KW} {n : KN} {α : KA} {K : KS} (kl kd ke : Nat) (l z : Int) (hdl : kD K kl l = .inl (16, [(0, 0), (2, kd), (0, 0)])) (hdd : kD K kd (K kl l 1) = .inr (4, 2, ke)) (hl : 0 ≤ l ∧ l < n kl) (h0 : 0 ≤ K kl l 1) (hsz : 0 ≤ K kl l 2 ∧ K kl l 2 ≤ K kd (K kl l 1) (-1)) (hz : 0 ≤ z ∧ z < K kl l 2) (hnn : 0 ≤ K kd (K kl l 1) z) : KM w yJ2_get cJ2_get 2 (some (.object "java/lang/Object")) { frames := 2, cells := 0, slots := 0, locals := 43 } (2, ke) [.ref (α kl l), .int (iI z)] n α K (fun r n' α' K' => n = n' ∧ α = α' ∧ K = K' ∧ (r = K kd (K kl l 1) z ∧ 0 ≤ r ∧ r < n ke)) := by
  refine y_start (by decide) (Nat.le_of_ble_eq_true rfl) (fun x hE hQ => ?_)
  have hw := hQ.2
  subst hw
  have hE : YE x cJ2_get RJ2 (some (.object "java/lang/Object")) "get" 2 { frames := 2, cells := 0, slots := 0, locals := 43 } := hE
  refine y_wk (fun hWK => ?_)
  have hn0 := hWK.1
  refine y_bud (bc' := 0) (bs' := 0) (Nat.le_refl _) (Nat.le_refl _) ?_
  refine y_to (lv' := [(0, .ref (α kl l)), (1, .int (iI z))]) (st' := []) rfl rfl rfl ?_
  have hcap := (wk_len hWK ⟨h0, wk_f hWK hl hdl (f := 1) (fi := 1) rfl rfl⟩ hdd).2
  refine y_iload_n hE rfl 1 rfl dJ2_get_0 ?_
  refine y_aload_n hE rfl 0 rfl dJ2_get_1 ?_
  refine gJ2_48 (z := K kl l 2) hE hdl hl rfl dJ2_get_2 ?_
  refine y_callS hE (m_J24_checkIndex z (K kl l 2) (by omega) (by omega)) (lw_S q676 q677 q138 q678) (nA := 2) (by decide +kernel) rfl ⟨Nat.le_of_ble_eq_true rfl, Nat.le_of_ble_eq_true rfl⟩ (rest := []) rfl (by decide) dJ2_get_5 (bc' := 0) (bs' := 0) (Nat.le_refl _) (Nat.le_refl _) (fun r_5 n_5 α_5 K_5 hx_5 hp_5 => ?_)
  obtain ⟨rfl, rfl, rfl, hr_5⟩ := hp_5
  refine y_to (st' := [.int (iI r_5)]) rfl rfl rfl ?_
  refine y_pop hE rfl dJ2_get_8 ?_
  refine y_aload_n hE rfl 0 rfl dJ2_get_9 ?_
  refine y_iload_n hE rfl 1 rfl dJ2_get_10 ?_
  refine y_callV hE (m_J2_elementData kl kd ke l z hdl hdd hl h0 hsz hz hnn) (lw_V q682 q683 q684 q111 q685) (nA := 1) (by decide +kernel) rfl ⟨Nat.le_of_ble_eq_true rfl, Nat.le_of_ble_eq_true rfl⟩ (hdd := hdl) (hcc := rfl) (hq := rfl) (hi := hl) (rest := []) rfl (by decide) dJ2_get_11 (bc' := 0) (bs' := 0) (Nat.le_refl _) (Nat.le_refl _) (fun r_11 n_11 α_11 K_11 hx_11 hp_11 => ?_)
  obtain ⟨rfl, rfl, rfl, hr_11⟩ := hp_11
  refine y_to (st' := [refV α ke r_11]) rfl rfl rfl ?_
  have hl_11 : (0 : Int) ≤ r_11 ∧ r_11 < n ke := hr_11.2
  refine y_ref hl_11.1 ?_
  refine y_to (st' := [refV α ke r_11]) rfl rfl (by rw [refV_s hl_11.1]) ?_
  exact y_aret hE rfl (Or.inl ⟨_, rfl⟩) hQ dJ2_get_14 Ext.rf ⟨rfl, rfl, rfl, hr_11.1, hl_11⟩
