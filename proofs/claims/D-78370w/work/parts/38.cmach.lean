set_option linter.unusedVariables false
/-- the machine mi, of the tracks ta and tb (below 0: idle), fresh by fa and fb, is as m says -/
def MV (S : SS) (n : KN) (K : KS) (mi : Int) (ta : Int) (tb : Int) (fa : Int) (fb : Int) : Prop :=
  (0 ≤ mi ∧ mi < n 12) ∧
  (K 12 mi 0 = ta ∧ 0 ≤ ta ∧ ta < n 13 ∧ K 13 ta 0 = S 0 12 ∧ K 13 ta 1 = S 0 13 ∧ K 13 ta 2 = S 0 14 ∧ K 13 ta 3 = fa) ∧
  (K 12 mi 1 = tb ∧ tb < n 13) ∧
  (S 0 8 = 0 ∧ tb < 0 ∧ K 12 mi 2 = -1 ∧ K 12 mi 3 = 0 ∧ K 12 mi 4 = 0 ∧ K 12 mi 5 = 0 ∨ S 0 8 = 1 ∧ (0 ≤ tb ∧ tb ≠ ta ∧ K 13 tb 0 = S 0 16 ∧ K 13 tb 1 = S 0 17 ∧ K 13 tb 2 = S 0 18 ∧ K 13 tb 3 = fb) ∧ K 12 mi 2 = S 0 9 ∧ K 12 mi 3 = S 0 10 ∧ K 12 mi 4 = S 0 11 ∧ K 12 mi 5 = S 0 20) ∧
  (S 0 20 = 1 → PA (frS S 0) (K 2 (mi + 1) 3) (K 31 (mi + 1)) (K 32 (mi + 1)) (K 33 (mi + 1))) ∧
  (K 12 mi 8 = S 0 166 ∧ (∀ j : Int, 0 ≤ j → j < 4 * S 0 166 → K 35 mi j = S 0 (167 + j)) ∧ K 12 mi 9 = S 0 288)
theorem MV.mi {S : SS} {n : KN} {K : KS} {mi : Int} {ta : Int} {tb : Int} {fa : Int} {fb : Int} (h : MV S n K mi ta tb fa fb) : 0 ≤ mi ∧ mi < n 12 := h.1
theorem MV.a {S : SS} {n : KN} {K : KS} {mi : Int} {ta : Int} {tb : Int} {fa : Int} {fb : Int} (h : MV S n K mi ta tb fa fb) : K 12 mi 0 = ta ∧ 0 ≤ ta ∧ ta < n 13 ∧ K 13 ta 0 = S 0 12 ∧ K 13 ta 1 = S 0 13 ∧ K 13 ta 2 = S 0 14 ∧ K 13 ta 3 = fa := h.2.1
theorem MV.b {S : SS} {n : KN} {K : KS} {mi : Int} {ta : Int} {tb : Int} {fa : Int} {fb : Int} (h : MV S n K mi ta tb fa fb) : K 12 mi 1 = tb ∧ tb < n 13 := h.2.2.1
theorem MV.st {S : SS} {n : KN} {K : KS} {mi : Int} {ta : Int} {tb : Int} {fa : Int} {fb : Int} (h : MV S n K mi ta tb fa fb) : S 0 8 = 0 ∧ tb < 0 ∧ K 12 mi 2 = -1 ∧ K 12 mi 3 = 0 ∧ K 12 mi 4 = 0 ∧ K 12 mi 5 = 0 ∨ S 0 8 = 1 ∧ (0 ≤ tb ∧ tb ≠ ta ∧ K 13 tb 0 = S 0 16 ∧ K 13 tb 1 = S 0 17 ∧ K 13 tb 2 = S 0 18 ∧ K 13 tb 3 = fb) ∧ K 12 mi 2 = S 0 9 ∧ K 12 mi 3 = S 0 10 ∧ K 12 mi 4 = S 0 11 ∧ K 12 mi 5 = S 0 20 := h.2.2.2.1
theorem MV.fz {S : SS} {n : KN} {K : KS} {mi : Int} {ta : Int} {tb : Int} {fa : Int} {fb : Int} (h : MV S n K mi ta tb fa fb) : S 0 20 = 1 → PA (frS S 0) (K 2 (mi + 1) 3) (K 31 (mi + 1)) (K 32 (mi + 1)) (K 33 (mi + 1)) := h.2.2.2.2.1
theorem MV.lg {S : SS} {n : KN} {K : KS} {mi : Int} {ta : Int} {tb : Int} {fa : Int} {fb : Int} (h : MV S n K mi ta tb fa fb) : K 12 mi 8 = S 0 166 ∧ (∀ j : Int, 0 ≤ j → j < 4 * S 0 166 → K 35 mi j = S 0 (167 + j)) ∧ K 12 mi 9 = S 0 288 := h.2.2.2.2.2
theorem frS_arr {S : SS} {m : Int} {fc ft fw : Int → Int} (hm : 0 ≤ S 0 21) (h : PA (frS S 0) m fc ft fw) : m = S 0 21 ∧ ∀ k : Int, 0 ≤ k → k < S 0 21 → fc k = S 0 (22 + 3 * k) ∧ ft k = S 0 (22 + 3 * k + 1) ∧ fw k = S 0 (22 + 3 * k + 2) := by
  have hl : (frS S 0).length = (S 0 21).toNat := by unfold frS; rw [List.length_map, List.length_range, Int.zero_add]
  refine ⟨by have := h.1; omega, fun k k0 k1 => ?_⟩
  have e : (frS S 0)[k.toNat]? = some (S 0 (22 + 3 * k), S 0 (22 + 3 * k + 1), S 0 (22 + 3 * k + 2)) := by
    unfold frS
    rw [List.getElem?_map, List.getElem?_range (by rw [Int.zero_add]; omega), Option.map_some, show ((k.toNat : Nat) : Int) = k by omega, show (0 : Int) + 22 + 3 * k = 22 + 3 * k by omega, show (0 : Int) + 23 + 3 * k = 22 + 3 * k + 1 by omega, show (0 : Int) + 24 + 3 * k = 22 + 3 * k + 2 by omega]
  have := h.2 k.toNat _ e
  rw [show ((k.toNat : Nat) : Int) = k by omega] at this
  exact this
set_option maxHeartbeats 4000000 in
set_option maxRecDepth 100000 in
theorem m_X12_isIdle {w : KW} {n : KN} {α : KA} {K : KS} (S : SS) (mi ta tb fa fb : Int)  (hR : Rst S n K) (hW : WFs S) (hlm : 0 ≤ mi ∧ mi < n 12) (hV : MV S n K mi ta tb fa fb) : KM w yX12_isIdle cX12_isIdle 1 (some (.boolean)) { frames := 0, cells := 0, slots := 0, locals := 0 } (0, 0) [.ref (α 12 mi)] n α K (fun r n' α' K' => n = n' ∧ α = α' ∧ K = K' ∧ ((r = 1 ∧ (S 0 8 = 0) ∨ r = 0 ∧ ¬ (S 0 8 = 0)))) := by
  refine y_start (by decide) (Nat.le_of_ble_eq_true rfl) (fun x hE hQ => ?_)
  have hw := hQ.2
  subst hw
  have hE : YE x cX12_isIdle RX12 (some (.boolean)) "isIdle" 1 { frames := 0, cells := 0, slots := 0, locals := 0 } := hE
  refine y_wk (fun hWK => ?_)
  have hn0 := hWK.1
  refine y_bud (bc' := 0) (bs' := 0) (Nat.le_refl _) (Nat.le_refl _) ?_
  refine y_to (lv' := [(0, .ref (α 12 mi))]) (st' := []) rfl rfl rfl ?_
  have wcl := hW.clips
  have n1 := hR.n1
  have n3 := hR.n3
  have n34 := hR.n34
  have n6 := hR.n6
  have n21 := hR.n21
  have n51 := hR.n51
  have n8 := hR.n8
  have n11 := hR.n11
  have wsts := hW.sts
  have wnodes := hW.nodes
  have va := hV.a
  have vb := hV.b
  have vs := hV.st
  have vl := hV.lg
  refine y_aload_n hE rfl 0 rfl dX12_isIdle_0 ?_
  refine gX12_53 (z := tb) hE hlm vb.1 dX12_isIdle_1 (fun hb_1 => ?_)
  refine y_ifnonnull hE 11 (by decide) dX12_isIdle_4 (fun c_4 => ?_) (fun c_4 => ?_)
  · refine y_iconst hE dX12_isIdle_11 ?_
    exact y_iret hE rfl (nar_b (by omega)).1 hQ dX12_isIdle_12 Ext.rf ⟨rfl, rfl, rfl, by omega⟩
  · refine y_iconst hE dX12_isIdle_7 ?_
    refine y_goto hE 12 (by decide) dX12_isIdle_8 ?_
    exact y_iret hE rfl (nar_b (by omega)).1 hQ dX12_isIdle_12 Ext.rf ⟨rfl, rfl, rfl, by omega⟩
set_option maxHeartbeats 4000000 in
set_option maxRecDepth 100000 in
theorem m_X12_targetShare {w : KW} {n : KN} {α : KA} {K : KS} (S : SS) (mi ta tb fa fb : Int)  (hR : Rst S n K) (hW : WFs S) (hlm : 0 ≤ mi ∧ mi < n 12) (hV : MV S n K mi ta tb fa fb) (hin : S 0 8 = 1) (hx : 0 ≤ S 0 9 ∧ S 0 9 < S 21 0) (he : 0 ≤ S 0 10 ∧ S 0 10 ≤ S 20 (17 * S 0 9 + 2) ∧ 0 < S 20 (17 * S 0 9 + 2)) : KM w yX12_targetShare cX12_targetShare 1 (some (.int)) { frames := 3, cells := 0, slots := 0, locals := 64 } (0, 0) [.ref (α 12 mi)] n α K (fun r n' α' K' => n = n' ∧ α = α' ∧ K = K' ∧ (r = shS S ∧ 0 ≤ r ∧ r ≤ 1000000)) := by
  refine y_start (by decide) (Nat.le_of_ble_eq_true rfl) (fun x hE hQ => ?_)
  have hw := hQ.2
  subst hw
  have hE : YE x cX12_targetShare RX12 (some (.int)) "targetShare" 1 { frames := 3, cells := 0, slots := 0, locals := 64 } := hE
  refine y_wk (fun hWK => ?_)
  have hn0 := hWK.1
  refine y_bud (bc' := 0) (bs' := 0) (Nat.le_refl _) (Nat.le_refl _) ?_
  refine y_to (lv' := [(0, .ref (α 12 mi))]) (st' := []) rfl rfl rfl ?_
  have wcl := hW.clips
  have n1 := hR.n1
  have n3 := hR.n3
  have n34 := hR.n34
  have n6 := hR.n6
  have n21 := hR.n21
  have n51 := hR.n51
  have n8 := hR.n8
  have n11 := hR.n11
  have wsts := hW.sts
  have wnodes := hW.nodes
  have va := hV.a
  have vb := hV.b
  have vs := hV.st
  have vl := hV.lg
  have vt := vs.resolve_left (by omega)
  obtain ⟨-, ⟨vt0, vt1, vt2, vt3, vt4, vt5⟩, vt6, vt7, vt8, vt9⟩ := vt
  have n24 := hR.n24
  have n54 := hR.n54
  have n40 := hR.n40
  have wtrs := hW.trs
  have wx := hW.tr (S 0 9) hx.1 hx.2
  have hshi := shS_in he
  have ht54 := hR.t54 hx
  refine y_ldc2 hE 1000000 (v := 1000000) (by decide) q822 dX12_targetShare_0 ?_
  refine y_aload_n hE rfl 0 rfl dX12_targetShare_3 ?_
  refine gX12_56 (z := (S 0 10)) hE hlm vt7 dX12_targetShare_4 ?_
  refine y_i2l hE (by omega) dX12_targetShare_7 ?_
  refine y_aload_n hE rfl 0 rfl dX12_targetShare_8 ?_
  refine gX12_14r (z := 0) hE hlm (hR.m14 (i := mi) (by omega)) (by omega) dX12_targetShare_9 (fun hl_9 => ?_)
  refine gX12_95r (z := 0) hE hl_9 (hR.c4) (by omega) dX12_targetShare_12 (fun hl_12 => ?_)
  refine y_aload_n hE rfl 0 rfl dX12_targetShare_15 ?_
  refine gX12_23 (z := (S 0 9)) hE hlm vt6 dX12_targetShare_16 ?_
  refine y_callV hE (m_J2_get 24 54 14 0 (S 0 9) rfl rfl hl_12 (by have e1 : K 24 0 1 = 0 := (hR.l24); omega) (by have e1 : K 24 0 1 = 0 := (hR.l24); have e2 : K 24 0 2 = (S 21 0) := (hR.z24); have e3 : K 54 0 (-1) = 24 := (hR.m24); rw [e1, e2, e3]; omega) (by have e2 : K 24 0 2 = (S 21 0) := (hR.z24); rw [e2]; omega) (by have e1 : K 24 0 1 = 0 := (hR.l24); have e4 : K 54 0 (S 0 9) = K 54 0 (S 0 9) := rfl; rw [e1, e4]; omega)) (lw_V q823 q673 q674 q111 q675) (nA := 1) (by decide +kernel) rfl ⟨Nat.le_of_ble_eq_true rfl, Nat.le_of_ble_eq_true rfl⟩ (hdd := rfl) (hcc := rfl) (hq := rfl) (hi := hl_12) (rest := [.long (iL (S 0 10)), .long (iL 1000000)]) rfl (by simp [refV_cat, Value.category]) dX12_targetShare_19 (bc' := 0) (bs' := 0) (Nat.le_refl _) (Nat.le_refl _) (fun r_19 n_19 α_19 K_19 hx_19 hp_19 => ?_)
  obtain ⟨rfl, rfl, rfl, hr_19⟩ := hp_19
  have e_19 : K 54 0 (S 0 9) = r_19 := Eq.symm (by have e1 : K 24 0 1 = 0 := (hR.l24); have e4 : K 54 0 (S 0 9) = K 54 0 (S 0 9) := rfl; rw [hr_19.1, e1, e4])
  subst e_19
  refine y_to (st' := [refV α 14 (K 54 0 (S 0 9)), .long (iL (S 0 10)), .long (iL 1000000)]) rfl rfl rfl ?_
  have hl_19 : (0 : Int) ≤ K 54 0 (S 0 9) ∧ K 54 0 (S 0 9) < n 14 := hr_19.2
  refine y_ref hl_19.1 ?_
  refine y_castE hE rfl rfl hl_19 q824 rfl dX12_targetShare_22 ?_
  refine gX12_107 (z := (S 20 (17 * (S 0 9) + 2))) hE hl_19 (hR.t2 (i := S 0 9) (by omega)) dX12_targetShare_25 ?_
  refine y_i2l hE (by omega) dX12_targetShare_28 ?_
  refine y_callSN hE (m_X1_share 1000000 (S 0 10) (S 20 (17 * (S 0 9) + 2)) (by omega) (by omega)) q825 q826 q108 q827 (nA := 3) (by decide +kernel) rfl ⟨Nat.le_of_ble_eq_true rfl, Nat.le_of_ble_eq_true rfl⟩ (rest := []) rfl (by decide) dX12_targetShare_29 (bc' := 0) (bs' := 0) (Nat.le_refl _) (Nat.le_refl _) (fun r_29 n_29 α_29 K_29 hx_29 hp_29 => ?_)
  obtain ⟨rfl, rfl, rfl, hr_29⟩ := hp_29
  refine y_to (st' := [.int (iI r_29)]) rfl rfl rfl ?_
  exact y_iret hE rfl rfl hQ dX12_targetShare_32 Ext.rf ⟨rfl, rfl, rfl, by rw [hr_29]; rfl, by rw [hr_29]; exact hshi.1, by rw [hr_29]; exact hshi.2⟩
set_option maxHeartbeats 4000000 in
set_option maxRecDepth 100000 in
theorem m_X12_stepOf {w : KW} {n : KN} {α : KA} {K : KS} (S : SS) (mi sp ln : Int) (hR : Rst S n K) (hlm : 0 ≤ mi ∧ mi < n 12) (hsp : 1 ≤ sp ∧ sp ≤ 400) (hln : 1 ≤ ln ∧ ln ≤ 500) : KM w yX12_stepOf cX12_stepOf 5 (some (.long)) { frames := 0, cells := 0, slots := 0, locals := 0 } (1, 0) [.ref (α 12 mi), .long (iL sp), .long (iL ln)] n α K (fun r n' α' K' => n = n' ∧ α = α' ∧ K = K' ∧ (r = 1000000 * sp / (100 * ln))) := by
  refine y_start (by decide) (Nat.le_of_ble_eq_true rfl) (fun x hE hQ => ?_)
  have hw := hQ.2
  subst hw
  have hE : YE x cX12_stepOf RX12 (some (.long)) "stepOf" 5 { frames := 0, cells := 0, slots := 0, locals := 0 } := hE
  refine y_wk (fun hWK => ?_)
  have hn0 := hWK.1
  refine y_bud (bc' := 0) (bs' := 0) (Nat.le_refl _) (Nat.le_refl _) ?_
  refine y_to (lv' := [(0, .ref (α 12 mi)), (1, .long (iL sp)), (3, .long (iL ln))]) (st' := []) rfl rfl rfl ?_
  refine y_ldc2 hE 1000000 (v := 1000000) (by decide) q822 dX12_stepOf_0 ?_
  refine y_lload_n hE rfl 1 rfl dX12_stepOf_3 ?_
  refine y_lmul hE dX12_stepOf_4 ?_
  refine y_ldc2 hE 100 (v := 100) (by decide) q2427 dX12_stepOf_5 ?_
  refine y_lload_n hE rfl 2 rfl dX12_stepOf_8 ?_
  refine y_lmul hE dX12_stepOf_9 ?_
  refine y_ldiv hE (by omega) (by omega) dX12_stepOf_10 ?_
  exact y_lret hE rfl hQ dX12_stepOf_11 Ext.rf ⟨rfl, rfl, rfl, rfl⟩
set_option maxHeartbeats 4000000 in
set_option maxRecDepth 100000 in
theorem m_X12_mixed {w : KW} {n : KN} {α : KA} {K : KS} (S : SS) (mi sh a b : Int) (hR : Rst S n K) (hlm : 0 ≤ mi ∧ mi < n 12) (hsh : 0 ≤ sh ∧ sh ≤ 1000000) (ha : 1 ≤ a ∧ a ≤ 500) (hb : 1 ≤ b ∧ b ≤ 500) : KM w yX12_mixed cX12_mixed 4 (some (.long)) { frames := 0, cells := 0, slots := 0, locals := 0 } (1, 0) [.ref (α 12 mi), .int (iI sh), .int (iI a), .int (iI b)] n α K (fun r n' α' K' => n = n' ∧ α = α' ∧ K = K' ∧ (r = ((1000000 - sh) * a + sh * b) / 1000000)) := by
  refine y_start (by decide) (Nat.le_of_ble_eq_true rfl) (fun x hE hQ => ?_)
  have hw := hQ.2
  subst hw
  have hE : YE x cX12_mixed RX12 (some (.long)) "mixed" 4 { frames := 0, cells := 0, slots := 0, locals := 0 } := hE
  refine y_wk (fun hWK => ?_)
  have hn0 := hWK.1
  refine y_bud (bc' := 0) (bs' := 0) (Nat.le_refl _) (Nat.le_refl _) ?_
  refine y_to (lv' := [(0, .ref (α 12 mi)), (1, .int (iI sh)), (2, .int (iI a)), (3, .int (iI b))]) (st' := []) rfl rfl rfl ?_
  have hmi := mix_in (m := 500) hsh ha hb
  refine y_ldc hE 1000000 (v := 1000000) (by decide) q828 dX12_mixed_0 ?_
  refine y_iload_n hE rfl 1 rfl dX12_mixed_2 ?_
  refine y_isub hE dX12_mixed_3 ?_
  refine y_i2l hE (by omega) dX12_mixed_4 ?_
  refine y_iload_n hE rfl 2 rfl dX12_mixed_5 ?_
  refine y_i2l hE (by omega) dX12_mixed_6 ?_
  refine y_lmul hE dX12_mixed_7 ?_
  refine y_iload_n hE rfl 1 rfl dX12_mixed_8 ?_
  refine y_i2l hE (by omega) dX12_mixed_9 ?_
  refine y_iload_n hE rfl 3 rfl dX12_mixed_10 ?_
  refine y_i2l hE (by omega) dX12_mixed_11 ?_
  refine y_lmul hE dX12_mixed_12 ?_
  refine y_ladd hE dX12_mixed_13 ?_
  refine y_ldc2 hE 1000000 (v := 1000000) (by decide) q822 dX12_mixed_14 ?_
  refine y_ldiv hE (by omega) (by omega) dX12_mixed_17 ?_
  exact y_lret hE rfl hQ dX12_mixed_18 Ext.rf ⟨rfl, rfl, rfl, rfl⟩
