set_option linter.unusedVariables false
set_option maxHeartbeats 4000000 in
set_option maxRecDepth 100000 in
theorem m_X4_in {w : KW} {n : KN} {α : KA} {K : KS} (v lo hi : Int) (hv : -9223372036854775808 ≤ v ∧ v ≤ 9223372036854775807) (hlo : -9223372036854775808 ≤ lo ∧ lo ≤ 9223372036854775807) (hhi : -9223372036854775808 ≤ hi ∧ hi ≤ 9223372036854775807) : KM w yX4_in cX4_in 6 (some (.boolean)) { frames := 0, cells := 0, slots := 0, locals := 0 } (0, 0) [.long (iL v), .long (iL lo), .long (iL hi)] n α K (fun r n' α' K' => n = n' ∧ α = α' ∧ K = K' ∧ ((r = 1 ∧ (lo ≤ v ∧ v ≤ hi) ∨ r = 0 ∧ ¬ (lo ≤ v ∧ v ≤ hi)))) := by
  refine y_start (by decide) (Nat.le_of_ble_eq_true rfl) (fun x hE hQ => ?_)
  have hw := hQ.2
  subst hw
  have hE : YE x cX4_in RX4 (some (.boolean)) "in" 6 { frames := 0, cells := 0, slots := 0, locals := 0 } := hE
  refine y_wk (fun hWK => ?_)
  have hn0 := hWK.1
  refine y_bud (bc' := 0) (bs' := 0) (Nat.le_refl _) (Nat.le_refl _) ?_
  refine y_to (lv' := [(0, .long (iL v)), (2, .long (iL lo)), (4, .long (iL hi))]) (st' := []) rfl rfl rfl ?_
  refine y_lload_n hE rfl 0 rfl dX4_in_0 ?_
  refine y_lload_n hE rfl 1 rfl dX4_in_1 ?_
  refine y_lcmp_lt hE 17 (by decide) (by omega) (by omega) dX4_in_2 dX4_in_3 (fun c_2 => ?_) (fun c_2 => ?_)
  · refine y_iconst hE dX4_in_17 ?_
    exact y_iret hE rfl (nar_b (by omega)).1 hQ dX4_in_18 Ext.rf ⟨rfl, rfl, rfl, by omega⟩
  · refine y_lload_n hE rfl 0 rfl dX4_in_6 ?_
    refine y_lload hE 2 rfl dX4_in_7 ?_
    refine y_lcmp_gt hE 17 (by decide) (by omega) (by omega) dX4_in_9 dX4_in_10 (fun c_9 => ?_) (fun c_9 => ?_)
    · refine y_iconst hE dX4_in_17 ?_
      exact y_iret hE rfl (nar_b (by omega)).1 hQ dX4_in_18 Ext.rf ⟨rfl, rfl, rfl, by omega⟩
    · refine y_iconst hE dX4_in_13 ?_
      refine y_goto hE 18 (by decide) dX4_in_14 ?_
      exact y_iret hE rfl (nar_b (by omega)).1 hQ dX4_in_18 Ext.rf ⟨rfl, rfl, rfl, by omega⟩
set_option maxHeartbeats 4000000 in
set_option maxRecDepth 100000 in
theorem m_X4_fails {w : KW} {n : KN} {α : KA} {K : KS} (v : Int) (h40 : (0 : Int) ≤ 0 ∧ 0 < n 4) : KM w yX4_fails cX4_fails 2 (some (.int)) { frames := 0, cells := 0, slots := 0, locals := 0 } (0, 0) [.ref (α 4 0), .int (iI v)] n α K (fun r n' α' K' => n = n' ∧ α = α' ∧ (up3 K 4 0 25 v) = K' ∧ (r = 0)) := by
  refine y_start (by decide) (Nat.le_of_ble_eq_true rfl) (fun x hE hQ => ?_)
  have hw := hQ.2
  subst hw
  have hE : YE x cX4_fails RX4 (some (.int)) "fails" 2 { frames := 0, cells := 0, slots := 0, locals := 0 } := hE
  refine y_wk (fun hWK => ?_)
  have hn0 := hWK.1
  refine y_bud (bc' := 0) (bs' := 0) (Nat.le_refl _) (Nat.le_refl _) ?_
  refine y_to (lv' := [(0, .ref (α 4 0)), (1, .int (iI v))]) (st' := []) rfl rfl rfl ?_
  refine y_aload_n hE rfl 0 rfl dX4_fails_0 ?_
  refine y_iload_n hE rfl 1 rfl dX4_fails_1 ?_
  refine pX4_94 hE h40 dX4_fails_2 ?_
  refine y_iconst hE dX4_fails_5 ?_
  exact y_iret hE rfl rfl hQ dX4_fails_6 Ext.rf ⟨rfl, rfl, rfl, by omega⟩
set_option maxHeartbeats 4000000 in
set_option maxRecDepth 100000 in
theorem m_X4_isParameter {w : KW} {n : KN} {α : KA} {K : KS} (S : SS) (p : Int) (h40 : (0 : Int) ≤ 0 ∧ 0 < n 4) (hM : MRep S n K) (hp : -2147483648 ≤ p ∧ p ≤ 2147483647) (hc : 0 ≤ S 3 0 ∧ S 3 0 ≤ 8) : KM w yX4_isParameter cX4_isParameter 2 (some (.boolean)) { frames := 1, cells := 0, slots := 0, locals := 25 } (0, 0) [.ref (α 4 0), .int (iI p)] n α K (fun r n' α' K' => n = n' ∧ α = α' ∧ K = K' ∧ ((r = 1 ∧ (0 ≤ p ∧ p < S 3 0) ∨ r = 0 ∧ ¬ (0 ≤ p ∧ p < S 3 0)))) := by
  refine y_start (by decide) (Nat.le_of_ble_eq_true rfl) (fun x hE hQ => ?_)
  have hw := hQ.2
  subst hw
  have hE : YE x cX4_isParameter RX4 (some (.boolean)) "isParameter" 2 { frames := 1, cells := 0, slots := 0, locals := 25 } := hE
  refine y_wk (fun hWK => ?_)
  have hn0 := hWK.1
  refine y_bud (bc' := 0) (bs' := 0) (Nat.le_refl _) (Nat.le_refl _) ?_
  refine y_to (lv' := [(0, .ref (α 4 0)), (1, .int (iI p))]) (st' := []) rfl rfl rfl ?_
  refine y_iload_n hE rfl 1 rfl dX4_isParameter_0 ?_
  refine y_i2l hE (by omega) dX4_isParameter_1 ?_
  refine y_lconst hE 0 (by decide) dX4_isParameter_2 ?_
  refine y_aload_n hE rfl 0 rfl dX4_isParameter_3 ?_
  refine gX4_107 (z := S 3 0) hE h40 (hM.2.2.1) dX4_isParameter_4 ?_
  refine y_iconst hE dX4_isParameter_7 ?_
  refine y_isub hE dX4_isParameter_8 ?_
  refine y_i2l hE (by omega) dX4_isParameter_9 ?_
  refine y_callS hE (m_X4_in p 0 ((S 3 0) - 1) (by omega) (by omega) (by omega)) (lw_S q2868 q2869 q133 q2870) (nA := 3) (by decide +kernel) rfl ⟨Nat.le_of_ble_eq_true rfl, Nat.le_of_ble_eq_true rfl⟩ (rest := []) rfl (by decide) dX4_isParameter_10 (bc' := 0) (bs' := 0) (Nat.le_refl _) (Nat.le_refl _) (fun r_10 n_10 α_10 K_10 hx_10 hp_10 => ?_)
  obtain ⟨rfl, rfl, rfl, hr_10⟩ := hp_10
  refine y_to (st' := [.int (iI r_10)]) rfl rfl rfl ?_
  exact y_iret hE rfl (nar_b (by omega)).1 hQ dX4_isParameter_13 Ext.rf ⟨rfl, rfl, rfl, by omega⟩
/-- the operations: what is thrown (0: nothing), the answer, the new store -/
def oAddPar (S : SS) (k : Int) : Int × Int × SS := if ¬ (0 ≤ k ∧ k ≤ 2) then (1, 0, S) else if S 3 0 = 8 then (2, 0, S) else (0, S 3 0, up2 (up2 (up2 S 2 (S 3 0) k) 0 (S 3 0) 0) 3 0 (S 3 0 + 1))
def oSet (S : SS) (p v : Int) : Int × Int × SS := if ¬ (0 ≤ p ∧ p < S 3 0) then (1, 0, S) else if ¬ (S 2 p = 0 ∧ -100 ≤ v ∧ v ≤ 100 ∨ ¬ S 2 p = 0 ∧ 0 ≤ v ∧ v ≤ 1) then (2, 0, S) else (0, S 0 p, up2 S 0 p v)
def oValue (S : SS) (p : Int) : Int × Int × SS := if ¬ (0 ≤ p ∧ p < S 3 0) then (1, 0, S) else (0, S 0 p, S)
set_option maxHeartbeats 4000000 in
set_option maxRecDepth 100000 in
theorem m_X4_addParameter {w : KW} {n : KN} {α : KA} {K : KS} (S : SS) (k : Int) (h40 : (0 : Int) ≤ 0 ∧ 0 < n 4) (hM : MRep S n K) (hk : -2147483648 ≤ k ∧ k ≤ 2147483647) (hc : 0 ≤ S 3 0 ∧ S 3 0 ≤ 8) : KM w yX4_addParameter cX4_addParameter 2 (some (.int)) { frames := 1, cells := 0, slots := 0, locals := 25 } (0, 0) [.ref (α 4 0), .int (iI k)] n α K (fun r n' α' K' => n = n' ∧ α = α' ∧ (MRep (oAddPar S k).2.2 n K' ∧ KO K K' MK ∧ K' 4 0 25 = (oAddPar S k).1 ∧ r = (oAddPar S k).2.1)) := by
  refine y_start (by decide) (Nat.le_of_ble_eq_true rfl) (fun x hE hQ => ?_)
  have hw := hQ.2
  subst hw
  have hE : YE x cX4_addParameter RX4 (some (.int)) "addParameter" 2 { frames := 1, cells := 0, slots := 0, locals := 25 } := hE
  refine y_wk (fun hWK => ?_)
  have hn0 := hWK.1
  refine y_bud (bc' := 0) (bs' := 0) (Nat.le_refl _) (Nat.le_refl _) ?_
  refine y_to (lv' := [(0, .ref (α 4 0)), (1, .int (iI k))]) (st' := []) rfl rfl rfl ?_
  refine y_aload_n hE rfl 0 rfl dX4_addParameter_0 ?_
  refine y_iconst hE dX4_addParameter_1 ?_
  refine pX4_94 hE h40 dX4_addParameter_2 ?_
  refine y_iload_n hE rfl 1 rfl dX4_addParameter_5 ?_
  refine y_i2l hE (by omega) dX4_addParameter_6 ?_
  refine y_lconst hE 0 (by decide) dX4_addParameter_7 ?_
  refine y_ldc2 hE 2 (v := 2) (by decide) q2867 dX4_addParameter_8 ?_
  refine y_callS hE (m_X4_in k 0 2 (by omega) (by omega) (by omega)) (lw_S q2868 q2869 q133 q2870) (nA := 3) (by decide +kernel) rfl ⟨Nat.le_of_ble_eq_true rfl, Nat.le_of_ble_eq_true rfl⟩ (rest := []) rfl (by decide) dX4_addParameter_11 (bc' := 0) (bs' := 0) (Nat.le_refl _) (Nat.le_refl _) (fun r_11 n_11 α_11 K_11 hx_11 hp_11 => ?_)
  obtain ⟨rfl, rfl, rfl, hr_11⟩ := hp_11
  refine y_to (st' := [.int (iI r_11)]) rfl rfl rfl ?_
  refine y_if_ne hE 23 (by decide) (by omega) dX4_addParameter_14 (fun c_14 => ?_) (fun c_14 => ?_)
  · refine y_aload_n hE rfl 0 rfl dX4_addParameter_23 ?_
    refine gX4_107 (z := S 3 0) hE h40 (hM.2.2.1) dX4_addParameter_24 ?_
    refine y_bipush hE (by decide) dX4_addParameter_27 ?_
    refine y_icmp_ne hE 38 (by decide) (by omega) (by omega) dX4_addParameter_29 (fun c_29 => ?_) (fun c_29 => ?_)
    · refine y_aload_n hE rfl 0 rfl dX4_addParameter_38 ?_
      refine gX4_17r (z := 0) hE h40 (MObj.r hM.1 2 (by decide)) (by omega) dX4_addParameter_39 (fun hl_39 => ?_)
      refine y_aload_n hE rfl 0 rfl dX4_addParameter_42 ?_
      refine gX4_107 (z := S 3 0) hE h40 (hM.2.2.1) dX4_addParameter_43 ?_
      refine y_iload_n hE rfl 1 rfl dX4_addParameter_46 ?_
      refine y_iast hE (by unfold kC; decide) rfl (by simp [kTag]) hl_39 (by have hL : (up3 K 4 0 25 0) 102 0 (-1) = 8 := (MObj.l hM.1 2 (by decide)); omega) dX4_addParameter_47 ?_
      refine y_aload_n hE rfl 0 rfl dX4_addParameter_48 ?_
      refine gX4_7r (z := 0) hE h40 (MObj.r hM.1 0 (by decide)) (by omega) dX4_addParameter_49 (fun hl_49 => ?_)
      refine y_iconst hE dX4_addParameter_52 ?_
      refine y_aload_n hE rfl 0 rfl dX4_addParameter_53 ?_
      refine gX4_107 (z := S 3 0) hE h40 (hM.2.2.1) dX4_addParameter_54 ?_
      refine y_iadd hE dX4_addParameter_57 ?_
      refine y_to (st' := [.int (iI (S 3 0)), .ref (α 100 0)]) rfl rfl (by rw [Int.zero_add]) ?_
      refine y_iconst hE dX4_addParameter_58 ?_
      refine y_iast hE (by unfold kC; decide) rfl (by simp [kTag]) hl_49 (by have hL : (up3 (up3 K 4 0 25 0) 102 0 (S 3 0) k) 100 0 (-1) = 1160 := (MObj.l hM.1 0 (by decide)); omega) dX4_addParameter_59 ?_
      refine y_aload_n hE rfl 0 rfl dX4_addParameter_60 ?_
      refine y_dup hE rfl dX4_addParameter_61 ?_
      refine gX4_107 (z := S 3 0) hE h40 (hM.2.2.1) dX4_addParameter_62 ?_
      refine y_iconst hE dX4_addParameter_65 ?_
      refine y_iadd hE dX4_addParameter_66 ?_
      refine pX4_107 hE h40 dX4_addParameter_67 ?_
      refine y_aload_n hE rfl 0 rfl dX4_addParameter_70 ?_
      refine gX4_107 (z := (S 3 0) + 1) hE h40 (by simp [up3, upr]) dX4_addParameter_71 ?_
      refine y_iconst hE dX4_addParameter_74 ?_
      refine y_isub hE dX4_addParameter_75 ?_
      refine y_iret hE rfl rfl hQ dX4_addParameter_76 Ext.rf ?_
      refine ⟨rfl, rfl, ?_⟩
      unfold oAddPar
      rw [if_neg (by omega), if_neg (by omega)]
      exact ⟨(MRep.s (MRep.a (MRep.a (MRep.t hM 25 (by decide) 0) 2 rfl (j := S 3 0) (by omega) k) 0 rfl (j := S 3 0) (by omega) 0) 3 (by decide) ((S 3 0) + 1)), (KO.up (KO.up (KO.up (KO.up KO.rf (by unfold MK; decide)) (by unfold MK; decide)) (by unfold MK; decide)) (by unfold MK; decide)), by simp [up3], by first | rfl | (dsimp only; omega)⟩
    · refine y_aload_n hE rfl 0 rfl dX4_addParameter_32 ?_
      refine y_iconst hE dX4_addParameter_33 ?_
      refine y_callV hE (m_X4_fails 2 h40) (lw_V q2871 q2873 qs53 q133 q2874) (nA := 1) (by decide +kernel) rfl ⟨Nat.le_of_ble_eq_true rfl, Nat.le_of_ble_eq_true rfl⟩ (hdd := rfl) (hcc := rfl) (hq := rfl) (hi := h40) (rest := []) rfl (by decide) dX4_addParameter_34 (bc' := 0) (bs' := 0) (Nat.le_refl _) (Nat.le_refl _) (fun r_34 n_34 α_34 K_34 hx_34 hp_34 => ?_)
      obtain ⟨rfl, rfl, rfl, hr_34⟩ := hp_34
      refine y_to (st' := [.int (iI r_34)]) rfl rfl rfl ?_
      refine y_iret hE rfl rfl hQ dX4_addParameter_37 Ext.rf ?_
      refine ⟨rfl, rfl, ?_⟩
      unfold oAddPar
      rw [if_neg (by omega), if_pos (by omega)]
      exact ⟨(MRep.t (MRep.t hM 25 (by decide) 0) 25 (by decide) 2), (KO.up (KO.up KO.rf (by unfold MK; decide)) (by unfold MK; decide)), by simp [up3], by first | rfl | (dsimp only; omega)⟩
  · refine y_aload_n hE rfl 0 rfl dX4_addParameter_17 ?_
    refine y_iconst hE dX4_addParameter_18 ?_
    refine y_callV hE (m_X4_fails 1 h40) (lw_V q2871 q2873 qs53 q133 q2874) (nA := 1) (by decide +kernel) rfl ⟨Nat.le_of_ble_eq_true rfl, Nat.le_of_ble_eq_true rfl⟩ (hdd := rfl) (hcc := rfl) (hq := rfl) (hi := h40) (rest := []) rfl (by decide) dX4_addParameter_19 (bc' := 0) (bs' := 0) (Nat.le_refl _) (Nat.le_refl _) (fun r_19 n_19 α_19 K_19 hx_19 hp_19 => ?_)
    obtain ⟨rfl, rfl, rfl, hr_19⟩ := hp_19
    refine y_to (st' := [.int (iI r_19)]) rfl rfl rfl ?_
    refine y_iret hE rfl rfl hQ dX4_addParameter_22 Ext.rf ?_
    refine ⟨rfl, rfl, ?_⟩
    unfold oAddPar
    rw [if_pos (by omega)]
    exact ⟨(MRep.t (MRep.t hM 25 (by decide) 0) 25 (by decide) 1), (KO.up (KO.up KO.rf (by unfold MK; decide)) (by unfold MK; decide)), by simp [up3], by first | rfl | (dsimp only; omega)⟩
set_option maxHeartbeats 4000000 in
set_option maxRecDepth 100000 in
theorem m_X4_set {w : KW} {n : KN} {α : KA} {K : KS} (S : SS) (p v : Int) (h40 : (0 : Int) ≤ 0 ∧ 0 < n 4) (hM : MRep S n K) (hp : -2147483648 ≤ p ∧ p ≤ 2147483647) (hv : -2147483648 ≤ v ∧ v ≤ 2147483647) (hc : 0 ≤ S 3 0 ∧ S 3 0 ≤ 8) (hkd : ∀ p, 0 ≤ p → p < 8 → 0 ≤ S 2 p ∧ S 2 p ≤ 2) (hvl : ∀ p, 0 ≤ p → p < 8 → -100 ≤ S 0 p ∧ S 0 p ≤ 100) : KM w yX4_set cX4_set 5 (some (.int)) { frames := 2, cells := 0, slots := 0, locals := 46 } (0, 0) [.ref (α 4 0), .int (iI p), .int (iI v)] n α K (fun r n' α' K' => n = n' ∧ α = α' ∧ (MRep (oSet S p v).2.2 n K' ∧ KO K K' MK ∧ K' 4 0 25 = (oSet S p v).1 ∧ r = (oSet S p v).2.1)) := by
  refine y_start (by decide) (Nat.le_of_ble_eq_true rfl) (fun x hE hQ => ?_)
  have hw := hQ.2
  subst hw
  have hE : YE x cX4_set RX4 (some (.int)) "set" 5 { frames := 2, cells := 0, slots := 0, locals := 46 } := hE
  refine y_wk (fun hWK => ?_)
  have hn0 := hWK.1
  refine y_bud (bc' := 0) (bs' := 0) (Nat.le_refl _) (Nat.le_refl _) ?_
  refine y_to (lv' := [(0, .ref (α 4 0)), (1, .int (iI p)), (2, .int (iI v))]) (st' := []) rfl rfl rfl ?_
  refine y_aload_n hE rfl 0 rfl dX4_set_0 ?_
  refine y_iconst hE dX4_set_1 ?_
  refine pX4_94 hE h40 dX4_set_2 ?_
  refine y_aload_n hE rfl 0 rfl dX4_set_5 ?_
  refine y_iload_n hE rfl 1 rfl dX4_set_6 ?_
  refine y_callV hE (m_X4_isParameter S p h40 (MRep.t hM 25 (by decide) 0) (by omega) hc) (lw_V q2879 q2881 qs54 q133 q2882) (nA := 1) (by decide +kernel) rfl ⟨Nat.le_of_ble_eq_true rfl, Nat.le_of_ble_eq_true rfl⟩ (hdd := rfl) (hcc := rfl) (hq := rfl) (hi := h40) (rest := []) rfl (by decide) dX4_set_7 (bc' := 0) (bs' := 0) (Nat.le_refl _) (Nat.le_refl _) (fun r_7 n_7 α_7 K_7 hx_7 hp_7 => ?_)
  obtain ⟨rfl, rfl, rfl, hr_7⟩ := hp_7
  refine y_to (st' := [.int (iI r_7)]) rfl rfl rfl ?_
  refine y_if_ne hE 19 (by decide) (by omega) dX4_set_10 (fun c_10 => ?_) (fun c_10 => ?_)
  · refine y_aload_n hE rfl 0 rfl dX4_set_19 ?_
    have hkp := hkd p (by omega) (by omega)
    refine gX4_17r (z := 0) hE h40 (MObj.r hM.1 2 (by decide)) (by omega) dX4_set_20 (fun hl_20 => ?_)
    refine y_iload_n hE rfl 1 rfl dX4_set_23 ?_
    refine y_iald hE rfl hl_20 (by have hL : (up3 K 4 0 25 0) 102 0 (-1) = 8 := (MObj.l hM.1 2 (by decide)); omega) dX4_set_24 ?_
    refine y_to (st' := [.int (iI (S 2 p))]) rfl rfl (by rw [show (up3 K 4 0 25 0) 102 0 p = S 2 p from (MRep.ra hM 2 rfl (by omega) (by first | omega | (show _ < (8 : Int); omega)))]) ?_
    have J49 : ∀ (b : Int), (b = 1 ∧ (S 2 p = 0 ∧ -100 ≤ v ∧ v ≤ 100 ∨ ¬ S 2 p = 0 ∧ 0 ≤ v ∧ v ≤ 1) ∨ b = 0 ∧ ¬ (S 2 p = 0 ∧ -100 ≤ v ∧ v ≤ 100 ∨ ¬ S 2 p = 0 ∧ 0 ≤ v ∧ v ≤ 1)) → Y x n α (up3 K 4 0 25 0) 0 0 49 [(0, .ref (α 4 0)), (1, .int (iI p)), (2, .int (iI v))] [.int (iI b)] := by
      intro b hb
      refine y_istore_n hE rfl [(3, .int (iI b)), (0, .ref (α 4 0)), (1, .int (iI p)), (2, .int (iI v))] (by decide) rfl dX4_set_49 ?_
      refine y_iload_n hE rfl 0 rfl dX4_set_50 ?_
      refine y_if_ne hE 60 (by decide) (by omega) dX4_set_51 (fun c_51 => ?_) (fun c_51 => ?_)
      · refine y_aload_n hE rfl 1 rfl dX4_set_60 ?_
        refine gX4_7r (z := 0) hE h40 (MObj.r hM.1 0 (by decide)) (by omega) dX4_set_61 (fun hl_61 => ?_)
        refine y_iconst hE dX4_set_64 ?_
        refine y_iload_n hE rfl 2 rfl dX4_set_65 ?_
        refine y_iadd hE dX4_set_66 ?_
        refine y_to (st' := [.int (iI p), .ref (α 100 0)]) rfl rfl (by rw [Int.zero_add]) ?_
        refine y_iald hE rfl hl_61 (by have hL : (up3 K 4 0 25 0) 100 0 (-1) = 1160 := (MObj.l hM.1 0 (by decide)); omega) dX4_set_67 ?_
        refine y_to (st' := [.int (iI (S 0 p))]) rfl rfl (by rw [show (up3 K 4 0 25 0) 100 0 p = S 0 p from (MRep.ra hM 0 rfl (by omega) (by first | omega | (show _ < (1160 : Int); omega)))]) ?_
        refine y_istore hE [(4, .int (iI (S 0 p))), (3, .int (iI b)), (0, .ref (α 4 0)), (1, .int (iI p)), (2, .int (iI v))] (by decide) rfl dX4_set_68 ?_
        refine y_aload_n hE rfl 2 rfl dX4_set_70 ?_
        refine gX4_7r (z := 0) hE h40 (MObj.r hM.1 0 (by decide)) (by omega) dX4_set_71 (fun hl_71 => ?_)
        refine y_iconst hE dX4_set_74 ?_
        refine y_iload_n hE rfl 3 rfl dX4_set_75 ?_
        refine y_iadd hE dX4_set_76 ?_
        refine y_to (st' := [.int (iI p), .ref (α 100 0)]) rfl rfl (by rw [Int.zero_add]) ?_
        refine y_iload_n hE rfl 4 rfl dX4_set_77 ?_
        refine y_iast hE (by unfold kC; decide) rfl (by simp [kTag]) hl_71 (by have hL : (up3 K 4 0 25 0) 100 0 (-1) = 1160 := (MObj.l hM.1 0 (by decide)); omega) dX4_set_78 ?_
        refine y_iload hE 0 rfl dX4_set_79 ?_
        refine y_iret hE rfl rfl hQ dX4_set_81 Ext.rf ?_
        refine ⟨rfl, rfl, ?_⟩
        unfold oSet
        rw [if_neg (by omega), if_neg (by omega)]
        exact ⟨(MRep.a (MRep.t hM 25 (by decide) 0) 0 rfl (j := p) (by omega) v), (KO.up (KO.up KO.rf (by unfold MK; decide)) (by unfold MK; decide)), by simp [up3], by first | rfl | (dsimp only; omega)⟩
      · refine y_aload_n hE rfl 1 rfl dX4_set_54 ?_
        refine y_iconst hE dX4_set_55 ?_
        refine y_callV hE (m_X4_fails 2 h40) (lw_V q2871 q2873 qs53 q133 q2874) (nA := 1) (by decide +kernel) rfl ⟨Nat.le_of_ble_eq_true rfl, Nat.le_of_ble_eq_true rfl⟩ (hdd := rfl) (hcc := rfl) (hq := rfl) (hi := h40) (rest := []) rfl (by decide) dX4_set_56 (bc' := 0) (bs' := 0) (Nat.le_refl _) (Nat.le_refl _) (fun r_56 n_56 α_56 K_56 hx_56 hp_56 => ?_)
        obtain ⟨rfl, rfl, rfl, hr_56⟩ := hp_56
        refine y_to (st' := [.int (iI r_56)]) rfl rfl rfl ?_
        refine y_iret hE rfl rfl hQ dX4_set_59 Ext.rf ?_
        refine ⟨rfl, rfl, ?_⟩
        unfold oSet
        rw [if_neg (by omega), if_pos (by omega)]
        exact ⟨(MRep.t (MRep.t hM 25 (by decide) 0) 25 (by decide) 2), (KO.up (KO.up KO.rf (by unfold MK; decide)) (by unfold MK; decide)), by simp [up3], by first | rfl | (dsimp only; omega)⟩
    refine y_if_ne hE 42 (by decide) (by omega) dX4_set_25 (fun c_25 => ?_) (fun c_25 => ?_)
    · refine y_iload_n hE rfl 2 rfl dX4_set_42 ?_
      refine y_i2l hE (by omega) dX4_set_43 ?_
      refine y_lconst hE 0 (by decide) dX4_set_44 ?_
      refine y_lconst hE 1 (by decide) dX4_set_45 ?_
      refine y_callS hE (m_X4_in v 0 1 (by omega) (by omega) (by omega)) (lw_S q2868 q2869 q133 q2870) (nA := 3) (by decide +kernel) rfl ⟨Nat.le_of_ble_eq_true rfl, Nat.le_of_ble_eq_true rfl⟩ (rest := []) rfl (by decide) dX4_set_46 (bc' := 0) (bs' := 0) (Nat.le_refl _) (Nat.le_refl _) (fun r_46 n_46 α_46 K_46 hx_46 hp_46 => ?_)
      obtain ⟨rfl, rfl, rfl, hr_46⟩ := hp_46
      refine y_to (st' := [.int (iI r_46)]) rfl rfl rfl ?_
      exact J49 r_46 (by omega)
    · refine y_iload_n hE rfl 2 rfl dX4_set_28 ?_
      refine y_i2l hE (by omega) dX4_set_29 ?_
      refine y_ldc2 hE (-100) (v := -100) (by decide) q2883 dX4_set_30 ?_
      refine y_ldc2 hE 100 (v := 100) (by decide) q2884 dX4_set_33 ?_
      refine y_callS hE (m_X4_in v (-100) 100 (by omega) (by omega) (by omega)) (lw_S q2868 q2869 q133 q2870) (nA := 3) (by decide +kernel) rfl ⟨Nat.le_of_ble_eq_true rfl, Nat.le_of_ble_eq_true rfl⟩ (rest := []) rfl (by decide) dX4_set_36 (bc' := 0) (bs' := 0) (Nat.le_refl _) (Nat.le_refl _) (fun r_36 n_36 α_36 K_36 hx_36 hp_36 => ?_)
      obtain ⟨rfl, rfl, rfl, hr_36⟩ := hp_36
      refine y_to (st' := [.int (iI r_36)]) rfl rfl rfl ?_
      refine y_goto hE 49 (by decide) dX4_set_39 ?_
      exact J49 r_36 (by omega)
  · refine y_aload_n hE rfl 0 rfl dX4_set_13 ?_
    refine y_iconst hE dX4_set_14 ?_
    refine y_callV hE (m_X4_fails 1 h40) (lw_V q2871 q2873 qs53 q133 q2874) (nA := 1) (by decide +kernel) rfl ⟨Nat.le_of_ble_eq_true rfl, Nat.le_of_ble_eq_true rfl⟩ (hdd := rfl) (hcc := rfl) (hq := rfl) (hi := h40) (rest := []) rfl (by decide) dX4_set_15 (bc' := 0) (bs' := 0) (Nat.le_refl _) (Nat.le_refl _) (fun r_15 n_15 α_15 K_15 hx_15 hp_15 => ?_)
    obtain ⟨rfl, rfl, rfl, hr_15⟩ := hp_15
    refine y_to (st' := [.int (iI r_15)]) rfl rfl rfl ?_
    refine y_iret hE rfl rfl hQ dX4_set_18 Ext.rf ?_
    refine ⟨rfl, rfl, ?_⟩
    unfold oSet
    rw [if_pos (by omega)]
    exact ⟨(MRep.t (MRep.t hM 25 (by decide) 0) 25 (by decide) 1), (KO.up (KO.up KO.rf (by unfold MK; decide)) (by unfold MK; decide)), by simp [up3], by first | rfl | (dsimp only; omega)⟩
set_option maxHeartbeats 4000000 in
set_option maxRecDepth 100000 in
theorem m_X4_value {w : KW} {n : KN} {α : KA} {K : KS} (S : SS) (p : Int) (h40 : (0 : Int) ≤ 0 ∧ 0 < n 4) (hM : MRep S n K) (hp : -2147483648 ≤ p ∧ p ≤ 2147483647) (hc : 0 ≤ S 3 0 ∧ S 3 0 ≤ 8) : KM w yX4_value cX4_value 2 (some (.int)) { frames := 2, cells := 0, slots := 0, locals := 46 } (0, 0) [.ref (α 4 0), .int (iI p)] n α K (fun r n' α' K' => n = n' ∧ α = α' ∧ (MRep (oValue S p).2.2 n K' ∧ KO K K' MK ∧ K' 4 0 25 = (oValue S p).1 ∧ r = (oValue S p).2.1)) := by
  refine y_start (by decide) (Nat.le_of_ble_eq_true rfl) (fun x hE hQ => ?_)
  have hw := hQ.2
  subst hw
  have hE : YE x cX4_value RX4 (some (.int)) "value" 2 { frames := 2, cells := 0, slots := 0, locals := 46 } := hE
  refine y_wk (fun hWK => ?_)
  have hn0 := hWK.1
  refine y_bud (bc' := 0) (bs' := 0) (Nat.le_refl _) (Nat.le_refl _) ?_
  refine y_to (lv' := [(0, .ref (α 4 0)), (1, .int (iI p))]) (st' := []) rfl rfl rfl ?_
  refine y_aload_n hE rfl 0 rfl dX4_value_0 ?_
  refine y_iconst hE dX4_value_1 ?_
  refine pX4_94 hE h40 dX4_value_2 ?_
  refine y_aload_n hE rfl 0 rfl dX4_value_5 ?_
  refine y_iload_n hE rfl 1 rfl dX4_value_6 ?_
  refine y_callV hE (m_X4_isParameter S p h40 (MRep.t hM 25 (by decide) 0) (by omega) hc) (lw_V q2879 q2881 qs54 q133 q2882) (nA := 1) (by decide +kernel) rfl ⟨Nat.le_of_ble_eq_true rfl, Nat.le_of_ble_eq_true rfl⟩ (hdd := rfl) (hcc := rfl) (hq := rfl) (hi := h40) (rest := []) rfl (by decide) dX4_value_7 (bc' := 0) (bs' := 0) (Nat.le_refl _) (Nat.le_refl _) (fun r_7 n_7 α_7 K_7 hx_7 hp_7 => ?_)
  obtain ⟨rfl, rfl, rfl, hr_7⟩ := hp_7
  refine y_to (st' := [.int (iI r_7)]) rfl rfl rfl ?_
  refine y_if_eq hE 24 (by decide) (by omega) dX4_value_10 (fun c_10 => ?_) (fun c_10 => ?_)
  · refine y_aload_n hE rfl 0 rfl dX4_value_24 ?_
    refine y_iconst hE dX4_value_25 ?_
    refine y_callV hE (m_X4_fails 1 h40) (lw_V q2871 q2873 qs53 q133 q2874) (nA := 1) (by decide +kernel) rfl ⟨Nat.le_of_ble_eq_true rfl, Nat.le_of_ble_eq_true rfl⟩ (hdd := rfl) (hcc := rfl) (hq := rfl) (hi := h40) (rest := []) rfl (by decide) dX4_value_26 (bc' := 0) (bs' := 0) (Nat.le_refl _) (Nat.le_refl _) (fun r_26 n_26 α_26 K_26 hx_26 hp_26 => ?_)
    obtain ⟨rfl, rfl, rfl, hr_26⟩ := hp_26
    refine y_to (st' := [.int (iI r_26)]) rfl rfl rfl ?_
    refine y_iret hE rfl rfl hQ dX4_value_29 Ext.rf ?_
    refine ⟨rfl, rfl, ?_⟩
    unfold oValue
    first | rw [if_pos (by omega)] | rw [if_neg (by omega)]
    exact ⟨(MRep.t (MRep.t hM 25 (by decide) 0) 25 (by decide) 1), (KO.up (KO.up KO.rf (by unfold MK; decide)) (by unfold MK; decide)), by simp [up3], by first | rfl | (dsimp only; omega)⟩
  · refine y_aload_n hE rfl 0 rfl dX4_value_13 ?_
    refine gX4_7r (z := 0) hE h40 (MObj.r hM.1 0 (by decide)) (by omega) dX4_value_14 (fun hl_14 => ?_)
    refine y_iconst hE dX4_value_17 ?_
    refine y_iload_n hE rfl 1 rfl dX4_value_18 ?_
    refine y_iadd hE dX4_value_19 ?_
    refine y_to (st' := [.int (iI p), .ref (α 100 0)]) rfl rfl (by rw [Int.zero_add]) ?_
    refine y_iald hE rfl hl_14 (by have hL : (up3 K 4 0 25 0) 100 0 (-1) = 1160 := (MObj.l hM.1 0 (by decide)); omega) dX4_value_20 ?_
    refine y_to (st' := [.int (iI (S 0 p))]) rfl rfl (by rw [show (up3 K 4 0 25 0) 100 0 p = S 0 p from (MRep.ra hM 0 rfl (by omega) (by first | omega | (show _ < (1160 : Int); omega)))]) ?_
    refine y_goto hE 29 (by decide) dX4_value_21 ?_
    refine y_iret hE rfl rfl hQ dX4_value_29 Ext.rf ?_
    refine ⟨rfl, rfl, ?_⟩
    unfold oValue
    first | rw [if_pos (by omega)] | rw [if_neg (by omega)]
    exact ⟨(MRep.t hM 25 (by decide) 0), (KO.up KO.rf (by unfold MK; decide)), by simp [up3], by first | rfl | (dsimp only; omega)⟩
