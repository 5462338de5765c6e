set_option linter.unusedVariables false
/-- 1: the line is full, or one of its first k children stands at pos -/
def tkn (S : SS) (ln pos : Int) : Nat → Int
  | 0 => if S 11 ln = 5 then 1 else 0
  | k + 1 => if tkn S ln pos k = 1 then 1 else if S 13 (5 * ln + k) = pos then 1 else 0
theorem tkn_s {S : SS} {ln pos k : Int} (h : 0 ≤ k) : tkn S ln pos (k + 1).toNat = if tkn S ln pos k.toNat = 1 then 1 else if S 13 (5 * ln + k) = pos then 1 else 0 := by
  rw [show (k + 1).toNat = k.toNat + 1 by omega, tkn, show ((k.toNat : Nat) : Int) = k by omega]
theorem tkn_01 (S : SS) (ln pos : Int) : ∀ k : Nat, tkn S ln pos k = 0 ∨ tkn S ln pos k = 1
  | 0 => by unfold tkn; split <;> simp
  | k + 1 => by unfold tkn; split; simp; split <;> simp
theorem tkn_5 {S : SS} {ln pos : Int} : ∀ {k : Nat}, tkn S ln pos k ≠ 1 → S 11 ln ≠ 5
  | 0, h => by unfold tkn at h; intro e; rw [if_pos e] at h; exact h rfl
  | k + 1, h => by
    unfold tkn at h
    by_cases e : tkn S ln pos k = 1
    · rw [if_pos e] at h; exact absurd rfl h
    · exact tkn_5 e
def oAddChild (S : SS) (ln nd pos : Int) : Int × Int × SS := if ¬ (0 ≤ ln ∧ ln < S 14 0 ∧ 0 ≤ nd ∧ nd < S 14 0) then (1, 0, S) else if ¬ (S 9 ln = -1 ∧ nd < ln ∧ -100 ≤ pos ∧ pos ≤ 100) then (2, 0, S) else
  if tkn S ln pos (S 11 ln).toNat = 1 ∨ ¬ (S 9 nd ≠ -1 ∨ 0 < S 11 nd) ∨ dmx S ln nd (S 14 0).toNat > 4 then (3, 0, S) else
  (0, S 11 ln + 1, up2 (up2 (up2 S 12 (5 * ln + S 11 ln) nd) 13 (5 * ln + S 11 ln) pos) 11 ln (S 11 ln + 1))
set_option maxHeartbeats 4000000 in
set_option maxRecDepth 100000 in
theorem m_X4_addChild {w : KW} {n : KN} {α : KA} {K : KS} (S : SS) (ln nd pos : Int) (h40 : (0 : Int) ≤ 0 ∧ 0 < n 4) (hM : MRep S n K) (hW : WFs S) (hl : -2147483648 ≤ ln ∧ ln ≤ 2147483647) (hn : -2147483648 ≤ nd ∧ nd ≤ 2147483647) (hp : -2147483648 ≤ pos ∧ pos ≤ 2147483647) : KM w yX4_addChild cX4_addChild 6 (some (.int)) { frames := 2, cells := 0, slots := 0, locals := 46 } (0, 0) [.ref (α 4 0), .int (iI ln), .int (iI nd), .int (iI pos)] n α K (fun r n' α' K' => n = n' ∧ α = α' ∧ (MRep (oAddChild S ln nd pos).2.2 n K' ∧ KO K K' MK ∧ K' 4 0 25 = (oAddChild S ln nd pos).1 ∧ r = (oAddChild S ln nd pos).2.1)) := by
  refine y_start (by decide) (Nat.le_of_ble_eq_true rfl) (fun x hE hQ => ?_)
  have hw := hQ.2
  subst hw
  have hE : YE x cX4_addChild RX4 (some (.int)) "addChild" 6 { frames := 2, cells := 0, slots := 0, locals := 46 } := hE
  refine y_wk (fun hWK => ?_)
  have hn0 := hWK.1
  refine y_bud (bc' := 0) (bs' := 0) (Nat.le_refl _) (Nat.le_refl _) ?_
  refine y_to (lv' := [(0, .ref (α 4 0)), (1, .int (iI ln)), (2, .int (iI nd)), (3, .int (iI pos))]) (st' := []) rfl rfl rfl ?_
  have wpar := hW.par
  have wclips := hW.clips
  have wnodes := hW.nodes
  have wsts := hW.sts
  have wtrs := hW.trs
  have wthr := hW.thr
  have wtxt := hW.txt
  refine y_aload_n hE rfl 0 rfl dX4_addChild_0 ?_
  refine y_iconst hE dX4_addChild_1 ?_
  refine pX4_94 hE h40 dX4_addChild_2 ?_
  refine y_aload_n hE rfl 0 rfl dX4_addChild_5 ?_
  refine y_iload_n hE rfl 1 rfl dX4_addChild_6 ?_
  refine y_callV hE (m_X4_isNode S ln h40 (MRep.t hM 25 (by decide) 0) (by omega) (by omega)) (lw_V q2915 q2917 qs56 q133 q2918) (nA := 1) (by decide +kernel) rfl ⟨Nat.le_of_ble_eq_true rfl, Nat.le_of_ble_eq_true rfl⟩ (hdd := rfl) (hcc := rfl) (hq := rfl) (hi := h40) (rest := []) rfl (by decide) dX4_addChild_7 (bc' := 0) (bs' := 0) (Nat.le_refl _) (Nat.le_refl _) (fun r_7 n_7 α_7 K_7 hx_7 hp_7 => ?_)
  obtain ⟨rfl, rfl, rfl, hr_7⟩ := hp_7
  refine y_to (st' := [.int (iI r_7)]) rfl rfl rfl ?_
  refine y_if_eq hE 21 (by decide) (by omega) dX4_addChild_10 (fun c_10 => ?_) (fun c_10 => ?_)
  · refine y_aload_n hE rfl 0 rfl dX4_addChild_21 ?_
    refine y_iconst hE dX4_addChild_22 ?_
    refine y_callV hE (m_X4_fails 1 h40) (lw_V q2871 q2873 qs53 q133 q2874) (nA := 1) (by decide +kernel) rfl ⟨Nat.le_of_ble_eq_true rfl, Nat.le_of_ble_eq_true rfl⟩ (hdd := rfl) (hcc := rfl) (hq := rfl) (hi := h40) (rest := []) rfl (by decide) dX4_addChild_23 (bc' := 0) (bs' := 0) (Nat.le_refl _) (Nat.le_refl _) (fun r_23 n_23 α_23 K_23 hx_23 hp_23 => ?_)
    obtain ⟨rfl, rfl, rfl, hr_23⟩ := hp_23
    refine y_to (st' := [.int (iI r_23)]) rfl rfl rfl ?_
    refine y_iret hE rfl rfl hQ dX4_addChild_26 Ext.rf ?_
    refine ⟨rfl, rfl, ?_⟩
    unfold oAddChild
    (repeat (first | rw [if_pos (by omega)] | rw [if_neg (by omega)]))
    exact ⟨(MRep.t (MRep.t hM 25 (by decide) 0) 25 (by decide) 1), (KO.up (KO.up KO.rf (by unfold MK; decide)) (by unfold MK; decide)), by simp [up3], by first | rfl | (dsimp only; omega)⟩
  · refine y_aload_n hE rfl 0 rfl dX4_addChild_13 ?_
    refine y_iload_n hE rfl 2 rfl dX4_addChild_14 ?_
    refine y_callV hE (m_X4_isNode S nd h40 (MRep.t hM 25 (by decide) 0) (by omega) (by omega)) (lw_V q2915 q2917 qs56 q133 q2918) (nA := 1) (by decide +kernel) rfl ⟨Nat.le_of_ble_eq_true rfl, Nat.le_of_ble_eq_true rfl⟩ (hdd := rfl) (hcc := rfl) (hq := rfl) (hi := h40) (rest := []) rfl (by decide) dX4_addChild_15 (bc' := 0) (bs' := 0) (Nat.le_refl _) (Nat.le_refl _) (fun r_15 n_15 α_15 K_15 hx_15 hp_15 => ?_)
    obtain ⟨rfl, rfl, rfl, hr_15⟩ := hp_15
    refine y_to (st' := [.int (iI r_15)]) rfl rfl rfl ?_
    refine y_if_ne hE 27 (by decide) (by omega) dX4_addChild_18 (fun c_18 => ?_) (fun c_18 => ?_)
    · have wn := hW.nod ln (by omega) (by omega)
      have wm := hW.nod nd (by omega) (by omega)
      refine y_aload_n hE rfl 0 rfl dX4_addChild_27 ?_
      refine gX4_32r (z := 0) hE h40 (MObj.r hM.1 9 (by decide)) (by omega) dX4_addChild_28 (fun hl_28 => ?_)
      refine y_iload_n hE rfl 1 rfl dX4_addChild_31 ?_
      refine y_iald hE rfl hl_28 (by have hL : (up3 K 4 0 25 0) 109 0 (-1) = 20 := (MObj.l hM.1 9 (by decide)); omega) dX4_addChild_32 ?_
      refine y_to (st' := [.int (iI (S 9 ln))]) rfl rfl (by rw [show (up3 K 4 0 25 0) 109 0 ln = S 9 ln from (MRep.ra hM 9 rfl (by omega) (by first | omega | (show _ < (20 : Int); omega)))]) ?_
      refine y_iconst hE dX4_addChild_33 ?_
      refine y_icmp_ne hE 56 (by decide) (by omega) (by omega) dX4_addChild_34 (fun c_34 => ?_) (fun c_34 => ?_)
      · refine y_aload_n hE rfl 0 rfl dX4_addChild_56 ?_
        refine y_iconst hE dX4_addChild_57 ?_
        refine y_callV hE (m_X4_fails 2 h40) (lw_V q2871 q2873 qs53 q133 q2874) (nA := 1) (by decide +kernel) rfl ⟨Nat.le_of_ble_eq_true rfl, Nat.le_of_ble_eq_true rfl⟩ (hdd := rfl) (hcc := rfl) (hq := rfl) (hi := h40) (rest := []) rfl (by decide) dX4_addChild_58 (bc' := 0) (bs' := 0) (Nat.le_refl _) (Nat.le_refl _) (fun r_58 n_58 α_58 K_58 hx_58 hp_58 => ?_)
        obtain ⟨rfl, rfl, rfl, hr_58⟩ := hp_58
        refine y_to (st' := [.int (iI r_58)]) rfl rfl rfl ?_
        refine y_iret hE rfl rfl hQ dX4_addChild_61 Ext.rf ?_
        refine ⟨rfl, rfl, ?_⟩
        unfold oAddChild
        (repeat (first | rw [if_pos (by omega)] | rw [if_neg (by omega)]))
        exact ⟨(MRep.t (MRep.t hM 25 (by decide) 0) 25 (by decide) 2), (KO.up (KO.up KO.rf (by unfold MK; decide)) (by unfold MK; decide)), by simp [up3], by first | rfl | (dsimp only; omega)⟩
      · refine y_iload_n hE rfl 2 rfl dX4_addChild_37 ?_
        refine y_iload_n hE rfl 1 rfl dX4_addChild_38 ?_
        refine y_icmp_ge hE 56 (by decide) (by omega) (by omega) dX4_addChild_39 (fun c_39 => ?_) (fun c_39 => ?_)
        · refine y_aload_n hE rfl 0 rfl dX4_addChild_56 ?_
          refine y_iconst hE dX4_addChild_57 ?_
          refine y_callV hE (m_X4_fails 2 h40) (lw_V q2871 q2873 qs53 q133 q2874) (nA := 1) (by decide +kernel) rfl ⟨Nat.le_of_ble_eq_true rfl, Nat.le_of_ble_eq_true rfl⟩ (hdd := rfl) (hcc := rfl) (hq := rfl) (hi := h40) (rest := []) rfl (by decide) dX4_addChild_58 (bc' := 0) (bs' := 0) (Nat.le_refl _) (Nat.le_refl _) (fun r_58_2 n_58_2 α_58_2 K_58_2 hx_58_2 hp_58_2 => ?_)
          obtain ⟨rfl, rfl, rfl, hr_58_2⟩ := hp_58_2
          refine y_to (st' := [.int (iI r_58_2)]) rfl rfl rfl ?_
          refine y_iret hE rfl rfl hQ dX4_addChild_61 Ext.rf ?_
          refine ⟨rfl, rfl, ?_⟩
          unfold oAddChild
          (repeat (first | rw [if_pos (by omega)] | rw [if_neg (by omega)]))
          exact ⟨(MRep.t (MRep.t hM 25 (by decide) 0) 25 (by decide) 2), (KO.up (KO.up KO.rf (by unfold MK; decide)) (by unfold MK; decide)), by simp [up3], by first | rfl | (dsimp only; omega)⟩
        · refine y_iload_n hE rfl 3 rfl dX4_addChild_42 ?_
          refine y_i2l hE (by omega) dX4_addChild_43 ?_
          refine y_ldc2 hE (-100) (v := -100) (by decide) q2883 dX4_addChild_44 ?_
          refine y_ldc2 hE 100 (v := 100) (by decide) q2884 dX4_addChild_47 ?_
          refine y_callS hE (m_X4_in pos (-100) 100 (by omega) (by omega) (by omega)) (lw_S q2868 q2869 q133 q2870) (nA := 3) (by decide +kernel) rfl ⟨Nat.le_of_ble_eq_true rfl, Nat.le_of_ble_eq_true rfl⟩ (rest := []) rfl (by decide) dX4_addChild_50 (bc' := 0) (bs' := 0) (Nat.le_refl _) (Nat.le_refl _) (fun r_50 n_50 α_50 K_50 hx_50 hp_50 => ?_)
          obtain ⟨rfl, rfl, rfl, hr_50⟩ := hp_50
          refine y_to (st' := [.int (iI r_50)]) rfl rfl rfl ?_
          refine y_if_ne hE 62 (by decide) (by omega) dX4_addChild_53 (fun c_53 => ?_) (fun c_53 => ?_)
          · refine y_aload_n hE rfl 0 rfl dX4_addChild_62 ?_
            refine gX4_38r (z := 0) hE h40 (MObj.r hM.1 11 (by decide)) (by omega) dX4_addChild_63 (fun hl_63 => ?_)
            refine y_iload_n hE rfl 1 rfl dX4_addChild_66 ?_
            refine y_iald hE rfl hl_63 (by have hL : (up3 K 4 0 25 0) 111 0 (-1) = 20 := (MObj.l hM.1 11 (by decide)); omega) dX4_addChild_67 ?_
            refine y_to (st' := [.int (iI (S 11 ln))]) rfl rfl (by rw [show (up3 K 4 0 25 0) 111 0 ln = S 11 ln from (MRep.ra hM 11 rfl (by omega) (by first | omega | (show _ < (20 : Int); omega)))]) ?_
            refine y_iconst hE dX4_addChild_68 ?_
            have J77 : ∀ (b : Int), (b = tkn S ln pos 0) → Y x n α (up3 K 4 0 25 0) 0 0 77 [(0, .ref (α 4 0)), (1, .int (iI ln)), (2, .int (iI nd)), (3, .int (iI pos))] [.int (iI b)] := by
              intro b hb
              refine y_istore hE [(4, .int (iI b)), (0, .ref (α 4 0)), (1, .int (iI ln)), (2, .int (iI nd)), (3, .int (iI pos))] (by decide) rfl dX4_addChild_77 ?_
              refine y_iconst hE dX4_addChild_79 ?_
              refine y_istore hE [(5, .int (iI 0)), (4, .int (iI b)), (0, .ref (α 4 0)), (1, .int (iI ln)), (2, .int (iI nd)), (3, .int (iI pos))] (by decide) rfl dX4_addChild_80 ?_
              have L82 : ∀ (fuel : Nat) (k b : Int), (0 ≤ k ∧ k ≤ S 11 ln) → (b = tkn S ln pos k.toNat) → (b = 0 ∨ b = 1) → (S 11 ln - k).toNat < fuel → Y x n α (up3 K 4 0 25 0) 0 0 82 [(5, .int (iI k)), (4, .int (iI b)), (0, .ref (α 4 0)), (1, .int (iI ln)), (2, .int (iI nd)), (3, .int (iI pos))] [] := by
                intro fuel82
                induction fuel82 with
                | zero => intro k b hk hb hb1 hfu82; exact absurd hfu82 (Nat.not_lt_zero _)
                | succ fuel82 ih82 =>
                  intro k b hk hb hb1 hfu82
                  refine y_iload hE 0 rfl dX4_addChild_82 ?_
                  refine y_aload_n hE rfl 2 rfl dX4_addChild_84 ?_
                  refine gX4_38r (z := 0) hE h40 (MObj.r hM.1 11 (by decide)) (by omega) dX4_addChild_85 (fun hl_85 => ?_)
                  refine y_iload_n hE rfl 3 rfl dX4_addChild_88 ?_
                  refine y_iald hE rfl hl_85 (by have hL : (up3 K 4 0 25 0) 111 0 (-1) = 20 := (MObj.l hM.1 11 (by decide)); omega) dX4_addChild_89 ?_
                  refine y_to (st' := [.int (iI (S 11 ln)), .int (iI k)]) rfl rfl (by rw [show (up3 K 4 0 25 0) 111 0 ln = S 11 ln from (MRep.ra hM 11 rfl (by omega) (by first | omega | (show _ < (20 : Int); omega)))]) ?_
                  refine y_icmp_ge hE 126 (by decide) (by omega) (by omega) dX4_addChild_90 (fun c_90 => ?_) (fun c_90 => ?_)
                  · refine y_iload hE 1 rfl dX4_addChild_126 ?_
                    have J149 : ∀ (K2 : KS), (MRep S n K2) → (KO K K2 MK) → (tkn S ln pos (S 11 ln).toNat = 1 ∨ ¬ (S 9 nd ≠ -1 ∨ 0 < S 11 nd) ∨ dmx S ln nd (S 14 0).toNat > 4) → Y x n α K2 0 0 149 [(5, .int (iI k)), (4, .int (iI b)), (0, .ref (α 4 0)), (1, .int (iI ln)), (2, .int (iI nd)), (3, .int (iI pos))] [] := by
                      intro K2 hM2 hk2 hx
                      refine y_aload_n hE rfl 2 rfl dX4_addChild_149 ?_
                      refine y_iconst hE dX4_addChild_150 ?_
                      refine y_callV hE (m_X4_fails 3 h40) (lw_V q2871 q2873 qs53 q133 q2874) (nA := 1) (by decide +kernel) rfl ⟨Nat.le_of_ble_eq_true rfl, Nat.le_of_ble_eq_true rfl⟩ (hdd := rfl) (hcc := rfl) (hq := rfl) (hi := h40) (rest := []) rfl (by decide) dX4_addChild_151 (bc' := 0) (bs' := 0) (Nat.le_refl _) (Nat.le_refl _) (fun r_151 n_151 α_151 K_151 hx_151 hp_151 => ?_)
                      obtain ⟨rfl, rfl, rfl, hr_151⟩ := hp_151
                      refine y_to (st' := [.int (iI r_151)]) rfl rfl rfl ?_
                      refine y_iret hE rfl rfl hQ dX4_addChild_154 Ext.rf ?_
                      refine ⟨rfl, rfl, ?_⟩
                      unfold oAddChild
                      (repeat (first | rw [if_pos (by omega)] | rw [if_neg (by omega)]))
                      exact ⟨(MRep.t hM2 25 (by decide) 3), (KO.up hk2 (by unfold MK; decide)), by simp [up3], by first | rfl | (dsimp only; omega)⟩
                    rw [show k = S 11 ln by omega] at hb
                    refine y_if_ne hE 149 (by decide) (by have := tkn_01 S ln pos (S 11 ln).toNat; omega) dX4_addChild_128 (fun c_128 => ?_) (fun c_128 => ?_)
                    · exact J149 (up3 K 4 0 25 0) ((MRep.t hM 25 (by decide) 0)) ((KO.up KO.rf (by unfold MK; decide))) (by omega)
                    · refine y_aload_n hE rfl 2 rfl dX4_addChild_131 ?_
                      refine y_iload_n hE rfl 4 rfl dX4_addChild_132 ?_
                      refine y_callV hE (m_X4_isComplete S nd h40 (MRep.t hM 25 (by decide) 0) (by omega) (by omega) (by omega)) (lw_V q2919 q2921 qs57 q133 q2922) (nA := 1) (by decide +kernel) rfl ⟨Nat.le_of_ble_eq_true rfl, Nat.le_of_ble_eq_true rfl⟩ (hdd := rfl) (hcc := rfl) (hq := rfl) (hi := h40) (rest := []) rfl (by decide) dX4_addChild_133 (bc' := 0) (bs' := 0) (Nat.le_refl _) (Nat.le_refl _) (fun r_133 n_133 α_133 K_133 hx_133 hp_133 => ?_)
                      obtain ⟨rfl, rfl, rfl, hr_133⟩ := hp_133
                      refine y_to (st' := [.int (iI r_133)]) rfl rfl rfl ?_
                      refine y_if_eq hE 149 (by decide) (by omega) dX4_addChild_136 (fun c_136 => ?_) (fun c_136 => ?_)
                      · exact J149 (up3 K 4 0 25 0) ((MRep.t hM 25 (by decide) 0)) ((KO.up KO.rf (by unfold MK; decide))) (by omega)
                      · refine y_aload_n hE rfl 2 rfl dX4_addChild_139 ?_
                        refine y_iload_n hE rfl 3 rfl dX4_addChild_140 ?_
                        refine y_iload_n hE rfl 4 rfl dX4_addChild_141 ?_
                        refine y_callV hE (m_X4_greatestDepth S ln nd h40 (MRep.t hM 25 (by decide) 0) (by omega) (by omega) (by omega)) (lw_V q2923 q2925 qs58 q133 q2926) (nA := 2) (by decide +kernel) rfl ⟨Nat.le_of_ble_eq_true rfl, Nat.le_of_ble_eq_true rfl⟩ (hdd := rfl) (hcc := rfl) (hq := rfl) (hi := h40) (rest := []) rfl (by decide) dX4_addChild_142 (bc' := 0) (bs' := 0) (Nat.le_refl _) (Nat.le_refl _) (fun r_142 n_142 α_142 K_142 hx_142 hp_142 => ?_)
                        obtain ⟨rfl, rfl, hM_142, hk_142, hr_142⟩ := hp_142
                        refine y_to (st' := [.int (iI r_142)]) rfl rfl rfl ?_
                        have hk4 := hk_142 4 0 (by decide) 25
                        have hz4 : up3 K 4 0 25 0 4 0 25 = 0 := by simp [up3]
                        refine y_iconst hE dX4_addChild_145 ?_
                        refine y_icmp_le hE 155 (by decide) (by omega) (by omega) dX4_addChild_146 (fun c_146 => ?_) (fun c_146 => ?_)
                        · have h5 := tkn_5 (show tkn S ln pos (S 11 ln).toNat ≠ 1 by omega)
                          refine y_aload_n hE rfl 2 rfl dX4_addChild_155 ?_
                          refine gX4_41r (z := 0) hE h40 (MObj.r hM_142.1 12 (by decide)) (by omega) dX4_addChild_156 (fun hl_156 => ?_)
                          refine y_iconst hE dX4_addChild_159 ?_
                          refine y_iload_n hE rfl 3 rfl dX4_addChild_160 ?_
                          refine y_imul hE dX4_addChild_161 ?_
                          refine y_aload_n hE rfl 2 rfl dX4_addChild_162 ?_
                          refine gX4_38r (z := 0) hE h40 (MObj.r hM_142.1 11 (by decide)) (by omega) dX4_addChild_163 (fun hl_163 => ?_)
                          refine y_iload_n hE rfl 3 rfl dX4_addChild_166 ?_
                          refine y_iald hE rfl hl_163 (by have hL : K_142 111 0 (-1) = 20 := (MObj.l hM_142.1 11 (by decide)); omega) dX4_addChild_167 ?_
                          refine y_to (st' := [.int (iI (S 11 ln)), .int (iI (5 * ln)), .ref (α 112 0)]) rfl rfl (by rw [show K_142 111 0 ln = S 11 ln from (MRep.ra hM_142 11 rfl (by omega) (by first | omega | (show _ < (20 : Int); omega)))]) ?_
                          refine y_iadd hE dX4_addChild_168 ?_
                          refine y_iload_n hE rfl 4 rfl dX4_addChild_169 ?_
                          refine y_iast hE (by unfold kC; decide) rfl (by simp [kTag]) hl_156 (by have hL : K_142 112 0 (-1) = 100 := (MObj.l hM_142.1 12 (by decide)); omega) dX4_addChild_170 ?_
                          refine y_aload_n hE rfl 2 rfl dX4_addChild_171 ?_
                          refine gX4_44r (z := 0) hE h40 (MObj.r hM_142.1 13 (by decide)) (by omega) dX4_addChild_172 (fun hl_172 => ?_)
                          refine y_iconst hE dX4_addChild_175 ?_
                          refine y_iload_n hE rfl 3 rfl dX4_addChild_176 ?_
                          refine y_imul hE dX4_addChild_177 ?_
                          refine y_aload_n hE rfl 2 rfl dX4_addChild_178 ?_
                          refine gX4_38r (z := 0) hE h40 (MObj.r hM_142.1 11 (by decide)) (by omega) dX4_addChild_179 (fun hl_179 => ?_)
                          refine y_iload_n hE rfl 3 rfl dX4_addChild_182 ?_
                          refine y_iald hE rfl hl_179 (by have hL : (up3 K_142 112 0 ((5 * ln) + (S 11 ln)) nd) 111 0 (-1) = 20 := (MObj.l hM_142.1 11 (by decide)); omega) dX4_addChild_183 ?_
                          refine y_to (st' := [.int (iI (S 11 ln)), .int (iI (5 * ln)), .ref (α 113 0)]) rfl rfl (by rw [show (up3 K_142 112 0 ((5 * ln) + (S 11 ln)) nd) 111 0 ln = S 11 ln from (MRep.ra hM_142 11 rfl (by omega) (by first | omega | (show _ < (20 : Int); omega)))]) ?_
                          refine y_iadd hE dX4_addChild_184 ?_
                          refine y_iload_n hE rfl 5 rfl dX4_addChild_185 ?_
                          refine y_iast hE (by unfold kC; decide) rfl (by simp [kTag]) hl_172 (by have hL : (up3 K_142 112 0 ((5 * ln) + (S 11 ln)) nd) 113 0 (-1) = 100 := (MObj.l hM_142.1 13 (by decide)); omega) dX4_addChild_186 ?_
                          refine y_aload_n hE rfl 2 rfl dX4_addChild_187 ?_
                          refine gX4_38r (z := 0) hE h40 (MObj.r hM_142.1 11 (by decide)) (by omega) dX4_addChild_188 (fun hl_188 => ?_)
                          refine y_iload_n hE rfl 3 rfl dX4_addChild_191 ?_
                          refine y_dup2 hE rfl rfl dX4_addChild_192 ?_
                          refine y_iald hE rfl hl_188 (by have hL : (up3 (up3 K_142 112 0 ((5 * ln) + (S 11 ln)) nd) 113 0 ((5 * ln) + (S 11 ln)) pos) 111 0 (-1) = 20 := (MObj.l hM_142.1 11 (by decide)); omega) dX4_addChild_193 ?_
                          refine y_to (st' := [.int (iI (S 11 ln)), .int (iI ln), .ref (α 111 0)]) rfl rfl (by rw [show (up3 (up3 K_142 112 0 ((5 * ln) + (S 11 ln)) nd) 113 0 ((5 * ln) + (S 11 ln)) pos) 111 0 ln = S 11 ln from (MRep.ra hM_142 11 rfl (by omega) (by first | omega | (show _ < (20 : Int); omega)))]) ?_
                          refine y_iconst hE dX4_addChild_194 ?_
                          refine y_iadd hE dX4_addChild_195 ?_
                          refine y_iast hE (by unfold kC; decide) rfl (by simp [kTag]) hl_188 (by have hL : (up3 (up3 K_142 112 0 ((5 * ln) + (S 11 ln)) nd) 113 0 ((5 * ln) + (S 11 ln)) pos) 111 0 (-1) = 20 := (MObj.l hM_142.1 11 (by decide)); omega) dX4_addChild_196 ?_
                          refine y_aload_n hE rfl 2 rfl dX4_addChild_197 ?_
                          refine gX4_38r (z := 0) hE h40 (MObj.r hM_142.1 11 (by decide)) (by omega) dX4_addChild_198 (fun hl_198 => ?_)
                          refine y_iload_n hE rfl 3 rfl dX4_addChild_201 ?_
                          refine y_iald hE rfl hl_198 (by have hL : (up3 (up3 (up3 K_142 112 0 ((5 * ln) + (S 11 ln)) nd) 113 0 ((5 * ln) + (S 11 ln)) pos) 111 0 ln ((S 11 ln) + 1)) 111 0 (-1) = 20 := (MObj.l (MRep.a (MRep.a (MRep.a hM_142 12 rfl (j := (5 * ln) + (S 11 ln)) (by omega) nd) 13 rfl (j := (5 * ln) + (S 11 ln)) (by omega) pos) 11 rfl (j := ln) (by omega) ((S 11 ln) + 1)).1 11 (by decide)); omega) dX4_addChild_202 ?_
                          refine y_to (st' := [.int (iI ((S 11 ln) + 1))]) rfl rfl (by rw [show (up3 (up3 (up3 K_142 112 0 ((5 * ln) + (S 11 ln)) nd) 113 0 ((5 * ln) + (S 11 ln)) pos) 111 0 ln ((S 11 ln) + 1)) 111 0 ln = (S 11 ln) + 1 from (by simp [up3, upr])]) ?_
                          refine y_iret hE rfl rfl hQ dX4_addChild_203 Ext.rf ?_
                          refine ⟨rfl, rfl, ?_⟩
                          unfold oAddChild
                          (repeat (first | rw [if_pos (by omega)] | rw [if_neg (by omega)]))
                          exact ⟨(MRep.a (MRep.a (MRep.a hM_142 12 rfl (j := (5 * ln) + (S 11 ln)) (by omega) nd) 13 rfl (j := (5 * ln) + (S 11 ln)) (by omega) pos) 11 rfl (j := ln) (by omega) ((S 11 ln) + 1)), (KO.up (KO.up (KO.up ((KO.up KO.rf (by unfold MK; decide)).tr (KO.mono hk_142 (fun k i z => by unfold MK; (try dsimp only at z); (try dsimp only); omega))) (by unfold MK; decide)) (by unfold MK; decide)) (by unfold MK; decide)), by simp [up3, hk4], by first | rfl | (dsimp only; omega)⟩
                        · exact J149 K_142 (hM_142) (((KO.up KO.rf (by unfold MK; decide)).tr (KO.mono hk_142 (fun k i z => by unfold MK; (try dsimp only at z); (try dsimp only); omega)))) (by omega)
                  · refine y_iload hE 1 rfl dX4_addChild_93 ?_
                    have J118 : ∀ (b2 : Int), (b2 = tkn S ln pos (k + 1).toNat) → Y x n α (up3 K 4 0 25 0) 0 0 118 [(5, .int (iI k)), (4, .int (iI b)), (0, .ref (α 4 0)), (1, .int (iI ln)), (2, .int (iI nd)), (3, .int (iI pos))] [.int (iI b2)] := by
                      intro b2 hb2
                      refine y_istore hE [(4, .int (iI b2)), (5, .int (iI k)), (0, .ref (α 4 0)), (1, .int (iI ln)), (2, .int (iI nd)), (3, .int (iI pos))] (by decide) rfl dX4_addChild_118 ?_
                      refine y_iinc hE 1 rfl [(5, .int (iI (k + 1))), (4, .int (iI b2)), (0, .ref (α 4 0)), (1, .int (iI ln)), (2, .int (iI nd)), (3, .int (iI pos))] (by decide) rfl dX4_addChild_120 ?_
                      refine y_goto hE 82 (by decide) dX4_addChild_123 ?_
                      exact ih82 (k + 1) b2 (by omega) (hb2) (hb2 ▸ tkn_01 S ln pos (k + 1).toNat) (by omega)
                    have hts := tkn_s (S := S) (ln := ln) (pos := pos) (show 0 ≤ k by omega)
                    refine y_if_ne hE 113 (by decide) (by have := tkn_01 S ln pos k.toNat; omega) dX4_addChild_95 (fun c_95 => ?_) (fun c_95 => ?_)
                    · refine y_iconst hE dX4_addChild_113 ?_
                      refine y_goto hE 118 (by decide) dX4_addChild_114 ?_
                      exact J118 1 (by rw [hts, ← hb]; (repeat' split) <;> omega)
                    · have wc := hW.chi ln k (by omega) (by omega) (by omega) (by omega)
                      refine y_aload_n hE rfl 2 rfl dX4_addChild_98 ?_
                      refine gX4_44r (z := 0) hE h40 (MObj.r hM.1 13 (by decide)) (by omega) dX4_addChild_99 (fun hl_99 => ?_)
                      refine y_iconst hE dX4_addChild_102 ?_
                      refine y_iload_n hE rfl 3 rfl dX4_addChild_103 ?_
                      refine y_imul hE dX4_addChild_104 ?_
                      refine y_iload hE 0 rfl dX4_addChild_105 ?_
                      refine y_iadd hE dX4_addChild_107 ?_
                      refine y_iald hE rfl hl_99 (by have hL : (up3 K 4 0 25 0) 113 0 (-1) = 100 := (MObj.l hM.1 13 (by decide)); omega) dX4_addChild_108 ?_
                      refine y_to (st' := [.int (iI (S 13 ((5 * ln) + k)))]) rfl rfl (by rw [show (up3 K 4 0 25 0) 113 0 ((5 * ln) + k) = S 13 ((5 * ln) + k) from (MRep.ra hM 13 rfl (by omega) (by first | omega | (show _ < (100 : Int); omega)))]) ?_
                      refine y_iload_n hE rfl 5 rfl dX4_addChild_109 ?_
                      refine y_icmp_ne hE 117 (by decide) (by omega) (by omega) dX4_addChild_110 (fun c_110 => ?_) (fun c_110 => ?_)
                      · refine y_iconst hE dX4_addChild_117 ?_
                        exact J118 0 (by rw [hts, ← hb]; (repeat' split) <;> omega)
                      · refine y_iconst hE dX4_addChild_113 ?_
                        refine y_goto hE 118 (by decide) dX4_addChild_114 ?_
                        exact J118 1 (by rw [hts, ← hb]; (repeat' split) <;> omega)
              exact L82 _ 0 b (by omega) (hb) (hb ▸ tkn_01 S ln pos 0) (Nat.lt_succ_self _)
            refine y_icmp_ne hE 76 (by decide) (by omega) (by omega) dX4_addChild_69 (fun c_69 => ?_) (fun c_69 => ?_)
            · refine y_iconst hE dX4_addChild_76 ?_
              exact J77 0 (by unfold tkn; first | (rw [if_pos (by omega)]) | (rw [if_neg (by omega)]))
            · refine y_iconst hE dX4_addChild_72 ?_
              refine y_goto hE 77 (by decide) dX4_addChild_73 ?_
              exact J77 1 (by unfold tkn; first | (rw [if_pos (by omega)]) | (rw [if_neg (by omega)]))
          · refine y_aload_n hE rfl 0 rfl dX4_addChild_56 ?_
            refine y_iconst hE dX4_addChild_57 ?_
            refine y_callV hE (m_X4_fails 2 h40) (lw_V q2871 q2873 qs53 q133 q2874) (nA := 1) (by decide +kernel) rfl ⟨Nat.le_of_ble_eq_true rfl, Nat.le_of_ble_eq_true rfl⟩ (hdd := rfl) (hcc := rfl) (hq := rfl) (hi := h40) (rest := []) rfl (by decide) dX4_addChild_58 (bc' := 0) (bs' := 0) (Nat.le_refl _) (Nat.le_refl _) (fun r_58_3 n_58_3 α_58_3 K_58_3 hx_58_3 hp_58_3 => ?_)
            obtain ⟨rfl, rfl, rfl, hr_58_3⟩ := hp_58_3
            refine y_to (st' := [.int (iI r_58_3)]) rfl rfl rfl ?_
            refine y_iret hE rfl rfl hQ dX4_addChild_61 Ext.rf ?_
            refine ⟨rfl, rfl, ?_⟩
            unfold oAddChild
            (repeat (first | rw [if_pos (by omega)] | rw [if_neg (by omega)]))
            exact ⟨(MRep.t (MRep.t hM 25 (by decide) 0) 25 (by decide) 2), (KO.up (KO.up KO.rf (by unfold MK; decide)) (by unfold MK; decide)), by simp [up3], by first | rfl | (dsimp only; omega)⟩
    · refine y_aload_n hE rfl 0 rfl dX4_addChild_21 ?_
      refine y_iconst hE dX4_addChild_22 ?_
      refine y_callV hE (m_X4_fails 1 h40) (lw_V q2871 q2873 qs53 q133 q2874) (nA := 1) (by decide +kernel) rfl ⟨Nat.le_of_ble_eq_true rfl, Nat.le_of_ble_eq_true rfl⟩ (hdd := rfl) (hcc := rfl) (hq := rfl) (hi := h40) (rest := []) rfl (by decide) dX4_addChild_23 (bc' := 0) (bs' := 0) (Nat.le_refl _) (Nat.le_refl _) (fun r_23_2 n_23_2 α_23_2 K_23_2 hx_23_2 hp_23_2 => ?_)
      obtain ⟨rfl, rfl, rfl, hr_23_2⟩ := hp_23_2
      refine y_to (st' := [.int (iI r_23_2)]) rfl rfl rfl ?_
      refine y_iret hE rfl rfl hQ dX4_addChild_26 Ext.rf ?_
      refine ⟨rfl, rfl, ?_⟩
      unfold oAddChild
      (repeat (first | rw [if_pos (by omega)] | rw [if_neg (by omega)]))
      exact ⟨(MRep.t (MRep.t hM 25 (by decide) 0) 25 (by decide) 1), (KO.up (KO.up KO.rf (by unfold MK; decide)) (by unfold MK; decide)), by simp [up3], by first | rfl | (dsimp only; omega)⟩
def trkS (S : SS) (a s ph : Int) : SS := up2 (up2 (up2 (up2 S 0 a s) 0 (a + 1) 0) 0 (a + 2) ph) 0 (a + 3) 1
def begS (S : SS) : SS := trkS (up2 (up2 (up2 (up2 S 0 8 0) 0 11 0) 0 20 0) 0 21 0) 12 0 0
def oAddState (S : SS) (nd sp lo gr : Int) : Int × Int × SS := if ¬ (0 ≤ nd ∧ nd < S 14 0) then (1, 0, S) else if ¬ (1 ≤ sp ∧ sp ≤ 400 ∧ 0 ≤ gr ∧ gr ≤ 3) then (2, 0, S) else if ¬ (S 9 nd ≠ -1 ∨ 0 < S 11 nd) ∨ S 19 0 = 10 then (3, 0, S) else
  (0, S 19 0, if S 19 0 = 0 then begS (up2 (up2 (up2 (up2 (up2 S 15 (S 19 0) nd) 16 (S 19 0) sp) 17 (S 19 0) lo) 18 (S 19 0) gr) 19 0 (S 19 0 + 1)) else up2 (up2 (up2 (up2 (up2 S 15 (S 19 0) nd) 16 (S 19 0) sp) 17 (S 19 0) lo) 18 (S 19 0) gr) 19 0 (S 19 0 + 1))
set_option maxHeartbeats 4000000 in
set_option maxRecDepth 100000 in
theorem m_X4_track {w : KW} {n : KN} {α : KA} {K : KS} (S : SS) (a s ph : Int) (h40 : (0 : Int) ≤ 0 ∧ 0 < n 4) (hM : MRep S n K) (ha : 0 ≤ a ∧ a + 3 < 1160) : KM w yX4_track cX4_track 4 none { frames := 0, cells := 0, slots := 0, locals := 0 } (3, 0) [.ref (α 4 0), .int (iI a), .int (iI s), .int (iI ph)] n α K (fun r n' α' K' => n = n' ∧ α = α' ∧ MRep (trkS S a s ph) n K' ∧ KO K K' (fun k _ => k = 100) ∧ (True)) := by
  refine y_start (by decide) (Nat.le_of_ble_eq_true rfl) (fun x hE hQ => ?_)
  have hw := hQ.2
  subst hw
  have hE : YE x cX4_track RX4 none "track" 4 { frames := 0, cells := 0, slots := 0, locals := 0 } := hE
  refine y_wk (fun hWK => ?_)
  have hn0 := hWK.1
  refine y_bud (bc' := 0) (bs' := 0) (Nat.le_refl _) (Nat.le_refl _) ?_
  refine y_to (lv' := [(0, .ref (α 4 0)), (1, .int (iI a)), (2, .int (iI s)), (3, .int (iI ph))]) (st' := []) rfl rfl rfl ?_
  refine y_aload_n hE rfl 0 rfl dX4_track_0 ?_
  refine gX4_7r (z := 0) hE h40 (MObj.r hM.1 0 (by decide)) (by omega) dX4_track_1 (fun hl_1 => ?_)
  refine y_iload_n hE rfl 1 rfl dX4_track_4 ?_
  refine y_iconst hE dX4_track_5 ?_
  refine y_iadd hE dX4_track_6 ?_
  refine y_to (st' := [.int (iI a), .ref (α 100 0)]) rfl rfl (by rw [Int.add_zero]) ?_
  refine y_iload_n hE rfl 2 rfl dX4_track_7 ?_
  refine y_iast hE (by unfold kC; decide) rfl (by simp [kTag]) hl_1 (by have hL : K 100 0 (-1) = 1160 := (MObj.l hM.1 0 (by decide)); omega) dX4_track_8 ?_
  refine y_aload_n hE rfl 0 rfl dX4_track_9 ?_
  refine gX4_7r (z := 0) hE h40 (MObj.r hM.1 0 (by decide)) (by omega) dX4_track_10 (fun hl_10 => ?_)
  refine y_iload_n hE rfl 1 rfl dX4_track_13 ?_
  refine y_iconst hE dX4_track_14 ?_
  refine y_iadd hE dX4_track_15 ?_
  refine y_iconst hE dX4_track_16 ?_
  refine y_iast hE (by unfold kC; decide) rfl (by simp [kTag]) hl_10 (by have hL : (up3 K 100 0 a s) 100 0 (-1) = 1160 := (MObj.l (MRep.a hM 0 rfl (j := a) (by omega) s).1 0 (by decide)); omega) dX4_track_17 ?_
  refine y_aload_n hE rfl 0 rfl dX4_track_18 ?_
  refine gX4_7r (z := 0) hE h40 (MObj.r hM.1 0 (by decide)) (by omega) dX4_track_19 (fun hl_19 => ?_)
  refine y_iload_n hE rfl 1 rfl dX4_track_22 ?_
  refine y_iconst hE dX4_track_23 ?_
  refine y_iadd hE dX4_track_24 ?_
  refine y_iload_n hE rfl 3 rfl dX4_track_25 ?_
  refine y_iast hE (by unfold kC; decide) rfl (by simp [kTag]) hl_19 (by have hL : (up3 (up3 K 100 0 a s) 100 0 (a + 1) 0) 100 0 (-1) = 1160 := (MObj.l (MRep.a (MRep.a hM 0 rfl (j := a) (by omega) s) 0 rfl (j := a + 1) (by omega) 0).1 0 (by decide)); omega) dX4_track_26 ?_
  refine y_aload_n hE rfl 0 rfl dX4_track_27 ?_
  refine gX4_7r (z := 0) hE h40 (MObj.r hM.1 0 (by decide)) (by omega) dX4_track_28 (fun hl_28 => ?_)
  refine y_iload_n hE rfl 1 rfl dX4_track_31 ?_
  refine y_iconst hE dX4_track_32 ?_
  refine y_iadd hE dX4_track_33 ?_
  refine y_iconst hE dX4_track_34 ?_
  refine y_iast hE (by unfold kC; decide) rfl (by simp [kTag]) hl_28 (by have hL : (up3 (up3 (up3 K 100 0 a s) 100 0 (a + 1) 0) 100 0 (a + 2) ph) 100 0 (-1) = 1160 := (MObj.l (MRep.a (MRep.a (MRep.a hM 0 rfl (j := a) (by omega) s) 0 rfl (j := a + 1) (by omega) 0) 0 rfl (j := a + 2) (by omega) ph).1 0 (by decide)); omega) dX4_track_35 ?_
  exact y_vret (r := 0) hE rfl hQ dX4_track_36 Ext.rf ⟨rfl, rfl, (MRep.a (MRep.a (MRep.a (MRep.a hM 0 rfl (j := a) (by omega) s) 0 rfl (j := a + 1) (by omega) 0) 0 rfl (j := a + 2) (by omega) ph) 0 rfl (j := a + 3) (by omega) 1), (KO.up (KO.up (KO.up (KO.up KO.rf (by decide)) (by decide)) (by decide)) (by decide)), trivial⟩
set_option maxHeartbeats 4000000 in
set_option maxRecDepth 100000 in
theorem m_X4_begins {w : KW} {n : KN} {α : KA} {K : KS} (S : SS)  (h40 : (0 : Int) ≤ 0 ∧ 0 < n 4) (hM : MRep S n K) : KM w yX4_begins cX4_begins 1 none { frames := 1, cells := 0, slots := 0, locals := 23 } (3, 0) [.ref (α 4 0)] n α K (fun r n' α' K' => n = n' ∧ α = α' ∧ MRep (begS S) n K' ∧ KO K K' (fun k _ => k = 100) ∧ (True)) := by
  refine y_start (by decide) (Nat.le_of_ble_eq_true rfl) (fun x hE hQ => ?_)
  have hw := hQ.2
  subst hw
  have hE : YE x cX4_begins RX4 none "begins" 1 { frames := 1, cells := 0, slots := 0, locals := 23 } := hE
  refine y_wk (fun hWK => ?_)
  have hn0 := hWK.1
  refine y_bud (bc' := 0) (bs' := 0) (Nat.le_refl _) (Nat.le_refl _) ?_
  refine y_to (lv' := [(0, .ref (α 4 0))]) (st' := []) rfl rfl rfl ?_
  refine y_aload_n hE rfl 0 rfl dX4_begins_0 ?_
  refine gX4_7r (z := 0) hE h40 (MObj.r hM.1 0 (by decide)) (by omega) dX4_begins_1 (fun hl_1 => ?_)
  refine y_bipush hE (by decide) dX4_begins_4 ?_
  refine y_iconst hE dX4_begins_6 ?_
  refine y_iast hE (by unfold kC; decide) rfl (by simp [kTag]) hl_1 (by have hL : K 100 0 (-1) = 1160 := (MObj.l hM.1 0 (by decide)); omega) dX4_begins_7 ?_
  refine y_aload_n hE rfl 0 rfl dX4_begins_8 ?_
  refine gX4_7r (z := 0) hE h40 (MObj.r hM.1 0 (by decide)) (by omega) dX4_begins_9 (fun hl_9 => ?_)
  refine y_bipush hE (by decide) dX4_begins_12 ?_
  refine y_iconst hE dX4_begins_14 ?_
  refine y_iast hE (by unfold kC; decide) rfl (by simp [kTag]) hl_9 (by have hL : (up3 K 100 0 8 0) 100 0 (-1) = 1160 := (MObj.l hM.1 0 (by decide)); omega) dX4_begins_15 ?_
  refine y_aload_n hE rfl 0 rfl dX4_begins_16 ?_
  refine gX4_7r (z := 0) hE h40 (MObj.r hM.1 0 (by decide)) (by omega) dX4_begins_17 (fun hl_17 => ?_)
  refine y_bipush hE (by decide) dX4_begins_20 ?_
  refine y_iconst hE dX4_begins_22 ?_
  refine y_iast hE (by unfold kC; decide) rfl (by simp [kTag]) hl_17 (by have hL : (up3 (up3 K 100 0 8 0) 100 0 11 0) 100 0 (-1) = 1160 := (MObj.l hM.1 0 (by decide)); omega) dX4_begins_23 ?_
  refine y_aload_n hE rfl 0 rfl dX4_begins_24 ?_
  refine gX4_7r (z := 0) hE h40 (MObj.r hM.1 0 (by decide)) (by omega) dX4_begins_25 (fun hl_25 => ?_)
  refine y_bipush hE (by decide) dX4_begins_28 ?_
  refine y_iconst hE dX4_begins_30 ?_
  refine y_iast hE (by unfold kC; decide) rfl (by simp [kTag]) hl_25 (by have hL : (up3 (up3 (up3 K 100 0 8 0) 100 0 11 0) 100 0 20 0) 100 0 (-1) = 1160 := (MObj.l hM.1 0 (by decide)); omega) dX4_begins_31 ?_
  refine y_aload_n hE rfl 0 rfl dX4_begins_32 ?_
  refine y_bipush hE (by decide) dX4_begins_33 ?_
  refine y_iconst hE dX4_begins_35 ?_
  refine y_iconst hE dX4_begins_36 ?_
  refine y_callV hE (m_X4_track (up2 (up2 (up2 (up2 S 0 8 0) 0 11 0) 0 20 0) 0 21 0) 12 0 0 h40 (MRep.a (MRep.a (MRep.a (MRep.a hM 0 rfl (j := 8) (by omega) 0) 0 rfl (j := 11) (by omega) 0) 0 rfl (j := 20) (by omega) 0) 0 rfl (j := 21) (by omega) 0) (by omega)) (lw_V q2937 q2939 qs60 q133 q2940) (nA := 3) (by decide +kernel) rfl ⟨Nat.le_of_ble_eq_true rfl, Nat.le_of_ble_eq_true rfl⟩ (hdd := rfl) (hcc := rfl) (hq := rfl) (hi := h40) (rest := []) rfl (by decide) dX4_begins_37 (bc' := 0) (bs' := 0) (Nat.le_refl _) (Nat.le_refl _) (fun r_37 n_37 α_37 K_37 hx_37 hp_37 => ?_)
  obtain ⟨rfl, rfl, hM_37, hk_37, hr_37⟩ := hp_37
  refine y_to (st' := []) rfl rfl rfl ?_
  exact y_vret (r := 0) hE rfl hQ dX4_begins_40 Ext.rf ⟨rfl, rfl, hM_37, ((KO.up (KO.up (KO.up (KO.up KO.rf (by decide)) (by decide)) (by decide)) (by decide)).tr hk_37), trivial⟩
set_option maxHeartbeats 4000000 in
set_option maxRecDepth 100000 in
theorem m_X4_addState {w : KW} {n : KN} {α : KA} {K : KS} (S : SS) (nd sp lo gr : Int) (h40 : (0 : Int) ≤ 0 ∧ 0 < n 4) (hM : MRep S n K) (hW : WFs S) (hl : -2147483648 ≤ nd ∧ nd ≤ 2147483647) (hn : -2147483648 ≤ sp ∧ sp ≤ 2147483647) (hlo : 0 ≤ lo ∧ lo ≤ 1) (hp : -2147483648 ≤ gr ∧ gr ≤ 2147483647) : KM w yX4_addState cX4_addState 5 (some (.int)) { frames := 2, cells := 0, slots := 0, locals := 46 } (0, 0) [.ref (α 4 0), .int (iI nd), .int (iI sp), .int (iI lo), .int (iI gr)] n α K (fun r n' α' K' => n = n' ∧ α = α' ∧ (MRep (oAddState S nd sp lo gr).2.2 n K' ∧ KO K K' MK ∧ K' 4 0 25 = (oAddState S nd sp lo gr).1 ∧ r = (oAddState S nd sp lo gr).2.1)) := by
  refine y_start (by decide) (Nat.le_of_ble_eq_true rfl) (fun x hE hQ => ?_)
  have hw := hQ.2
  subst hw
  have hE : YE x cX4_addState RX4 (some (.int)) "addState" 5 { frames := 2, cells := 0, slots := 0, locals := 46 } := hE
  refine y_wk (fun hWK => ?_)
  have hn0 := hWK.1
  refine y_bud (bc' := 0) (bs' := 0) (Nat.le_refl _) (Nat.le_refl _) ?_
  refine y_to (lv' := [(0, .ref (α 4 0)), (1, .int (iI nd)), (2, .int (iI sp)), (3, .int (iI lo)), (4, .int (iI gr))]) (st' := []) rfl rfl rfl ?_
  have wpar := hW.par
  have wclips := hW.clips
  have wnodes := hW.nodes
  have wsts := hW.sts
  have wtrs := hW.trs
  have wthr := hW.thr
  have wtxt := hW.txt
  refine y_aload_n hE rfl 0 rfl dX4_addState_0 ?_
  refine y_iconst hE dX4_addState_1 ?_
  refine pX4_94 hE h40 dX4_addState_2 ?_
  refine y_aload_n hE rfl 0 rfl dX4_addState_5 ?_
  refine y_iload_n hE rfl 1 rfl dX4_addState_6 ?_
  refine y_callV hE (m_X4_isNode S nd h40 (MRep.t hM 25 (by decide) 0) (by omega) (by omega)) (lw_V q2915 q2917 qs56 q133 q2918) (nA := 1) (by decide +kernel) rfl ⟨Nat.le_of_ble_eq_true rfl, Nat.le_of_ble_eq_true rfl⟩ (hdd := rfl) (hcc := rfl) (hq := rfl) (hi := h40) (rest := []) rfl (by decide) dX4_addState_7 (bc' := 0) (bs' := 0) (Nat.le_refl _) (Nat.le_refl _) (fun r_7 n_7 α_7 K_7 hx_7 hp_7 => ?_)
  obtain ⟨rfl, rfl, rfl, hr_7⟩ := hp_7
  refine y_to (st' := [.int (iI r_7)]) rfl rfl rfl ?_
  refine y_if_ne hE 19 (by decide) (by omega) dX4_addState_10 (fun c_10 => ?_) (fun c_10 => ?_)
  · have wn := hW.nod nd (by omega) (by omega)
    refine y_iload_n hE rfl 2 rfl dX4_addState_19 ?_
    refine y_i2l hE (by omega) dX4_addState_20 ?_
    refine y_lconst hE 1 (by decide) dX4_addState_21 ?_
    refine y_ldc2 hE 400 (v := 400) (by decide) q2931 dX4_addState_22 ?_
    refine y_callS hE (m_X4_in sp 1 400 (by omega) (by omega) (by omega)) (lw_S q2868 q2869 q133 q2870) (nA := 3) (by decide +kernel) rfl ⟨Nat.le_of_ble_eq_true rfl, Nat.le_of_ble_eq_true rfl⟩ (rest := []) rfl (by decide) dX4_addState_25 (bc' := 0) (bs' := 0) (Nat.le_refl _) (Nat.le_refl _) (fun r_25 n_25 α_25 K_25 hx_25 hp_25 => ?_)
    obtain ⟨rfl, rfl, rfl, hr_25⟩ := hp_25
    refine y_to (st' := [.int (iI r_25)]) rfl rfl rfl ?_
    refine y_if_eq hE 44 (by decide) (by omega) dX4_addState_28 (fun c_28 => ?_) (fun c_28 => ?_)
    · refine y_aload_n hE rfl 0 rfl dX4_addState_44 ?_
      refine y_iconst hE dX4_addState_45 ?_
      refine y_callV hE (m_X4_fails 2 h40) (lw_V q2871 q2873 qs53 q133 q2874) (nA := 1) (by decide +kernel) rfl ⟨Nat.le_of_ble_eq_true rfl, Nat.le_of_ble_eq_true rfl⟩ (hdd := rfl) (hcc := rfl) (hq := rfl) (hi := h40) (rest := []) rfl (by decide) dX4_addState_46 (bc' := 0) (bs' := 0) (Nat.le_refl _) (Nat.le_refl _) (fun r_46 n_46 α_46 K_46 hx_46 hp_46 => ?_)
      obtain ⟨rfl, rfl, rfl, hr_46⟩ := hp_46
      refine y_to (st' := [.int (iI r_46)]) rfl rfl rfl ?_
      refine y_iret hE rfl rfl hQ dX4_addState_49 Ext.rf ?_
      refine ⟨rfl, rfl, ?_⟩
      unfold oAddState
      (repeat (first | rw [if_pos (by omega)] | rw [if_neg (by omega)]))
      exact ⟨(MRep.t (MRep.t hM 25 (by decide) 0) 25 (by decide) 2), (KO.up (KO.up KO.rf (by unfold MK; decide)) (by unfold MK; decide)), by simp [up3], by first | rfl | (dsimp only; omega)⟩
    · refine y_iload hE 4 rfl dX4_addState_31 ?_
      refine y_i2l hE (by omega) dX4_addState_33 ?_
      refine y_lconst hE 0 (by decide) dX4_addState_34 ?_
      refine y_ldc2 hE 3 (v := 3) (by decide) q2932 dX4_addState_35 ?_
      refine y_callS hE (m_X4_in gr 0 3 (by omega) (by omega) (by omega)) (lw_S q2868 q2869 q133 q2870) (nA := 3) (by decide +kernel) rfl ⟨Nat.le_of_ble_eq_true rfl, Nat.le_of_ble_eq_true rfl⟩ (rest := []) rfl (by decide) dX4_addState_38 (bc' := 0) (bs' := 0) (Nat.le_refl _) (Nat.le_refl _) (fun r_38 n_38 α_38 K_38 hx_38 hp_38 => ?_)
      obtain ⟨rfl, rfl, rfl, hr_38⟩ := hp_38
      refine y_to (st' := [.int (iI r_38)]) rfl rfl rfl ?_
      refine y_if_ne hE 50 (by decide) (by omega) dX4_addState_41 (fun c_41 => ?_) (fun c_41 => ?_)
      · refine y_aload_n hE rfl 0 rfl dX4_addState_50 ?_
        refine y_iload_n hE rfl 1 rfl dX4_addState_51 ?_
        refine y_callV hE (m_X4_isComplete S nd h40 (MRep.t hM 25 (by decide) 0) (by omega) (by omega) (by omega)) (lw_V q2919 q2921 qs57 q133 q2922) (nA := 1) (by decide +kernel) rfl ⟨Nat.le_of_ble_eq_true rfl, Nat.le_of_ble_eq_true rfl⟩ (hdd := rfl) (hcc := rfl) (hq := rfl) (hi := h40) (rest := []) rfl (by decide) dX4_addState_52 (bc' := 0) (bs' := 0) (Nat.le_refl _) (Nat.le_refl _) (fun r_52 n_52 α_52 K_52 hx_52 hp_52 => ?_)
        obtain ⟨rfl, rfl, rfl, hr_52⟩ := hp_52
        refine y_to (st' := [.int (iI r_52)]) rfl rfl rfl ?_
        refine y_if_eq hE 67 (by decide) (by omega) dX4_addState_55 (fun c_55 => ?_) (fun c_55 => ?_)
        · refine y_aload_n hE rfl 0 rfl dX4_addState_67 ?_
          refine y_iconst hE dX4_addState_68 ?_
          refine y_callV hE (m_X4_fails 3 h40) (lw_V q2871 q2873 qs53 q133 q2874) (nA := 1) (by decide +kernel) rfl ⟨Nat.le_of_ble_eq_true rfl, Nat.le_of_ble_eq_true rfl⟩ (hdd := rfl) (hcc := rfl) (hq := rfl) (hi := h40) (rest := []) rfl (by decide) dX4_addState_69 (bc' := 0) (bs' := 0) (Nat.le_refl _) (Nat.le_refl _) (fun r_69 n_69 α_69 K_69 hx_69 hp_69 => ?_)
          obtain ⟨rfl, rfl, rfl, hr_69⟩ := hp_69
          refine y_to (st' := [.int (iI r_69)]) rfl rfl rfl ?_
          refine y_iret hE rfl rfl hQ dX4_addState_72 Ext.rf ?_
          refine ⟨rfl, rfl, ?_⟩
          unfold oAddState
          (repeat (first | rw [if_pos (by omega)] | rw [if_neg (by omega)]))
          exact ⟨(MRep.t (MRep.t hM 25 (by decide) 0) 25 (by decide) 3), (KO.up (KO.up KO.rf (by unfold MK; decide)) (by unfold MK; decide)), by simp [up3], by first | rfl | (dsimp only; omega)⟩
        · refine y_aload_n hE rfl 0 rfl dX4_addState_58 ?_
          refine gX4_145 (z := S 19 0) hE h40 (hM.2.2.2.2.2.1) dX4_addState_59 ?_
          refine y_bipush hE (by decide) dX4_addState_62 ?_
          refine y_icmp_ne hE 73 (by decide) (by omega) (by omega) dX4_addState_64 (fun c_64 => ?_) (fun c_64 => ?_)
          · refine y_aload_n hE rfl 0 rfl dX4_addState_73 ?_
            refine gX4_47r (z := 0) hE h40 (MObj.r hM.1 15 (by decide)) (by omega) dX4_addState_74 (fun hl_74 => ?_)
            refine y_aload_n hE rfl 0 rfl dX4_addState_77 ?_
            refine gX4_145 (z := S 19 0) hE h40 (hM.2.2.2.2.2.1) dX4_addState_78 ?_
            refine y_iload_n hE rfl 1 rfl dX4_addState_81 ?_
            refine y_iast hE (by unfold kC; decide) rfl (by simp [kTag]) hl_74 (by have hL : (up3 K 4 0 25 0) 115 0 (-1) = 10 := (MObj.l hM.1 15 (by decide)); omega) dX4_addState_82 ?_
            refine y_aload_n hE rfl 0 rfl dX4_addState_83 ?_
            refine gX4_50r (z := 0) hE h40 (MObj.r hM.1 16 (by decide)) (by omega) dX4_addState_84 (fun hl_84 => ?_)
            refine y_aload_n hE rfl 0 rfl dX4_addState_87 ?_
            refine gX4_145 (z := S 19 0) hE h40 (hM.2.2.2.2.2.1) dX4_addState_88 ?_
            refine y_iload_n hE rfl 2 rfl dX4_addState_91 ?_
            refine y_iast hE (by unfold kC; decide) rfl (by simp [kTag]) hl_84 (by have hL : (up3 (up3 K 4 0 25 0) 115 0 (S 19 0) nd) 116 0 (-1) = 10 := (MObj.l hM.1 16 (by decide)); omega) dX4_addState_92 ?_
            refine y_aload_n hE rfl 0 rfl dX4_addState_93 ?_
            refine gX4_53r (z := 0) hE h40 (MObj.r hM.1 17 (by decide)) (by omega) dX4_addState_94 (fun hl_94 => ?_)
            refine y_aload_n hE rfl 0 rfl dX4_addState_97 ?_
            refine gX4_145 (z := S 19 0) hE h40 (hM.2.2.2.2.2.1) dX4_addState_98 ?_
            refine y_iload_n hE rfl 3 rfl dX4_addState_101 ?_
            refine y_zast hE (by unfold kC; decide) rfl (by simp [kTag]) hl_94 (by have hL : (up3 (up3 (up3 K 4 0 25 0) 115 0 (S 19 0) nd) 116 0 (S 19 0) sp) 117 0 (-1) = 10 := (MObj.l hM.1 17 (by decide)); omega) (by rcases (by omega : lo = 0 ∨ lo = 1) with h | h <;> rw [h] <;> rfl) dX4_addState_102 ?_
            refine y_aload_n hE rfl 0 rfl dX4_addState_103 ?_
            refine gX4_56r (z := 0) hE h40 (MObj.r hM.1 18 (by decide)) (by omega) dX4_addState_104 (fun hl_104 => ?_)
            refine y_aload_n hE rfl 0 rfl dX4_addState_107 ?_
            refine gX4_145 (z := S 19 0) hE h40 (hM.2.2.2.2.2.1) dX4_addState_108 ?_
            refine y_iload hE 4 rfl dX4_addState_111 ?_
            refine y_iast hE (by unfold kC; decide) rfl (by simp [kTag]) hl_104 (by have hL : (up3 (up3 (up3 (up3 K 4 0 25 0) 115 0 (S 19 0) nd) 116 0 (S 19 0) sp) 117 0 (S 19 0) lo) 118 0 (-1) = 10 := (MObj.l hM.1 18 (by decide)); omega) dX4_addState_113 ?_
            refine y_aload_n hE rfl 0 rfl dX4_addState_114 ?_
            refine y_dup hE rfl dX4_addState_115 ?_
            refine gX4_145 (z := S 19 0) hE h40 (hM.2.2.2.2.2.1) dX4_addState_116 ?_
            refine y_iconst hE dX4_addState_119 ?_
            refine y_iadd hE dX4_addState_120 ?_
            refine pX4_145 hE h40 dX4_addState_121 ?_
            refine y_aload_n hE rfl 0 rfl dX4_addState_124 ?_
            refine gX4_145 (z := (S 19 0) + 1) hE h40 (by simp [up3, upr]) dX4_addState_125 ?_
            refine y_iconst hE dX4_addState_128 ?_
            refine y_icmp_ne hE 136 (by decide) (by omega) (by omega) dX4_addState_129 (fun c_129 => ?_) (fun c_129 => ?_)
            · refine y_aload_n hE rfl 0 rfl dX4_addState_136 ?_
              refine gX4_145 (z := (S 19 0) + 1) hE h40 (by simp [up3, upr]) dX4_addState_137 ?_
              refine y_iconst hE dX4_addState_140 ?_
              refine y_isub hE dX4_addState_141 ?_
              refine y_iret hE rfl rfl hQ dX4_addState_142 Ext.rf ?_
              refine ⟨rfl, rfl, ?_⟩
              unfold oAddState
              (repeat (first | rw [if_pos (by omega)] | rw [if_neg (by omega)]))
              exact ⟨(MRep.s (MRep.a (MRep.a (MRep.a (MRep.a (MRep.t hM 25 (by decide) 0) 15 rfl (j := S 19 0) (by omega) nd) 16 rfl (j := S 19 0) (by omega) sp) 17 rfl (j := S 19 0) (by omega) lo) 18 rfl (j := S 19 0) (by omega) gr) 19 (by decide) ((S 19 0) + 1)), (KO.up (KO.up (KO.up (KO.up (KO.up (KO.up KO.rf (by unfold MK; decide)) (by unfold MK; decide)) (by unfold MK; decide)) (by unfold MK; decide)) (by unfold MK; decide)) (by unfold MK; decide)), by first | (simp [up3]; done) | (rw [hk4]; simp [up3]), by first | rfl | (dsimp only; omega) | (simp [begS, trkS, up2])⟩
            · refine y_aload_n hE rfl 0 rfl dX4_addState_132 ?_
              have hz4 : (up3 (up3 (up3 (up3 (up3 (up3 K 4 0 25 0) 115 0 (S 19 0) nd) 116 0 (S 19 0) sp) 117 0 (S 19 0) lo) 118 0 (S 19 0) gr) 4 0 19 ((S 19 0) + 1)) 4 0 25 = 0 := by simp [up3]
              refine y_callV hE (m_X4_begins (up2 (up2 (up2 (up2 (up2 S 15 (S 19 0) nd) 16 (S 19 0) sp) 17 (S 19 0) lo) 18 (S 19 0) gr) 19 0 ((S 19 0) + 1)) h40 (MRep.s (MRep.a (MRep.a (MRep.a (MRep.a (MRep.t hM 25 (by decide) 0) 15 rfl (j := S 19 0) (by omega) nd) 16 rfl (j := S 19 0) (by omega) sp) 17 rfl (j := S 19 0) (by omega) lo) 18 rfl (j := S 19 0) (by omega) gr) 19 (by decide) ((S 19 0) + 1))) (lw_V q2933 q2935 qs59 q133 q2936) (nA := 0) (by decide +kernel) rfl ⟨Nat.le_of_ble_eq_true rfl, Nat.le_of_ble_eq_true rfl⟩ (hdd := rfl) (hcc := rfl) (hq := rfl) (hi := h40) (rest := []) rfl (by decide) dX4_addState_133 (bc' := 0) (bs' := 0) (Nat.le_refl _) (Nat.le_refl _) (fun r_133 n_133 α_133 K_133 hx_133 hp_133 => ?_)
              obtain ⟨rfl, rfl, hM_133, hk_133, hr_133⟩ := hp_133
              have hk4 := hk_133 4 0 (by decide) 25
              refine y_to (st' := []) rfl rfl rfl ?_
              refine y_aload_n hE rfl 0 rfl dX4_addState_136 ?_
              refine gX4_145 (z := (begS (up2 (up2 (up2 (up2 (up2 S 15 (S 19 0) nd) 16 (S 19 0) sp) 17 (S 19 0) lo) 18 (S 19 0) gr) 19 0 ((S 19 0) + 1))) 19 0) hE h40 (hM_133.2.2.2.2.2.1) dX4_addState_137 ?_
              refine y_iconst hE dX4_addState_140 ?_
              refine y_isub hE dX4_addState_141 ?_
              refine y_iret hE rfl rfl hQ dX4_addState_142 Ext.rf ?_
              refine ⟨rfl, rfl, ?_⟩
              unfold oAddState
              (repeat (first | rw [if_pos (by omega)] | rw [if_neg (by omega)]))
              exact ⟨hM_133, ((KO.up (KO.up (KO.up (KO.up (KO.up (KO.up KO.rf (by unfold MK; decide)) (by unfold MK; decide)) (by unfold MK; decide)) (by unfold MK; decide)) (by unfold MK; decide)) (by unfold MK; decide)).tr (KO.mono hk_133 (fun k i z => by unfold MK; (try dsimp only at z); (try dsimp only); omega))), by first | (simp [up3]; done) | (rw [hk4]; simp [up3]), by first | rfl | (dsimp only; omega) | (simp [begS, trkS, up2])⟩
          · refine y_aload_n hE rfl 0 rfl dX4_addState_67 ?_
            refine y_iconst hE dX4_addState_68 ?_
            refine y_callV hE (m_X4_fails 3 h40) (lw_V q2871 q2873 qs53 q133 q2874) (nA := 1) (by decide +kernel) rfl ⟨Nat.le_of_ble_eq_true rfl, Nat.le_of_ble_eq_true rfl⟩ (hdd := rfl) (hcc := rfl) (hq := rfl) (hi := h40) (rest := []) rfl (by decide) dX4_addState_69 (bc' := 0) (bs' := 0) (Nat.le_refl _) (Nat.le_refl _) (fun r_69_2 n_69_2 α_69_2 K_69_2 hx_69_2 hp_69_2 => ?_)
            obtain ⟨rfl, rfl, rfl, hr_69_2⟩ := hp_69_2
            refine y_to (st' := [.int (iI r_69_2)]) rfl rfl rfl ?_
            refine y_iret hE rfl rfl hQ dX4_addState_72 Ext.rf ?_
            refine ⟨rfl, rfl, ?_⟩
            unfold oAddState
            (repeat (first | rw [if_pos (by omega)] | rw [if_neg (by omega)]))
            exact ⟨(MRep.t (MRep.t hM 25 (by decide) 0) 25 (by decide) 3), (KO.up (KO.up KO.rf (by unfold MK; decide)) (by unfold MK; decide)), by simp [up3], by first | rfl | (dsimp only; omega)⟩
      · refine y_aload_n hE rfl 0 rfl dX4_addState_44 ?_
        refine y_iconst hE dX4_addState_45 ?_
        refine y_callV hE (m_X4_fails 2 h40) (lw_V q2871 q2873 qs53 q133 q2874) (nA := 1) (by decide +kernel) rfl ⟨Nat.le_of_ble_eq_true rfl, Nat.le_of_ble_eq_true rfl⟩ (hdd := rfl) (hcc := rfl) (hq := rfl) (hi := h40) (rest := []) rfl (by decide) dX4_addState_46 (bc' := 0) (bs' := 0) (Nat.le_refl _) (Nat.le_refl _) (fun r_46_2 n_46_2 α_46_2 K_46_2 hx_46_2 hp_46_2 => ?_)
        obtain ⟨rfl, rfl, rfl, hr_46_2⟩ := hp_46_2
        refine y_to (st' := [.int (iI r_46_2)]) rfl rfl rfl ?_
        refine y_iret hE rfl rfl hQ dX4_addState_49 Ext.rf ?_
        refine ⟨rfl, rfl, ?_⟩
        unfold oAddState
        (repeat (first | rw [if_pos (by omega)] | rw [if_neg (by omega)]))
        exact ⟨(MRep.t (MRep.t hM 25 (by decide) 0) 25 (by decide) 2), (KO.up (KO.up KO.rf (by unfold MK; decide)) (by unfold MK; decide)), by simp [up3], by first | rfl | (dsimp only; omega)⟩
  · refine y_aload_n hE rfl 0 rfl dX4_addState_13 ?_
    refine y_iconst hE dX4_addState_14 ?_
    refine y_callV hE (m_X4_fails 1 h40) (lw_V q2871 q2873 qs53 q133 q2874) (nA := 1) (by decide +kernel) rfl ⟨Nat.le_of_ble_eq_true rfl, Nat.le_of_ble_eq_true rfl⟩ (hdd := rfl) (hcc := rfl) (hq := rfl) (hi := h40) (rest := []) rfl (by decide) dX4_addState_15 (bc' := 0) (bs' := 0) (Nat.le_refl _) (Nat.le_refl _) (fun r_15 n_15 α_15 K_15 hx_15 hp_15 => ?_)
    obtain ⟨rfl, rfl, rfl, hr_15⟩ := hp_15
    refine y_to (st' := [.int (iI r_15)]) rfl rfl rfl ?_
    refine y_iret hE rfl rfl hQ dX4_addState_18 Ext.rf ?_
    refine ⟨rfl, rfl, ?_⟩
    unfold oAddState
    (repeat (first | rw [if_pos (by omega)] | rw [if_neg (by omega)]))
    exact ⟨(MRep.t (MRep.t hM 25 (by decide) 0) 25 (by decide) 1), (KO.up (KO.up KO.rf (by unfold MK; decide)) (by unfold MK; decide)), by simp [up3], by first | rfl | (dsimp only; omega)⟩
def zer (S : SS) (f : Nat) (b : Int) : Nat → SS
  | 0 => S
  | k + 1 => up2 (zer S f b k) f (b + k) 0
theorem zer_s {S : SS} {f : Nat} {b k : Int} (h : 0 ≤ k) : zer S f b (k + 1).toNat = up2 (zer S f b k.toNat) f (b + k) 0 := by
  rw [show (k + 1).toNat = k.toNat + 1 by omega, zer, show ((k.toNat : Nat) : Int) = k by omega]
theorem zer_f {S : SS} {f g : Nat} {b : Int} (h : g ≠ f) : ∀ k : Nat, zer S f b k g = S g
  | 0 => rfl
  | k + 1 => by funext j; rw [zer, up2_f _ _ _ _ h]; exact congrFun (zer_f h k) j
def newTr (S : SS) (fr to du : Int) : SS := up2 (up2 (up2 (up2 (up2 (zer S 20 (17 * S 21 0) 17) 20 (17 * S 21 0) fr) 20 (17 * S 21 0 + 1) to) 20 (17 * S 21 0 + 2) du) 20 (17 * S 21 0 + 3) (-1)) 21 0 (S 21 0 + 1)
set_option maxHeartbeats 4000000 in
set_option maxRecDepth 100000 in
theorem m_X4_of {w : KW} {n : KN} {α : KA} {K : KS} (S : SS) (t k : Int) (h40 : (0 : Int) ≤ 0 ∧ 0 < n 4) (hM : MRep S n K) (ht : 0 ≤ t ∧ t < 24 ∧ 0 ≤ k ∧ k < 17) : KM w yX4_of cX4_of 3 (some (.int)) { frames := 0, cells := 0, slots := 0, locals := 0 } (0, 0) [.ref (α 4 0), .int (iI t), .int (iI k)] n α K (fun r n' α' K' => n = n' ∧ α = α' ∧ K = K' ∧ (r = S 20 (17 * t + k))) := by
  refine y_start (by decide) (Nat.le_of_ble_eq_true rfl) (fun x hE hQ => ?_)
  have hw := hQ.2
  subst hw
  have hE : YE x cX4_of RX4 (some (.int)) "of" 3 { frames := 0, cells := 0, slots := 0, locals := 0 } := hE
  refine y_wk (fun hWK => ?_)
  have hn0 := hWK.1
  refine y_bud (bc' := 0) (bs' := 0) (Nat.le_refl _) (Nat.le_refl _) ?_
  refine y_to (lv' := [(0, .ref (α 4 0)), (1, .int (iI t)), (2, .int (iI k))]) (st' := []) rfl rfl rfl ?_
  refine y_aload_n hE rfl 0 rfl dX4_of_0 ?_
  refine gX4_59r (z := 0) hE h40 (MObj.r hM.1 20 (by decide)) (by omega) dX4_of_1 (fun hl_1 => ?_)
  refine y_bipush hE (by decide) dX4_of_4 ?_
  refine y_iload_n hE rfl 1 rfl dX4_of_6 ?_
  refine y_imul hE dX4_of_7 ?_
  refine y_iload_n hE rfl 2 rfl dX4_of_8 ?_
  refine y_iadd hE dX4_of_9 ?_
  refine y_iald hE rfl hl_1 (by have hL : K 120 0 (-1) = 408 := (MObj.l hM.1 20 (by decide)); omega) dX4_of_10 ?_
  refine y_to (st' := [.int (iI (S 20 ((17 * t) + k)))]) rfl rfl (by rw [show K 120 0 ((17 * t) + k) = S 20 ((17 * t) + k) from (MRep.ra hM 20 rfl (by omega) (by first | omega | (show _ < (408 : Int); omega)))]) ?_
  exact y_iret hE rfl rfl hQ dX4_of_11 Ext.rf ⟨rfl, rfl, rfl, rfl⟩
set_option maxHeartbeats 4000000 in
set_option maxRecDepth 100000 in
theorem m_X4_newTransition {w : KW} {n : KN} {α : KA} {K : KS} (S : SS) (fr to du : Int) (h40 : (0 : Int) ≤ 0 ∧ 0 < n 4) (hM : MRep S n K) (hc : 0 ≤ S 21 0 ∧ S 21 0 < 24) : KM w yX4_newTransition cX4_newTransition 6 none { frames := 0, cells := 0, slots := 0, locals := 0 } (3, 0) [.ref (α 4 0), .int (iI fr), .int (iI to), .int (iI du)] n α K (fun r n' α' K' => n = n' ∧ α = α' ∧ MRep (newTr S fr to du) n K' ∧ KO K K' (fun k _ => k = 120 ∨ k = 4) ∧ (K' 4 0 25 = K 4 0 25)) := by
  refine y_start (by decide) (Nat.le_of_ble_eq_true rfl) (fun x hE hQ => ?_)
  have hw := hQ.2
  subst hw
  have hE : YE x cX4_newTransition RX4 none "newTransition" 6 { frames := 0, cells := 0, slots := 0, locals := 0 } := hE
  refine y_wk (fun hWK => ?_)
  have hn0 := hWK.1
  refine y_bud (bc' := 0) (bs' := 0) (Nat.le_refl _) (Nat.le_refl _) ?_
  refine y_to (lv' := [(0, .ref (α 4 0)), (1, .int (iI fr)), (2, .int (iI to)), (3, .int (iI du))]) (st' := []) rfl rfl rfl ?_
  refine y_bipush hE (by decide) dX4_newTransition_0 ?_
  refine y_aload_n hE rfl 0 rfl dX4_newTransition_2 ?_
  refine gX4_159 (z := S 21 0) hE h40 (hM.2.2.2.2.2.2.1) dX4_newTransition_3 ?_
  refine y_imul hE dX4_newTransition_6 ?_
  refine y_istore hE [(4, .int (iI (17 * (S 21 0)))), (0, .ref (α 4 0)), (1, .int (iI fr)), (2, .int (iI to)), (3, .int (iI du))] (by decide) rfl dX4_newTransition_7 ?_
  refine y_iconst hE dX4_newTransition_9 ?_
  refine y_istore hE [(5, .int (iI 0)), (4, .int (iI (17 * (S 21 0)))), (0, .ref (α 4 0)), (1, .int (iI fr)), (2, .int (iI to)), (3, .int (iI du))] (by decide) rfl dX4_newTransition_10 ?_
  have L12 : ∀ (fuel : Nat) (K2 : KS) (k : Int), (MRep (zer S 20 (17 * S 21 0) k.toNat) n K2) → (KO K K2 (fun k _ => k = 120 ∨ k = 4)) → (0 ≤ k ∧ k ≤ 17) → (K2 4 0 25 = K 4 0 25) → (17 - k).toNat < fuel → Y x n α K2 0 0 12 [(5, .int (iI k)), (4, .int (iI (17 * (S 21 0)))), (0, .ref (α 4 0)), (1, .int (iI fr)), (2, .int (iI to)), (3, .int (iI du))] [] := by
    intro fuel12
    induction fuel12 with
    | zero => intro K2 k hM2 hk2 hk h25 hfu12; exact absurd hfu12 (Nat.not_lt_zero _)
    | succ fuel12 ih12 =>
      intro K2 k hM2 hk2 hk h25 hfu12
      refine y_iload hE 0 rfl dX4_newTransition_12 ?_
      refine y_bipush hE (by decide) dX4_newTransition_14 ?_
      refine y_icmp_ge hE 36 (by decide) (by omega) (by omega) dX4_newTransition_16 (fun c_16 => ?_) (fun c_16 => ?_)
      · refine y_aload_n hE rfl 2 rfl dX4_newTransition_36 ?_
        refine gX4_59r (z := 0) hE h40 (MObj.r hM2.1 20 (by decide)) (by omega) dX4_newTransition_37 (fun hl_37 => ?_)
        refine y_iload hE 1 rfl dX4_newTransition_40 ?_
        refine y_iconst hE dX4_newTransition_42 ?_
        refine y_iadd hE dX4_newTransition_43 ?_
        refine y_to (st' := [.int (iI (17 * (S 21 0))), .ref (α 120 0)]) rfl rfl (by rw [Int.add_zero]) ?_
        refine y_iload_n hE rfl 3 rfl dX4_newTransition_44 ?_
        refine y_iast hE (by unfold kC; decide) rfl (by simp [kTag]) hl_37 (by have hL : K2 120 0 (-1) = 408 := (MObj.l hM2.1 20 (by decide)); omega) dX4_newTransition_45 ?_
        refine y_aload_n hE rfl 2 rfl dX4_newTransition_46 ?_
        refine gX4_59r (z := 0) hE h40 (MObj.r hM2.1 20 (by decide)) (by omega) dX4_newTransition_47 (fun hl_47 => ?_)
        refine y_iload hE 1 rfl dX4_newTransition_50 ?_
        refine y_iconst hE dX4_newTransition_52 ?_
        refine y_iadd hE dX4_newTransition_53 ?_
        refine y_iload_n hE rfl 4 rfl dX4_newTransition_54 ?_
        refine y_iast hE (by unfold kC; decide) rfl (by simp [kTag]) hl_47 (by have hL : (up3 K2 120 0 (17 * (S 21 0)) fr) 120 0 (-1) = 408 := (MObj.l (MRep.a hM2 20 rfl (j := 17 * (S 21 0)) (by omega) fr).1 20 (by decide)); omega) dX4_newTransition_55 ?_
        refine y_aload_n hE rfl 2 rfl dX4_newTransition_56 ?_
        refine gX4_59r (z := 0) hE h40 (MObj.r hM2.1 20 (by decide)) (by omega) dX4_newTransition_57 (fun hl_57 => ?_)
        refine y_iload hE 1 rfl dX4_newTransition_60 ?_
        refine y_iconst hE dX4_newTransition_62 ?_
        refine y_iadd hE dX4_newTransition_63 ?_
        refine y_iload_n hE rfl 5 rfl dX4_newTransition_64 ?_
        refine y_iast hE (by unfold kC; decide) rfl (by simp [kTag]) hl_57 (by have hL : (up3 (up3 K2 120 0 (17 * (S 21 0)) fr) 120 0 ((17 * (S 21 0)) + 1) to) 120 0 (-1) = 408 := (MObj.l (MRep.a (MRep.a hM2 20 rfl (j := 17 * (S 21 0)) (by omega) fr) 20 rfl (j := (17 * (S 21 0)) + 1) (by omega) to).1 20 (by decide)); omega) dX4_newTransition_65 ?_
        refine y_aload_n hE rfl 2 rfl dX4_newTransition_66 ?_
        refine gX4_59r (z := 0) hE h40 (MObj.r hM2.1 20 (by decide)) (by omega) dX4_newTransition_67 (fun hl_67 => ?_)
        refine y_iload hE 1 rfl dX4_newTransition_70 ?_
        refine y_iconst hE dX4_newTransition_72 ?_
        refine y_iadd hE dX4_newTransition_73 ?_
        refine y_iconst hE dX4_newTransition_74 ?_
        refine y_iast hE (by unfold kC; decide) rfl (by simp [kTag]) hl_67 (by have hL : (up3 (up3 (up3 K2 120 0 (17 * (S 21 0)) fr) 120 0 ((17 * (S 21 0)) + 1) to) 120 0 ((17 * (S 21 0)) + 2) du) 120 0 (-1) = 408 := (MObj.l (MRep.a (MRep.a (MRep.a hM2 20 rfl (j := 17 * (S 21 0)) (by omega) fr) 20 rfl (j := (17 * (S 21 0)) + 1) (by omega) to) 20 rfl (j := (17 * (S 21 0)) + 2) (by omega) du).1 20 (by decide)); omega) dX4_newTransition_75 ?_
        refine y_aload_n hE rfl 2 rfl dX4_newTransition_76 ?_
        refine y_dup hE rfl dX4_newTransition_77 ?_
        refine gX4_159 (z := (zer S 20 (17 * S 21 0) k.toNat) 21 0) hE h40 (hM2.2.2.2.2.2.2.1) dX4_newTransition_78 ?_
        refine y_iconst hE dX4_newTransition_81 ?_
        refine y_iadd hE dX4_newTransition_82 ?_
        refine pX4_159 hE h40 dX4_newTransition_83 ?_
        refine y_vret (r := 0) hE rfl hQ dX4_newTransition_86 Ext.rf ?_
        refine ⟨rfl, rfl, ?_, (KO.up (KO.up (KO.up (KO.up (KO.up hk2 (by decide)) (by decide)) (by decide)) (by decide)) (by decide)), by simp [up3, h25]⟩
        have hz : zer S 20 (17 * S 21 0) k.toNat 21 = S 21 := zer_f (by decide) _
        have hx := (MRep.s (MRep.a (MRep.a (MRep.a (MRep.a hM2 20 rfl (j := 17 * (S 21 0)) (by omega) fr) 20 rfl (j := (17 * (S 21 0)) + 1) (by omega) to) 20 rfl (j := (17 * (S 21 0)) + 2) (by omega) du) 20 rfl (j := (17 * (S 21 0)) + 3) (by omega) (-1)) 21 (by decide) (((zer S 20 (17 * S 21 0) k.toNat) 21 0) + 1))
        rw [hz, show k.toNat = 17 by omega] at hx
        rw [hz]
        exact hx
      · refine y_aload_n hE rfl 2 rfl dX4_newTransition_19 ?_
        refine gX4_59r (z := 0) hE h40 (MObj.r hM2.1 20 (by decide)) (by omega) dX4_newTransition_20 (fun hl_20 => ?_)
        refine y_iload hE 1 rfl dX4_newTransition_23 ?_
        refine y_iload hE 0 rfl dX4_newTransition_25 ?_
        refine y_iadd hE dX4_newTransition_27 ?_
        refine y_iconst hE dX4_newTransition_28 ?_
        refine y_iast hE (by unfold kC; decide) rfl (by simp [kTag]) hl_20 (by have hL : K2 120 0 (-1) = 408 := (MObj.l hM2.1 20 (by decide)); omega) dX4_newTransition_29 ?_
        refine y_iinc hE 0 rfl [(5, .int (iI (k + 1))), (4, .int (iI (17 * (S 21 0)))), (0, .ref (α 4 0)), (1, .int (iI fr)), (2, .int (iI to)), (3, .int (iI du))] (by decide) rfl dX4_newTransition_30 ?_
        refine y_goto hE 12 (by decide) dX4_newTransition_33 ?_
        exact ih12 (up3 K2 120 0 ((17 * (S 21 0)) + k) 0) (k + 1) (by rw [zer_s (by omega)]; exact (MRep.a hM2 20 rfl (j := (17 * (S 21 0)) + k) (by omega) 0)) ((KO.up hk2 (by decide))) (by omega) (by simp [up3]; try exact h25) (by omega)
  exact L12 _ K 0 (hM) (KO.rf) (by omega) (rfl) (Nat.lt_succ_self _)
def oAddTr (S : SS) (fr to du : Int) : Int × Int × SS := if ¬ ((fr = -1 ∨ 0 ≤ fr ∧ fr < S 19 0) ∧ 0 ≤ to ∧ to < S 19 0) then (1, 0, S) else if ¬ (0 ≤ du ∧ du ≤ 60) then (2, 0, S) else if S 21 0 = 24 then (3, 0, S) else (0, S 21 0, newTr S fr to du)
def oTiming (S : SS) (t ex st : Int) : Int × Int × SS := if ¬ (0 ≤ t ∧ t < S 21 0) then (1, 0, S) else if ¬ (-1 ≤ ex ∧ ex ≤ 300 ∧ 0 ≤ st ∧ st ≤ 99) then (2, 0, S) else if ex ≠ -1 ∧ S 20 (17 * t) = -1 then (3, 0, S) else (0, S 20 (17 * t + 3), up2 (up2 S 20 (17 * t + 3) ex) 20 (17 * t + 4) st)
def oInter (S : SS) (t md od : Int) : Int × Int × SS := if ¬ (0 ≤ t ∧ t < S 21 0) then (1, 0, S) else if ¬ (0 ≤ md ∧ md ≤ 4) then (2, 0, S) else (0, S 20 (17 * t + 5), up2 (up2 S 20 (17 * t + 5) md) 20 (17 * t + 6) od)
def cnd3 (S : SS) (t p o v : Int) : SS := up2 (up2 (up2 S 20 (17 * t + 8 + 3 * S 20 (17 * t + 7)) p) 20 (17 * t + 8 + 3 * S 20 (17 * t + 7) + 1) o) 20 (17 * t + 8 + 3 * S 20 (17 * t + 7) + 2) v
def cndS (S : SS) (t p o v : Int) : SS := up2 (cnd3 S t p o v) 20 (17 * t + 7) (cnd3 S t p o v 20 (17 * t + 7) + 1)
theorem cndS_n {S : SS} {t p o v : Int} (h : 0 ≤ S 20 (17 * t + 7)) : cndS S t p o v 20 (17 * t + 7) = S 20 (17 * t + 7) + 1 := by
  unfold cndS cnd3
  rw [up2_s, up2_j _ _ _ _ (by omega), up2_j _ _ _ _ (by omega), up2_j _ _ _ _ (by omega)]
def oAddCond (S : SS) (t p o v : Int) : Int × Int × SS := if ¬ (0 ≤ t ∧ t < S 21 0 ∧ 0 ≤ p ∧ p < S 3 0) then (1, 0, S) else
  if ¬ (S 2 p = 0 ∧ 0 ≤ o ∧ o ≤ 3 ∧ -100 ≤ v ∧ v ≤ 100 ∨ S 2 p ≠ 0 ∧ o = 2 ∧ (S 2 p = 1 ∧ 0 ≤ v ∨ S 2 p ≠ 1 ∧ 1 ≤ v) ∧ v ≤ 1) then (2, 0, S) else if S 20 (17 * t + 7) = 3 then (3, 0, S) else (0, S 20 (17 * t + 7) + 1, cndS S t p o v)
def oThr (S : SS) (v : Int) : Int × Int × SS := if ¬ (0 ≤ v ∧ v ≤ 100) then (1, 0, S) else (0, S 22 0, up2 S 22 0 v)
def oType (S : SS) (b : Int) : Int × Int × SS := if ¬ (0 ≤ b ∧ b ≤ 255) then (1, 0, S) else if S 24 0 = 150 then (2, 0, S) else (0, S 24 0 + 1, up2 (up2 S 23 (S 24 0) b) 24 0 (S 24 0 + 1))
def oClear (S : SS) : Int × Int × SS := (0, S 24 0, up2 S 24 0 0)
set_option maxHeartbeats 4000000 in
set_option maxRecDepth 100000 in
theorem m_X4_addTransition {w : KW} {n : KN} {α : KA} {K : KS} (S : SS) (fr to du : Int) (h40 : (0 : Int) ≤ 0 ∧ 0 < n 4) (hM : MRep S n K) (hW : WFs S) (hf : -2147483648 ≤ fr ∧ fr ≤ 2147483647) (ht : -2147483648 ≤ to ∧ to ≤ 2147483647) (hd : -2147483648 ≤ du ∧ du ≤ 2147483647) : KM w yX4_addTransition cX4_addTransition 4 (some (.int)) { frames := 2, cells := 0, slots := 0, locals := 46 } (0, 0) [.ref (α 4 0), .int (iI fr), .int (iI to), .int (iI du)] n α K (fun r n' α' K' => n = n' ∧ α = α' ∧ (MRep (oAddTr S fr to du).2.2 n K' ∧ KO K K' MK ∧ K' 4 0 25 = (oAddTr S fr to du).1 ∧ r = (oAddTr S fr to du).2.1)) := by
  refine y_start (by decide) (Nat.le_of_ble_eq_true rfl) (fun x hE hQ => ?_)
  have hw := hQ.2
  subst hw
  have hE : YE x cX4_addTransition RX4 (some (.int)) "addTransition" 4 { frames := 2, cells := 0, slots := 0, locals := 46 } := hE
  refine y_wk (fun hWK => ?_)
  have hn0 := hWK.1
  refine y_bud (bc' := 0) (bs' := 0) (Nat.le_refl _) (Nat.le_refl _) ?_
  refine y_to (lv' := [(0, .ref (α 4 0)), (1, .int (iI fr)), (2, .int (iI to)), (3, .int (iI du))]) (st' := []) rfl rfl rfl ?_
  have wpar := hW.par
  have wclips := hW.clips
  have wnodes := hW.nodes
  have wsts := hW.sts
  have wtrs := hW.trs
  have wthr := hW.thr
  have wtxt := hW.txt
  refine y_aload_n hE rfl 0 rfl dX4_addTransition_0 ?_
  refine y_iconst hE dX4_addTransition_1 ?_
  refine pX4_94 hE h40 dX4_addTransition_2 ?_
  refine y_iload_n hE rfl 1 rfl dX4_addTransition_5 ?_
  refine y_iconst hE dX4_addTransition_6 ?_
  refine y_icmp_eq hE 18 (by decide) (by omega) (by omega) dX4_addTransition_7 (fun c_7 => ?_) (fun c_7 => ?_)
  · refine y_aload_n hE rfl 0 rfl dX4_addTransition_18 ?_
    refine y_iload_n hE rfl 2 rfl dX4_addTransition_19 ?_
    refine y_callV hE (m_X4_isState S to h40 (MRep.t hM 25 (by decide) 0) (by omega) (by omega)) (lw_V q2945 q2947 qs61 q133 q2948) (nA := 1) (by decide +kernel) rfl ⟨Nat.le_of_ble_eq_true rfl, Nat.le_of_ble_eq_true rfl⟩ (hdd := rfl) (hcc := rfl) (hq := rfl) (hi := h40) (rest := []) rfl (by decide) dX4_addTransition_20 (bc' := 0) (bs' := 0) (Nat.le_refl _) (Nat.le_refl _) (fun r_20 n_20 α_20 K_20 hx_20 hp_20 => ?_)
    obtain ⟨rfl, rfl, rfl, hr_20⟩ := hp_20
    refine y_to (st' := [.int (iI r_20)]) rfl rfl rfl ?_
    refine y_if_ne hE 32 (by decide) (by omega) dX4_addTransition_23 (fun c_23 => ?_) (fun c_23 => ?_)
    · refine y_iload_n hE rfl 3 rfl dX4_addTransition_32 ?_
      refine y_i2l hE (by omega) dX4_addTransition_33 ?_
      refine y_lconst hE 0 (by decide) dX4_addTransition_34 ?_
      refine y_ldc2 hE 60 (v := 60) (by decide) q2949 dX4_addTransition_35 ?_
      refine y_callS hE (m_X4_in du 0 60 (by omega) (by omega) (by omega)) (lw_S q2868 q2869 q133 q2870) (nA := 3) (by decide +kernel) rfl ⟨Nat.le_of_ble_eq_true rfl, Nat.le_of_ble_eq_true rfl⟩ (rest := []) rfl (by decide) dX4_addTransition_38 (bc' := 0) (bs' := 0) (Nat.le_refl _) (Nat.le_refl _) (fun r_38 n_38 α_38 K_38 hx_38 hp_38 => ?_)
      obtain ⟨rfl, rfl, rfl, hr_38⟩ := hp_38
      refine y_to (st' := [.int (iI r_38)]) rfl rfl rfl ?_
      refine y_if_ne hE 50 (by decide) (by omega) dX4_addTransition_41 (fun c_41 => ?_) (fun c_41 => ?_)
      · refine y_aload_n hE rfl 0 rfl dX4_addTransition_50 ?_
        refine gX4_159 (z := S 21 0) hE h40 (hM.2.2.2.2.2.2.1) dX4_addTransition_51 ?_
        refine y_bipush hE (by decide) dX4_addTransition_54 ?_
        refine y_icmp_ne hE 65 (by decide) (by omega) (by omega) dX4_addTransition_56 (fun c_56 => ?_) (fun c_56 => ?_)
        · refine y_aload_n hE rfl 0 rfl dX4_addTransition_65 ?_
          refine y_iload_n hE rfl 1 rfl dX4_addTransition_66 ?_
          refine y_iload_n hE rfl 2 rfl dX4_addTransition_67 ?_
          refine y_iload_n hE rfl 3 rfl dX4_addTransition_68 ?_
          have hz4 : (up3 K 4 0 25 0) 4 0 25 = 0 := by simp [up3]
          refine y_callV hE (m_X4_newTransition S fr to du h40 (MRep.t hM 25 (by decide) 0) (by omega)) (lw_V q2950 q2952 qs62 q133 q2953) (nA := 3) (by decide +kernel) rfl ⟨Nat.le_of_ble_eq_true rfl, Nat.le_of_ble_eq_true rfl⟩ (hdd := rfl) (hcc := rfl) (hq := rfl) (hi := h40) (rest := []) rfl (by decide) dX4_addTransition_69 (bc' := 0) (bs' := 0) (Nat.le_refl _) (Nat.le_refl _) (fun r_69 n_69 α_69 K_69 hx_69 hp_69 => ?_)
          obtain ⟨rfl, rfl, hM_69, hk_69, hr_69⟩ := hp_69
          have hk4 := hr_69
          rw [hz4] at hk4
          refine y_to (st' := []) rfl rfl rfl ?_
          refine y_aload_n hE rfl 0 rfl dX4_addTransition_72 ?_
          refine gX4_159 (z := (newTr S fr to du) 21 0) hE h40 (hM_69.2.2.2.2.2.2.1) dX4_addTransition_73 ?_
          refine y_iconst hE dX4_addTransition_76 ?_
          refine y_isub hE dX4_addTransition_77 ?_
          refine y_iret hE rfl rfl hQ dX4_addTransition_78 Ext.rf ?_
          refine ⟨rfl, rfl, ?_⟩
          unfold oAddTr
          (repeat (first | rw [if_pos (by omega)] | rw [if_neg (by omega)]))
          exact ⟨hM_69, ((KO.up KO.rf (by unfold MK; decide)).tr (KO.mono hk_69 (fun k i z => by unfold MK; (try dsimp only at z); (try dsimp only); omega))), hk4, by simp [newTr, up2]⟩
        · refine y_aload_n hE rfl 0 rfl dX4_addTransition_59 ?_
          refine y_iconst hE dX4_addTransition_60 ?_
          refine y_callV hE (m_X4_fails 3 h40) (lw_V q2871 q2873 qs53 q133 q2874) (nA := 1) (by decide +kernel) rfl ⟨Nat.le_of_ble_eq_true rfl, Nat.le_of_ble_eq_true rfl⟩ (hdd := rfl) (hcc := rfl) (hq := rfl) (hi := h40) (rest := []) rfl (by decide) dX4_addTransition_61 (bc' := 0) (bs' := 0) (Nat.le_refl _) (Nat.le_refl _) (fun r_61 n_61 α_61 K_61 hx_61 hp_61 => ?_)
          obtain ⟨rfl, rfl, rfl, hr_61⟩ := hp_61
          refine y_to (st' := [.int (iI r_61)]) rfl rfl rfl ?_
          refine y_iret hE rfl rfl hQ dX4_addTransition_64 Ext.rf ?_
          refine ⟨rfl, rfl, ?_⟩
          unfold oAddTr
          (repeat (first | rw [if_pos (by omega)] | rw [if_neg (by omega)]))
          exact ⟨(MRep.t (MRep.t hM 25 (by decide) 0) 25 (by decide) 3), (KO.up (KO.up KO.rf (by unfold MK; decide)) (by unfold MK; decide)), by simp [up3], by first | rfl | (dsimp only; omega)⟩
      · refine y_aload_n hE rfl 0 rfl dX4_addTransition_44 ?_
        refine y_iconst hE dX4_addTransition_45 ?_
        refine y_callV hE (m_X4_fails 2 h40) (lw_V q2871 q2873 qs53 q133 q2874) (nA := 1) (by decide +kernel) rfl ⟨Nat.le_of_ble_eq_true rfl, Nat.le_of_ble_eq_true rfl⟩ (hdd := rfl) (hcc := rfl) (hq := rfl) (hi := h40) (rest := []) rfl (by decide) dX4_addTransition_46 (bc' := 0) (bs' := 0) (Nat.le_refl _) (Nat.le_refl _) (fun r_46 n_46 α_46 K_46 hx_46 hp_46 => ?_)
        obtain ⟨rfl, rfl, rfl, hr_46⟩ := hp_46
        refine y_to (st' := [.int (iI r_46)]) rfl rfl rfl ?_
        refine y_iret hE rfl rfl hQ dX4_addTransition_49 Ext.rf ?_
        refine ⟨rfl, rfl, ?_⟩
        unfold oAddTr
        (repeat (first | rw [if_pos (by omega)] | rw [if_neg (by omega)]))
        exact ⟨(MRep.t (MRep.t hM 25 (by decide) 0) 25 (by decide) 2), (KO.up (KO.up KO.rf (by unfold MK; decide)) (by unfold MK; decide)), by simp [up3], by first | rfl | (dsimp only; omega)⟩
    · refine y_aload_n hE rfl 0 rfl dX4_addTransition_26 ?_
      refine y_iconst hE dX4_addTransition_27 ?_
      refine y_callV hE (m_X4_fails 1 h40) (lw_V q2871 q2873 qs53 q133 q2874) (nA := 1) (by decide +kernel) rfl ⟨Nat.le_of_ble_eq_true rfl, Nat.le_of_ble_eq_true rfl⟩ (hdd := rfl) (hcc := rfl) (hq := rfl) (hi := h40) (rest := []) rfl (by decide) dX4_addTransition_28 (bc' := 0) (bs' := 0) (Nat.le_refl _) (Nat.le_refl _) (fun r_28 n_28 α_28 K_28 hx_28 hp_28 => ?_)
      obtain ⟨rfl, rfl, rfl, hr_28⟩ := hp_28
      refine y_to (st' := [.int (iI r_28)]) rfl rfl rfl ?_
      refine y_iret hE rfl rfl hQ dX4_addTransition_31 Ext.rf ?_
      refine ⟨rfl, rfl, ?_⟩
      unfold oAddTr
      (repeat (first | rw [if_pos (by omega)] | rw [if_neg (by omega)]))
      exact ⟨(MRep.t (MRep.t hM 25 (by decide) 0) 25 (by decide) 1), (KO.up (KO.up KO.rf (by unfold MK; decide)) (by unfold MK; decide)), by simp [up3], by first | rfl | (dsimp only; omega)⟩
  · refine y_aload_n hE rfl 0 rfl dX4_addTransition_10 ?_
    refine y_iload_n hE rfl 1 rfl dX4_addTransition_11 ?_
    refine y_callV hE (m_X4_isState S fr h40 (MRep.t hM 25 (by decide) 0) (by omega) (by omega)) (lw_V q2945 q2947 qs61 q133 q2948) (nA := 1) (by decide +kernel) rfl ⟨Nat.le_of_ble_eq_true rfl, Nat.le_of_ble_eq_true rfl⟩ (hdd := rfl) (hcc := rfl) (hq := rfl) (hi := h40) (rest := []) rfl (by decide) dX4_addTransition_12 (bc' := 0) (bs' := 0) (Nat.le_refl _) (Nat.le_refl _) (fun r_12 n_12 α_12 K_12 hx_12 hp_12 => ?_)
    obtain ⟨rfl, rfl, rfl, hr_12⟩ := hp_12
    refine y_to (st' := [.int (iI r_12)]) rfl rfl rfl ?_
    refine y_if_eq hE 26 (by decide) (by omega) dX4_addTransition_15 (fun c_15 => ?_) (fun c_15 => ?_)
    · refine y_aload_n hE rfl 0 rfl dX4_addTransition_26 ?_
      refine y_iconst hE dX4_addTransition_27 ?_
      refine y_callV hE (m_X4_fails 1 h40) (lw_V q2871 q2873 qs53 q133 q2874) (nA := 1) (by decide +kernel) rfl ⟨Nat.le_of_ble_eq_true rfl, Nat.le_of_ble_eq_true rfl⟩ (hdd := rfl) (hcc := rfl) (hq := rfl) (hi := h40) (rest := []) rfl (by decide) dX4_addTransition_28 (bc' := 0) (bs' := 0) (Nat.le_refl _) (Nat.le_refl _) (fun r_28_2 n_28_2 α_28_2 K_28_2 hx_28_2 hp_28_2 => ?_)
      obtain ⟨rfl, rfl, rfl, hr_28_2⟩ := hp_28_2
      refine y_to (st' := [.int (iI r_28_2)]) rfl rfl rfl ?_
      refine y_iret hE rfl rfl hQ dX4_addTransition_31 Ext.rf ?_
      refine ⟨rfl, rfl, ?_⟩
      unfold oAddTr
      (repeat (first | rw [if_pos (by omega)] | rw [if_neg (by omega)]))
      exact ⟨(MRep.t (MRep.t hM 25 (by decide) 0) 25 (by decide) 1), (KO.up (KO.up KO.rf (by unfold MK; decide)) (by unfold MK; decide)), by simp [up3], by first | rfl | (dsimp only; omega)⟩
    · refine y_aload_n hE rfl 0 rfl dX4_addTransition_18 ?_
      refine y_iload_n hE rfl 2 rfl dX4_addTransition_19 ?_
      refine y_callV hE (m_X4_isState S to h40 (MRep.t hM 25 (by decide) 0) (by omega) (by omega)) (lw_V q2945 q2947 qs61 q133 q2948) (nA := 1) (by decide +kernel) rfl ⟨Nat.le_of_ble_eq_true rfl, Nat.le_of_ble_eq_true rfl⟩ (hdd := rfl) (hcc := rfl) (hq := rfl) (hi := h40) (rest := []) rfl (by decide) dX4_addTransition_20 (bc' := 0) (bs' := 0) (Nat.le_refl _) (Nat.le_refl _) (fun r_20_2 n_20_2 α_20_2 K_20_2 hx_20_2 hp_20_2 => ?_)
      obtain ⟨rfl, rfl, rfl, hr_20_2⟩ := hp_20_2
      refine y_to (st' := [.int (iI r_20_2)]) rfl rfl rfl ?_
      refine y_if_ne hE 32 (by decide) (by omega) dX4_addTransition_23 (fun c_23_2 => ?_) (fun c_23_2 => ?_)
      · refine y_iload_n hE rfl 3 rfl dX4_addTransition_32 ?_
        refine y_i2l hE (by omega) dX4_addTransition_33 ?_
        refine y_lconst hE 0 (by decide) dX4_addTransition_34 ?_
        refine y_ldc2 hE 60 (v := 60) (by decide) q2949 dX4_addTransition_35 ?_
        refine y_callS hE (m_X4_in du 0 60 (by omega) (by omega) (by omega)) (lw_S q2868 q2869 q133 q2870) (nA := 3) (by decide +kernel) rfl ⟨Nat.le_of_ble_eq_true rfl, Nat.le_of_ble_eq_true rfl⟩ (rest := []) rfl (by decide) dX4_addTransition_38 (bc' := 0) (bs' := 0) (Nat.le_refl _) (Nat.le_refl _) (fun r_38_2 n_38_2 α_38_2 K_38_2 hx_38_2 hp_38_2 => ?_)
        obtain ⟨rfl, rfl, rfl, hr_38_2⟩ := hp_38_2
        refine y_to (st' := [.int (iI r_38_2)]) rfl rfl rfl ?_
        refine y_if_ne hE 50 (by decide) (by omega) dX4_addTransition_41 (fun c_41_2 => ?_) (fun c_41_2 => ?_)
        · refine y_aload_n hE rfl 0 rfl dX4_addTransition_50 ?_
          refine gX4_159 (z := S 21 0) hE h40 (hM.2.2.2.2.2.2.1) dX4_addTransition_51 ?_
          refine y_bipush hE (by decide) dX4_addTransition_54 ?_
          refine y_icmp_ne hE 65 (by decide) (by omega) (by omega) dX4_addTransition_56 (fun c_56_2 => ?_) (fun c_56_2 => ?_)
          · refine y_aload_n hE rfl 0 rfl dX4_addTransition_65 ?_
            refine y_iload_n hE rfl 1 rfl dX4_addTransition_66 ?_
            refine y_iload_n hE rfl 2 rfl dX4_addTransition_67 ?_
            refine y_iload_n hE rfl 3 rfl dX4_addTransition_68 ?_
            have hz4 : (up3 K 4 0 25 0) 4 0 25 = 0 := by simp [up3]
            refine y_callV hE (m_X4_newTransition S fr to du h40 (MRep.t hM 25 (by decide) 0) (by omega)) (lw_V q2950 q2952 qs62 q133 q2953) (nA := 3) (by decide +kernel) rfl ⟨Nat.le_of_ble_eq_true rfl, Nat.le_of_ble_eq_true rfl⟩ (hdd := rfl) (hcc := rfl) (hq := rfl) (hi := h40) (rest := []) rfl (by decide) dX4_addTransition_69 (bc' := 0) (bs' := 0) (Nat.le_refl _) (Nat.le_refl _) (fun r_69_2 n_69_2 α_69_2 K_69_2 hx_69_2 hp_69_2 => ?_)
            obtain ⟨rfl, rfl, hM_69_2, hk_69_2, hr_69_2⟩ := hp_69_2
            have hk4 := hr_69_2
            rw [hz4] at hk4
            refine y_to (st' := []) rfl rfl rfl ?_
            refine y_aload_n hE rfl 0 rfl dX4_addTransition_72 ?_
            refine gX4_159 (z := (newTr S fr to du) 21 0) hE h40 (hM_69_2.2.2.2.2.2.2.1) dX4_addTransition_73 ?_
            refine y_iconst hE dX4_addTransition_76 ?_
            refine y_isub hE dX4_addTransition_77 ?_
            refine y_iret hE rfl rfl hQ dX4_addTransition_78 Ext.rf ?_
            refine ⟨rfl, rfl, ?_⟩
            unfold oAddTr
            (repeat (first | rw [if_pos (by omega)] | rw [if_neg (by omega)]))
            exact ⟨hM_69_2, ((KO.up KO.rf (by unfold MK; decide)).tr (KO.mono hk_69_2 (fun k i z => by unfold MK; (try dsimp only at z); (try dsimp only); omega))), hk4, by simp [newTr, up2]⟩
          · refine y_aload_n hE rfl 0 rfl dX4_addTransition_59 ?_
            refine y_iconst hE dX4_addTransition_60 ?_
            refine y_callV hE (m_X4_fails 3 h40) (lw_V q2871 q2873 qs53 q133 q2874) (nA := 1) (by decide +kernel) rfl ⟨Nat.le_of_ble_eq_true rfl, Nat.le_of_ble_eq_true rfl⟩ (hdd := rfl) (hcc := rfl) (hq := rfl) (hi := h40) (rest := []) rfl (by decide) dX4_addTransition_61 (bc' := 0) (bs' := 0) (Nat.le_refl _) (Nat.le_refl _) (fun r_61_2 n_61_2 α_61_2 K_61_2 hx_61_2 hp_61_2 => ?_)
            obtain ⟨rfl, rfl, rfl, hr_61_2⟩ := hp_61_2
            refine y_to (st' := [.int (iI r_61_2)]) rfl rfl rfl ?_
            refine y_iret hE rfl rfl hQ dX4_addTransition_64 Ext.rf ?_
            refine ⟨rfl, rfl, ?_⟩
            unfold oAddTr
            (repeat (first | rw [if_pos (by omega)] | rw [if_neg (by omega)]))
            exact ⟨(MRep.t (MRep.t hM 25 (by decide) 0) 25 (by decide) 3), (KO.up (KO.up KO.rf (by unfold MK; decide)) (by unfold MK; decide)), by simp [up3], by first | rfl | (dsimp only; omega)⟩
        · refine y_aload_n hE rfl 0 rfl dX4_addTransition_44 ?_
          refine y_iconst hE dX4_addTransition_45 ?_
          refine y_callV hE (m_X4_fails 2 h40) (lw_V q2871 q2873 qs53 q133 q2874) (nA := 1) (by decide +kernel) rfl ⟨Nat.le_of_ble_eq_true rfl, Nat.le_of_ble_eq_true rfl⟩ (hdd := rfl) (hcc := rfl) (hq := rfl) (hi := h40) (rest := []) rfl (by decide) dX4_addTransition_46 (bc' := 0) (bs' := 0) (Nat.le_refl _) (Nat.le_refl _) (fun r_46_2 n_46_2 α_46_2 K_46_2 hx_46_2 hp_46_2 => ?_)
          obtain ⟨rfl, rfl, rfl, hr_46_2⟩ := hp_46_2
          refine y_to (st' := [.int (iI r_46_2)]) rfl rfl rfl ?_
          refine y_iret hE rfl rfl hQ dX4_addTransition_49 Ext.rf ?_
          refine ⟨rfl, rfl, ?_⟩
          unfold oAddTr
          (repeat (first | rw [if_pos (by omega)] | rw [if_neg (by omega)]))
          exact ⟨(MRep.t (MRep.t hM 25 (by decide) 0) 25 (by decide) 2), (KO.up (KO.up KO.rf (by unfold MK; decide)) (by unfold MK; decide)), by simp [up3], by first | rfl | (dsimp only; omega)⟩
      · refine y_aload_n hE rfl 0 rfl dX4_addTransition_26 ?_
        refine y_iconst hE dX4_addTransition_27 ?_
        refine y_callV hE (m_X4_fails 1 h40) (lw_V q2871 q2873 qs53 q133 q2874) (nA := 1) (by decide +kernel) rfl ⟨Nat.le_of_ble_eq_true rfl, Nat.le_of_ble_eq_true rfl⟩ (hdd := rfl) (hcc := rfl) (hq := rfl) (hi := h40) (rest := []) rfl (by decide) dX4_addTransition_28 (bc' := 0) (bs' := 0) (Nat.le_refl _) (Nat.le_refl _) (fun r_28_3 n_28_3 α_28_3 K_28_3 hx_28_3 hp_28_3 => ?_)
        obtain ⟨rfl, rfl, rfl, hr_28_3⟩ := hp_28_3
        refine y_to (st' := [.int (iI r_28_3)]) rfl rfl rfl ?_
        refine y_iret hE rfl rfl hQ dX4_addTransition_31 Ext.rf ?_
        refine ⟨rfl, rfl, ?_⟩
        unfold oAddTr
        (repeat (first | rw [if_pos (by omega)] | rw [if_neg (by omega)]))
        exact ⟨(MRep.t (MRep.t hM 25 (by decide) 0) 25 (by decide) 1), (KO.up (KO.up KO.rf (by unfold MK; decide)) (by unfold MK; decide)), by simp [up3], by first | rfl | (dsimp only; omega)⟩
set_option maxHeartbeats 4000000 in
set_option maxRecDepth 100000 in
theorem m_X4_setTiming {w : KW} {n : KN} {α : KA} {K : KS} (S : SS) (t ex st : Int) (h40 : (0 : Int) ≤ 0 ∧ 0 < n 4) (hM : MRep S n K) (hW : WFs S) (ht : -2147483648 ≤ t ∧ t ≤ 2147483647) (he : -2147483648 ≤ ex ∧ ex ≤ 2147483647) (hs : -2147483648 ≤ st ∧ st ≤ 2147483647) : KM w yX4_setTiming cX4_setTiming 5 (some (.int)) { frames := 2, cells := 0, slots := 0, locals := 46 } (0, 0) [.ref (α 4 0), .int (iI t), .int (iI ex), .int (iI st)] n α K (fun r n' α' K' => n = n' ∧ α = α' ∧ (MRep (oTiming S t ex st).2.2 n K' ∧ KO K K' MK ∧ K' 4 0 25 = (oTiming S t ex st).1 ∧ r = (oTiming S t ex st).2.1)) := by
  refine y_start (by decide) (Nat.le_of_ble_eq_true rfl) (fun x hE hQ => ?_)
  have hw := hQ.2
  subst hw
  have hE : YE x cX4_setTiming RX4 (some (.int)) "setTiming" 5 { frames := 2, cells := 0, slots := 0, locals := 46 } := hE
  refine y_wk (fun hWK => ?_)
  have hn0 := hWK.1
  refine y_bud (bc' := 0) (bs' := 0) (Nat.le_refl _) (Nat.le_refl _) ?_
  refine y_to (lv' := [(0, .ref (α 4 0)), (1, .int (iI t)), (2, .int (iI ex)), (3, .int (iI st))]) (st' := []) rfl rfl rfl ?_
  have wpar := hW.par
  have wclips := hW.clips
  have wnodes := hW.nodes
  have wsts := hW.sts
  have wtrs := hW.trs
  have wthr := hW.thr
  have wtxt := hW.txt
  refine y_aload_n hE rfl 0 rfl dX4_setTiming_0 ?_
  refine y_iconst hE dX4_setTiming_1 ?_
  refine pX4_94 hE h40 dX4_setTiming_2 ?_
  refine y_aload_n hE rfl 0 rfl dX4_setTiming_5 ?_
  refine y_iload_n hE rfl 1 rfl dX4_setTiming_6 ?_
  refine y_callV hE (m_X4_isTransition S t h40 (MRep.t hM 25 (by decide) 0) (by omega) (by omega)) (lw_V q2958 q2960 qs63 q133 q2961) (nA := 1) (by decide +kernel) rfl ⟨Nat.le_of_ble_eq_true rfl, Nat.le_of_ble_eq_true rfl⟩ (hdd := rfl) (hcc := rfl) (hq := rfl) (hi := h40) (rest := []) rfl (by decide) dX4_setTiming_7 (bc' := 0) (bs' := 0) (Nat.le_refl _) (Nat.le_refl _) (fun r_7 n_7 α_7 K_7 hx_7 hp_7 => ?_)
  obtain ⟨rfl, rfl, rfl, hr_7⟩ := hp_7
  refine y_to (st' := [.int (iI r_7)]) rfl rfl rfl ?_
  refine y_if_ne hE 19 (by decide) (by omega) dX4_setTiming_10 (fun c_10 => ?_) (fun c_10 => ?_)
  · have wt := hW.tr t (by omega) (by omega)
    refine y_iload_n hE rfl 2 rfl dX4_setTiming_19 ?_
    refine y_i2l hE (by omega) dX4_setTiming_20 ?_
    refine y_ldc2 hE (-1) (v := -1) (by decide) q2962 dX4_setTiming_21 ?_
    refine y_ldc2 hE 300 (v := 300) (by decide) q2963 dX4_setTiming_24 ?_
    refine y_callS hE (m_X4_in ex (-1) 300 (by omega) (by omega) (by omega)) (lw_S q2868 q2869 q133 q2870) (nA := 3) (by decide +kernel) rfl ⟨Nat.le_of_ble_eq_true rfl, Nat.le_of_ble_eq_true rfl⟩ (rest := []) rfl (by decide) dX4_setTiming_27 (bc' := 0) (bs' := 0) (Nat.le_refl _) (Nat.le_refl _) (fun r_27 n_27 α_27 K_27 hx_27 hp_27 => ?_)
    obtain ⟨rfl, rfl, rfl, hr_27⟩ := hp_27
    refine y_to (st' := [.int (iI r_27)]) rfl rfl rfl ?_
    refine y_if_eq hE 45 (by decide) (by omega) dX4_setTiming_30 (fun c_30 => ?_) (fun c_30 => ?_)
    · refine y_aload_n hE rfl 0 rfl dX4_setTiming_45 ?_
      refine y_iconst hE dX4_setTiming_46 ?_
      refine y_callV hE (m_X4_fails 2 h40) (lw_V q2871 q2873 qs53 q133 q2874) (nA := 1) (by decide +kernel) rfl ⟨Nat.le_of_ble_eq_true rfl, Nat.le_of_ble_eq_true rfl⟩ (hdd := rfl) (hcc := rfl) (hq := rfl) (hi := h40) (rest := []) rfl (by decide) dX4_setTiming_47 (bc' := 0) (bs' := 0) (Nat.le_refl _) (Nat.le_refl _) (fun r_47 n_47 α_47 K_47 hx_47 hp_47 => ?_)
      obtain ⟨rfl, rfl, rfl, hr_47⟩ := hp_47
      refine y_to (st' := [.int (iI r_47)]) rfl rfl rfl ?_
      refine y_iret hE rfl rfl hQ dX4_setTiming_50 Ext.rf ?_
      refine ⟨rfl, rfl, ?_⟩
      unfold oTiming
      (repeat (first | rw [if_pos (by omega)] | rw [if_neg (by omega)]))
      exact ⟨(MRep.t (MRep.t hM 25 (by decide) 0) 25 (by decide) 2), (KO.up (KO.up KO.rf (by unfold MK; decide)) (by unfold MK; decide)), by simp [up3], by first | rfl | (dsimp only; omega)⟩
    · refine y_iload_n hE rfl 3 rfl dX4_setTiming_33 ?_
      refine y_i2l hE (by omega) dX4_setTiming_34 ?_
      refine y_lconst hE 0 (by decide) dX4_setTiming_35 ?_
      refine y_ldc2 hE 99 (v := 99) (by decide) q2902 dX4_setTiming_36 ?_
      refine y_callS hE (m_X4_in st 0 99 (by omega) (by omega) (by omega)) (lw_S q2868 q2869 q133 q2870) (nA := 3) (by decide +kernel) rfl ⟨Nat.le_of_ble_eq_true rfl, Nat.le_of_ble_eq_true rfl⟩ (rest := []) rfl (by decide) dX4_setTiming_39 (bc' := 0) (bs' := 0) (Nat.le_refl _) (Nat.le_refl _) (fun r_39 n_39 α_39 K_39 hx_39 hp_39 => ?_)
      obtain ⟨rfl, rfl, rfl, hr_39⟩ := hp_39
      refine y_to (st' := [.int (iI r_39)]) rfl rfl rfl ?_
      refine y_if_ne hE 51 (by decide) (by omega) dX4_setTiming_42 (fun c_42 => ?_) (fun c_42 => ?_)
      · refine y_iload_n hE rfl 2 rfl dX4_setTiming_51 ?_
        refine y_iconst hE dX4_setTiming_52 ?_
        refine y_icmp_eq hE 72 (by decide) (by omega) (by omega) dX4_setTiming_53 (fun c_53 => ?_) (fun c_53 => ?_)
        · refine y_aload_n hE rfl 0 rfl dX4_setTiming_72 ?_
          refine y_iload_n hE rfl 1 rfl dX4_setTiming_73 ?_
          refine y_iconst hE dX4_setTiming_74 ?_
          refine y_callV hE (m_X4_of S t 3 h40 (MRep.t hM 25 (by decide) 0) (by omega)) (lw_V q2964 q2966 qs64 q133 q2967) (nA := 2) (by decide +kernel) rfl ⟨Nat.le_of_ble_eq_true rfl, Nat.le_of_ble_eq_true rfl⟩ (hdd := rfl) (hcc := rfl) (hq := rfl) (hi := h40) (rest := []) rfl (by decide) dX4_setTiming_75 (bc' := 0) (bs' := 0) (Nat.le_refl _) (Nat.le_refl _) (fun r_75 n_75 α_75 K_75 hx_75 hp_75 => ?_)
          obtain ⟨rfl, rfl, rfl, hr_75⟩ := hp_75
          have e_75 : S 20 (17 * t + 3) = r_75 := Eq.symm (by rw [hr_75])
          subst e_75
          refine y_to (st' := [.int (iI (S 20 (17 * t + 3)))]) rfl rfl rfl ?_
          refine y_istore hE [(4, .int (iI (S 20 (17 * t + 3)))), (0, .ref (α 4 0)), (1, .int (iI t)), (2, .int (iI ex)), (3, .int (iI st))] (by decide) rfl dX4_setTiming_78 ?_
          refine y_aload_n hE rfl 1 rfl dX4_setTiming_80 ?_
          refine gX4_59r (z := 0) hE h40 (MObj.r hM.1 20 (by decide)) (by omega) dX4_setTiming_81 (fun hl_81 => ?_)
          refine y_bipush hE (by decide) dX4_setTiming_84 ?_
          refine y_iload_n hE rfl 2 rfl dX4_setTiming_86 ?_
          refine y_imul hE dX4_setTiming_87 ?_
          refine y_iconst hE dX4_setTiming_88 ?_
          refine y_iadd hE dX4_setTiming_89 ?_
          refine y_iload_n hE rfl 3 rfl dX4_setTiming_90 ?_
          refine y_iast hE (by unfold kC; decide) rfl (by simp [kTag]) hl_81 (by have hL : (up3 K 4 0 25 0) 120 0 (-1) = 408 := (MObj.l hM.1 20 (by decide)); omega) dX4_setTiming_91 ?_
          refine y_aload_n hE rfl 1 rfl dX4_setTiming_92 ?_
          refine gX4_59r (z := 0) hE h40 (MObj.r hM.1 20 (by decide)) (by omega) dX4_setTiming_93 (fun hl_93 => ?_)
          refine y_bipush hE (by decide) dX4_setTiming_96 ?_
          refine y_iload_n hE rfl 2 rfl dX4_setTiming_98 ?_
          refine y_imul hE dX4_setTiming_99 ?_
          refine y_iconst hE dX4_setTiming_100 ?_
          refine y_iadd hE dX4_setTiming_101 ?_
          refine y_iload_n hE rfl 4 rfl dX4_setTiming_102 ?_
          refine y_iast hE (by unfold kC; decide) rfl (by simp [kTag]) hl_93 (by have hL : (up3 (up3 K 4 0 25 0) 120 0 ((17 * t) + 3) ex) 120 0 (-1) = 408 := (MObj.l (MRep.a (MRep.t hM 25 (by decide) 0) 20 rfl (j := (17 * t) + 3) (by omega) ex).1 20 (by decide)); omega) dX4_setTiming_103 ?_
          refine y_iload hE 0 rfl dX4_setTiming_104 ?_
          refine y_iret hE rfl rfl hQ dX4_setTiming_106 Ext.rf ?_
          refine ⟨rfl, rfl, ?_⟩
          unfold oTiming
          (repeat (first | rw [if_pos (by omega)] | rw [if_neg (by omega)]))
          exact ⟨(MRep.a (MRep.a (MRep.t hM 25 (by decide) 0) 20 rfl (j := (17 * t) + 3) (by omega) ex) 20 rfl (j := (17 * t) + 4) (by omega) st), (KO.up (KO.up (KO.up KO.rf (by unfold MK; decide)) (by unfold MK; decide)) (by unfold MK; decide)), by simp [up3], by first | rfl | (dsimp only; omega)⟩
        · refine y_aload_n hE rfl 0 rfl dX4_setTiming_56 ?_
          refine y_iload_n hE rfl 1 rfl dX4_setTiming_57 ?_
          refine y_iconst hE dX4_setTiming_58 ?_
          refine y_callV hE (m_X4_of S t 0 h40 (MRep.t hM 25 (by decide) 0) (by omega)) (lw_V q2964 q2966 qs64 q133 q2967) (nA := 2) (by decide +kernel) rfl ⟨Nat.le_of_ble_eq_true rfl, Nat.le_of_ble_eq_true rfl⟩ (hdd := rfl) (hcc := rfl) (hq := rfl) (hi := h40) (rest := []) rfl (by decide) dX4_setTiming_59 (bc' := 0) (bs' := 0) (Nat.le_refl _) (Nat.le_refl _) (fun r_59 n_59 α_59 K_59 hx_59 hp_59 => ?_)
          obtain ⟨rfl, rfl, rfl, hr_59⟩ := hp_59
          have e_59 : S 20 (17 * t) = r_59 := Eq.symm (by rw [hr_59, Int.add_zero])
          subst e_59
          refine y_to (st' := [.int (iI (S 20 (17 * t)))]) rfl rfl rfl ?_
          refine y_iconst hE dX4_setTiming_62 ?_
          refine y_icmp_ne hE 72 (by decide) (by omega) (by omega) dX4_setTiming_63 (fun c_63 => ?_) (fun c_63 => ?_)
          · refine y_aload_n hE rfl 0 rfl dX4_setTiming_72 ?_
            refine y_iload_n hE rfl 1 rfl dX4_setTiming_73 ?_
            refine y_iconst hE dX4_setTiming_74 ?_
            refine y_callV hE (m_X4_of S t 3 h40 (MRep.t hM 25 (by decide) 0) (by omega)) (lw_V q2964 q2966 qs64 q133 q2967) (nA := 2) (by decide +kernel) rfl ⟨Nat.le_of_ble_eq_true rfl, Nat.le_of_ble_eq_true rfl⟩ (hdd := rfl) (hcc := rfl) (hq := rfl) (hi := h40) (rest := []) rfl (by decide) dX4_setTiming_75 (bc' := 0) (bs' := 0) (Nat.le_refl _) (Nat.le_refl _) (fun r_75_2 n_75_2 α_75_2 K_75_2 hx_75_2 hp_75_2 => ?_)
            obtain ⟨rfl, rfl, rfl, hr_75_2⟩ := hp_75_2
            have e_75 : S 20 (17 * t + 3) = r_75_2 := Eq.symm (by rw [hr_75_2])
            subst e_75
            refine y_to (st' := [.int (iI (S 20 (17 * t + 3)))]) rfl rfl rfl ?_
            refine y_istore hE [(4, .int (iI (S 20 (17 * t + 3)))), (0, .ref (α 4 0)), (1, .int (iI t)), (2, .int (iI ex)), (3, .int (iI st))] (by decide) rfl dX4_setTiming_78 ?_
            refine y_aload_n hE rfl 1 rfl dX4_setTiming_80 ?_
            refine gX4_59r (z := 0) hE h40 (MObj.r hM.1 20 (by decide)) (by omega) dX4_setTiming_81 (fun hl_81_2 => ?_)
            refine y_bipush hE (by decide) dX4_setTiming_84 ?_
            refine y_iload_n hE rfl 2 rfl dX4_setTiming_86 ?_
            refine y_imul hE dX4_setTiming_87 ?_
            refine y_iconst hE dX4_setTiming_88 ?_
            refine y_iadd hE dX4_setTiming_89 ?_
            refine y_iload_n hE rfl 3 rfl dX4_setTiming_90 ?_
            refine y_iast hE (by unfold kC; decide) rfl (by simp [kTag]) hl_81_2 (by have hL : (up3 K 4 0 25 0) 120 0 (-1) = 408 := (MObj.l hM.1 20 (by decide)); omega) dX4_setTiming_91 ?_
            refine y_aload_n hE rfl 1 rfl dX4_setTiming_92 ?_
            refine gX4_59r (z := 0) hE h40 (MObj.r hM.1 20 (by decide)) (by omega) dX4_setTiming_93 (fun hl_93_2 => ?_)
            refine y_bipush hE (by decide) dX4_setTiming_96 ?_
            refine y_iload_n hE rfl 2 rfl dX4_setTiming_98 ?_
            refine y_imul hE dX4_setTiming_99 ?_
            refine y_iconst hE dX4_setTiming_100 ?_
            refine y_iadd hE dX4_setTiming_101 ?_
            refine y_iload_n hE rfl 4 rfl dX4_setTiming_102 ?_
            refine y_iast hE (by unfold kC; decide) rfl (by simp [kTag]) hl_93_2 (by have hL : (up3 (up3 K 4 0 25 0) 120 0 ((17 * t) + 3) ex) 120 0 (-1) = 408 := (MObj.l (MRep.a (MRep.t hM 25 (by decide) 0) 20 rfl (j := (17 * t) + 3) (by omega) ex).1 20 (by decide)); omega) dX4_setTiming_103 ?_
            refine y_iload hE 0 rfl dX4_setTiming_104 ?_
            refine y_iret hE rfl rfl hQ dX4_setTiming_106 Ext.rf ?_
            refine ⟨rfl, rfl, ?_⟩
            unfold oTiming
            (repeat (first | rw [if_pos (by omega)] | rw [if_neg (by omega)]))
            exact ⟨(MRep.a (MRep.a (MRep.t hM 25 (by decide) 0) 20 rfl (j := (17 * t) + 3) (by omega) ex) 20 rfl (j := (17 * t) + 4) (by omega) st), (KO.up (KO.up (KO.up KO.rf (by unfold MK; decide)) (by unfold MK; decide)) (by unfold MK; decide)), by simp [up3], by first | rfl | (dsimp only; omega)⟩
          · refine y_aload_n hE rfl 0 rfl dX4_setTiming_66 ?_
            refine y_iconst hE dX4_setTiming_67 ?_
            refine y_callV hE (m_X4_fails 3 h40) (lw_V q2871 q2873 qs53 q133 q2874) (nA := 1) (by decide +kernel) rfl ⟨Nat.le_of_ble_eq_true rfl, Nat.le_of_ble_eq_true rfl⟩ (hdd := rfl) (hcc := rfl) (hq := rfl) (hi := h40) (rest := []) rfl (by decide) dX4_setTiming_68 (bc' := 0) (bs' := 0) (Nat.le_refl _) (Nat.le_refl _) (fun r_68 n_68 α_68 K_68 hx_68 hp_68 => ?_)
            obtain ⟨rfl, rfl, rfl, hr_68⟩ := hp_68
            refine y_to (st' := [.int (iI r_68)]) rfl rfl rfl ?_
            refine y_iret hE rfl rfl hQ dX4_setTiming_71 Ext.rf ?_
            refine ⟨rfl, rfl, ?_⟩
            unfold oTiming
            (repeat (first | rw [if_pos (by omega)] | rw [if_neg (by omega)]))
            exact ⟨(MRep.t (MRep.t hM 25 (by decide) 0) 25 (by decide) 3), (KO.up (KO.up KO.rf (by unfold MK; decide)) (by unfold MK; decide)), by simp [up3], by first | rfl | (dsimp only; omega)⟩
      · refine y_aload_n hE rfl 0 rfl dX4_setTiming_45 ?_
        refine y_iconst hE dX4_setTiming_46 ?_
        refine y_callV hE (m_X4_fails 2 h40) (lw_V q2871 q2873 qs53 q133 q2874) (nA := 1) (by decide +kernel) rfl ⟨Nat.le_of_ble_eq_true rfl, Nat.le_of_ble_eq_true rfl⟩ (hdd := rfl) (hcc := rfl) (hq := rfl) (hi := h40) (rest := []) rfl (by decide) dX4_setTiming_47 (bc' := 0) (bs' := 0) (Nat.le_refl _) (Nat.le_refl _) (fun r_47_2 n_47_2 α_47_2 K_47_2 hx_47_2 hp_47_2 => ?_)
        obtain ⟨rfl, rfl, rfl, hr_47_2⟩ := hp_47_2
        refine y_to (st' := [.int (iI r_47_2)]) rfl rfl rfl ?_
        refine y_iret hE rfl rfl hQ dX4_setTiming_50 Ext.rf ?_
        refine ⟨rfl, rfl, ?_⟩
        unfold oTiming
        (repeat (first | rw [if_pos (by omega)] | rw [if_neg (by omega)]))
        exact ⟨(MRep.t (MRep.t hM 25 (by decide) 0) 25 (by decide) 2), (KO.up (KO.up KO.rf (by unfold MK; decide)) (by unfold MK; decide)), by simp [up3], by first | rfl | (dsimp only; omega)⟩
  · refine y_aload_n hE rfl 0 rfl dX4_setTiming_13 ?_
    refine y_iconst hE dX4_setTiming_14 ?_
    refine y_callV hE (m_X4_fails 1 h40) (lw_V q2871 q2873 qs53 q133 q2874) (nA := 1) (by decide +kernel) rfl ⟨Nat.le_of_ble_eq_true rfl, Nat.le_of_ble_eq_true rfl⟩ (hdd := rfl) (hcc := rfl) (hq := rfl) (hi := h40) (rest := []) rfl (by decide) dX4_setTiming_15 (bc' := 0) (bs' := 0) (Nat.le_refl _) (Nat.le_refl _) (fun r_15 n_15 α_15 K_15 hx_15 hp_15 => ?_)
    obtain ⟨rfl, rfl, rfl, hr_15⟩ := hp_15
    refine y_to (st' := [.int (iI r_15)]) rfl rfl rfl ?_
    refine y_iret hE rfl rfl hQ dX4_setTiming_18 Ext.rf ?_
    refine ⟨rfl, rfl, ?_⟩
    unfold oTiming
    (repeat (first | rw [if_pos (by omega)] | rw [if_neg (by omega)]))
    exact ⟨(MRep.t (MRep.t hM 25 (by decide) 0) 25 (by decide) 1), (KO.up (KO.up KO.rf (by unfold MK; decide)) (by unfold MK; decide)), by simp [up3], by first | rfl | (dsimp only; omega)⟩
set_option maxHeartbeats 4000000 in
set_option maxRecDepth 100000 in
theorem m_X4_setInterruption {w : KW} {n : KN} {α : KA} {K : KS} (S : SS) (t md od : Int) (h40 : (0 : Int) ≤ 0 ∧ 0 < n 4) (hM : MRep S n K) (hW : WFs S) (ht : -2147483648 ≤ t ∧ t ≤ 2147483647) (he : -2147483648 ≤ md ∧ md ≤ 2147483647) (hs : 0 ≤ od ∧ od ≤ 1) : KM w yX4_setInterruption cX4_setInterruption 5 (some (.int)) { frames := 2, cells := 0, slots := 0, locals := 46 } (0, 0) [.ref (α 4 0), .int (iI t), .int (iI md), .int (iI od)] n α K (fun r n' α' K' => n = n' ∧ α = α' ∧ (MRep (oInter S t md od).2.2 n K' ∧ KO K K' MK ∧ K' 4 0 25 = (oInter S t md od).1 ∧ r = (oInter S t md od).2.1)) := by
  refine y_start (by decide) (Nat.le_of_ble_eq_true rfl) (fun x hE hQ => ?_)
  have hw := hQ.2
  subst hw
  have hE : YE x cX4_setInterruption RX4 (some (.int)) "setInterruption" 5 { frames := 2, cells := 0, slots := 0, locals := 46 } := hE
  refine y_wk (fun hWK => ?_)
  have hn0 := hWK.1
  refine y_bud (bc' := 0) (bs' := 0) (Nat.le_refl _) (Nat.le_refl _) ?_
  refine y_to (lv' := [(0, .ref (α 4 0)), (1, .int (iI t)), (2, .int (iI md)), (3, .int (iI od))]) (st' := []) rfl rfl rfl ?_
  have wpar := hW.par
  have wclips := hW.clips
  have wnodes := hW.nodes
  have wsts := hW.sts
  have wtrs := hW.trs
  have wthr := hW.thr
  have wtxt := hW.txt
  refine y_aload_n hE rfl 0 rfl dX4_setInterruption_0 ?_
  refine y_iconst hE dX4_setInterruption_1 ?_
  refine pX4_94 hE h40 dX4_setInterruption_2 ?_
  refine y_aload_n hE rfl 0 rfl dX4_setInterruption_5 ?_
  refine y_iload_n hE rfl 1 rfl dX4_setInterruption_6 ?_
  refine y_callV hE (m_X4_isTransition S t h40 (MRep.t hM 25 (by decide) 0) (by omega) (by omega)) (lw_V q2958 q2960 qs63 q133 q2961) (nA := 1) (by decide +kernel) rfl ⟨Nat.le_of_ble_eq_true rfl, Nat.le_of_ble_eq_true rfl⟩ (hdd := rfl) (hcc := rfl) (hq := rfl) (hi := h40) (rest := []) rfl (by decide) dX4_setInterruption_7 (bc' := 0) (bs' := 0) (Nat.le_refl _) (Nat.le_refl _) (fun r_7 n_7 α_7 K_7 hx_7 hp_7 => ?_)
  obtain ⟨rfl, rfl, rfl, hr_7⟩ := hp_7
  refine y_to (st' := [.int (iI r_7)]) rfl rfl rfl ?_
  refine y_if_ne hE 19 (by decide) (by omega) dX4_setInterruption_10 (fun c_10 => ?_) (fun c_10 => ?_)
  · have wt := hW.tr t (by omega) (by omega)
    refine y_iload_n hE rfl 2 rfl dX4_setInterruption_19 ?_
    refine y_i2l hE (by omega) dX4_setInterruption_20 ?_
    refine y_lconst hE 0 (by decide) dX4_setInterruption_21 ?_
    refine y_ldc2 hE 4 (v := 4) (by decide) q2972 dX4_setInterruption_22 ?_
    refine y_callS hE (m_X4_in md 0 4 (by omega) (by omega) (by omega)) (lw_S q2868 q2869 q133 q2870) (nA := 3) (by decide +kernel) rfl ⟨Nat.le_of_ble_eq_true rfl, Nat.le_of_ble_eq_true rfl⟩ (rest := []) rfl (by decide) dX4_setInterruption_25 (bc' := 0) (bs' := 0) (Nat.le_refl _) (Nat.le_refl _) (fun r_25 n_25 α_25 K_25 hx_25 hp_25 => ?_)
    obtain ⟨rfl, rfl, rfl, hr_25⟩ := hp_25
    refine y_to (st' := [.int (iI r_25)]) rfl rfl rfl ?_
    refine y_if_ne hE 37 (by decide) (by omega) dX4_setInterruption_28 (fun c_28 => ?_) (fun c_28 => ?_)
    · refine y_aload_n hE rfl 0 rfl dX4_setInterruption_37 ?_
      refine y_iload_n hE rfl 1 rfl dX4_setInterruption_38 ?_
      refine y_iconst hE dX4_setInterruption_39 ?_
      refine y_callV hE (m_X4_of S t 5 h40 (MRep.t hM 25 (by decide) 0) (by omega)) (lw_V q2964 q2966 qs64 q133 q2967) (nA := 2) (by decide +kernel) rfl ⟨Nat.le_of_ble_eq_true rfl, Nat.le_of_ble_eq_true rfl⟩ (hdd := rfl) (hcc := rfl) (hq := rfl) (hi := h40) (rest := []) rfl (by decide) dX4_setInterruption_40 (bc' := 0) (bs' := 0) (Nat.le_refl _) (Nat.le_refl _) (fun r_40 n_40 α_40 K_40 hx_40 hp_40 => ?_)
      obtain ⟨rfl, rfl, rfl, hr_40⟩ := hp_40
      have e_40 : S 20 (17 * t + 5) = r_40 := Eq.symm (by rw [hr_40])
      subst e_40
      refine y_to (st' := [.int (iI (S 20 (17 * t + 5)))]) rfl rfl rfl ?_
      refine y_istore hE [(4, .int (iI (S 20 (17 * t + 5)))), (0, .ref (α 4 0)), (1, .int (iI t)), (2, .int (iI md)), (3, .int (iI od))] (by decide) rfl dX4_setInterruption_43 ?_
      refine y_aload_n hE rfl 1 rfl dX4_setInterruption_45 ?_
      refine gX4_59r (z := 0) hE h40 (MObj.r hM.1 20 (by decide)) (by omega) dX4_setInterruption_46 (fun hl_46 => ?_)
      refine y_bipush hE (by decide) dX4_setInterruption_49 ?_
      refine y_iload_n hE rfl 2 rfl dX4_setInterruption_51 ?_
      refine y_imul hE dX4_setInterruption_52 ?_
      refine y_iconst hE dX4_setInterruption_53 ?_
      refine y_iadd hE dX4_setInterruption_54 ?_
      refine y_iload_n hE rfl 3 rfl dX4_setInterruption_55 ?_
      refine y_iast hE (by unfold kC; decide) rfl (by simp [kTag]) hl_46 (by have hL : (up3 K 4 0 25 0) 120 0 (-1) = 408 := (MObj.l hM.1 20 (by decide)); omega) dX4_setInterruption_56 ?_
      refine y_aload_n hE rfl 1 rfl dX4_setInterruption_57 ?_
      refine gX4_59r (z := 0) hE h40 (MObj.r hM.1 20 (by decide)) (by omega) dX4_setInterruption_58 (fun hl_58 => ?_)
      refine y_bipush hE (by decide) dX4_setInterruption_61 ?_
      refine y_iload_n hE rfl 2 rfl dX4_setInterruption_63 ?_
      refine y_imul hE dX4_setInterruption_64 ?_
      refine y_bipush hE (by decide) dX4_setInterruption_65 ?_
      refine y_iadd hE dX4_setInterruption_67 ?_
      refine y_iload_n hE rfl 4 rfl dX4_setInterruption_68 ?_
      have J77 : ∀ (b : Int), (b = od) → Y x n α (up3 (up3 K 4 0 25 0) 120 0 ((17 * t) + 5) md) 0 0 77 [(4, .int (iI (S 20 (17 * t + 5)))), (0, .ref (α 4 0)), (1, .int (iI t)), (2, .int (iI md)), (3, .int (iI od))] [.int (iI b), .int (iI ((17 * t) + 6)), .ref (α 120 0)] := by
        intro b hb
        subst hb
        refine y_iast hE (by unfold kC; decide) rfl (by simp [kTag]) hl_58 (by have hL : (up3 (up3 K 4 0 25 0) 120 0 ((17 * t) + 5) md) 120 0 (-1) = 408 := (MObj.l (MRep.a (MRep.t hM 25 (by decide) 0) 20 rfl (j := (17 * t) + 5) (by omega) md).1 20 (by decide)); omega) dX4_setInterruption_77 ?_
        refine y_iload hE 0 rfl dX4_setInterruption_78 ?_
        refine y_iret hE rfl rfl hQ dX4_setInterruption_80 Ext.rf ?_
        refine ⟨rfl, rfl, ?_⟩
        unfold oInter
        (repeat (first | rw [if_pos (by omega)] | rw [if_neg (by omega)]))
        exact ⟨(MRep.a (MRep.a (MRep.t hM 25 (by decide) 0) 20 rfl (j := (17 * t) + 5) (by omega) md) 20 rfl (j := (17 * t) + 6) (by omega) b), (KO.up (KO.up (KO.up KO.rf (by unfold MK; decide)) (by unfold MK; decide)) (by unfold MK; decide)), by simp [up3], by first | rfl | (dsimp only; omega)⟩
      refine y_if_eq hE 76 (by decide) (by omega) dX4_setInterruption_69 (fun c_69 => ?_) (fun c_69 => ?_)
      · refine y_iconst hE dX4_setInterruption_76 ?_
        exact J77 0 (by omega)
      · refine y_iconst hE dX4_setInterruption_72 ?_
        refine y_goto hE 77 (by decide) dX4_setInterruption_73 ?_
        exact J77 1 (by omega)
    · refine y_aload_n hE rfl 0 rfl dX4_setInterruption_31 ?_
      refine y_iconst hE dX4_setInterruption_32 ?_
      refine y_callV hE (m_X4_fails 2 h40) (lw_V q2871 q2873 qs53 q133 q2874) (nA := 1) (by decide +kernel) rfl ⟨Nat.le_of_ble_eq_true rfl, Nat.le_of_ble_eq_true rfl⟩ (hdd := rfl) (hcc := rfl) (hq := rfl) (hi := h40) (rest := []) rfl (by decide) dX4_setInterruption_33 (bc' := 0) (bs' := 0) (Nat.le_refl _) (Nat.le_refl _) (fun r_33 n_33 α_33 K_33 hx_33 hp_33 => ?_)
      obtain ⟨rfl, rfl, rfl, hr_33⟩ := hp_33
      refine y_to (st' := [.int (iI r_33)]) rfl rfl rfl ?_
      refine y_iret hE rfl rfl hQ dX4_setInterruption_36 Ext.rf ?_
      refine ⟨rfl, rfl, ?_⟩
      unfold oInter
      (repeat (first | rw [if_pos (by omega)] | rw [if_neg (by omega)]))
      exact ⟨(MRep.t (MRep.t hM 25 (by decide) 0) 25 (by decide) 2), (KO.up (KO.up KO.rf (by unfold MK; decide)) (by unfold MK; decide)), by simp [up3], by first | rfl | (dsimp only; omega)⟩
  · refine y_aload_n hE rfl 0 rfl dX4_setInterruption_13 ?_
    refine y_iconst hE dX4_setInterruption_14 ?_
    refine y_callV hE (m_X4_fails 1 h40) (lw_V q2871 q2873 qs53 q133 q2874) (nA := 1) (by decide +kernel) rfl ⟨Nat.le_of_ble_eq_true rfl, Nat.le_of_ble_eq_true rfl⟩ (hdd := rfl) (hcc := rfl) (hq := rfl) (hi := h40) (rest := []) rfl (by decide) dX4_setInterruption_15 (bc' := 0) (bs' := 0) (Nat.le_refl _) (Nat.le_refl _) (fun r_15 n_15 α_15 K_15 hx_15 hp_15 => ?_)
    obtain ⟨rfl, rfl, rfl, hr_15⟩ := hp_15
    refine y_to (st' := [.int (iI r_15)]) rfl rfl rfl ?_
    refine y_iret hE rfl rfl hQ dX4_setInterruption_18 Ext.rf ?_
    refine ⟨rfl, rfl, ?_⟩
    unfold oInter
    (repeat (first | rw [if_pos (by omega)] | rw [if_neg (by omega)]))
    exact ⟨(MRep.t (MRep.t hM 25 (by decide) 0) 25 (by decide) 1), (KO.up (KO.up KO.rf (by unfold MK; decide)) (by unfold MK; decide)), by simp [up3], by first | rfl | (dsimp only; omega)⟩
set_option maxHeartbeats 4000000 in
set_option maxRecDepth 100000 in
theorem m_X4_condition {w : KW} {n : KN} {α : KA} {K : KS} (S : SS) (t p o v : Int) (h40 : (0 : Int) ≤ 0 ∧ 0 < n 4) (hM : MRep S n K) (hta : 0 ≤ t ∧ t < 24) (hk : 0 ≤ S 20 (17 * t + 7) ∧ S 20 (17 * t + 7) < 3) : KM w yX4_condition cX4_condition 6 none { frames := 1, cells := 0, slots := 0, locals := 22 } (3, 0) [.ref (α 4 0), .int (iI t), .int (iI p), .int (iI o), .int (iI v)] n α K (fun r n' α' K' => n = n' ∧ α = α' ∧ MRep (cndS S t p o v) n K' ∧ KO K K' (fun k _ => k = 120) ∧ (True)) := by
  refine y_start (by decide) (Nat.le_of_ble_eq_true rfl) (fun x hE hQ => ?_)
  have hw := hQ.2
  subst hw
  have hE : YE x cX4_condition RX4 none "condition" 6 { frames := 1, cells := 0, slots := 0, locals := 22 } := hE
  refine y_wk (fun hWK => ?_)
  have hn0 := hWK.1
  refine y_bud (bc' := 0) (bs' := 0) (Nat.le_refl _) (Nat.le_refl _) ?_
  refine y_to (lv' := [(0, .ref (α 4 0)), (1, .int (iI t)), (2, .int (iI p)), (3, .int (iI o)), (4, .int (iI v))]) (st' := []) rfl rfl rfl ?_
  refine y_bipush hE (by decide) dX4_condition_0 ?_
  refine y_iload_n hE rfl 1 rfl dX4_condition_2 ?_
  refine y_imul hE dX4_condition_3 ?_
  refine y_bipush hE (by decide) dX4_condition_4 ?_
  refine y_iadd hE dX4_condition_6 ?_
  refine y_iconst hE dX4_condition_7 ?_
  refine y_aload_n hE rfl 0 rfl dX4_condition_8 ?_
  refine y_iload_n hE rfl 1 rfl dX4_condition_9 ?_
  refine y_bipush hE (by decide) dX4_condition_10 ?_
  refine y_callV hE (m_X4_of S t 7 h40 hM (by omega)) (lw_V q2964 q2966 qs64 q133 q2967) (nA := 2) (by decide +kernel) rfl ⟨Nat.le_of_ble_eq_true rfl, Nat.le_of_ble_eq_true rfl⟩ (hdd := rfl) (hcc := rfl) (hq := rfl) (hi := h40) (rest := [.int (iI 3), .int (iI ((17 * t) + 8))]) rfl (by simp [refV_cat, Value.category]) dX4_condition_12 (bc' := 0) (bs' := 0) (Nat.le_refl _) (Nat.le_refl _) (fun r_12 n_12 α_12 K_12 hx_12 hp_12 => ?_)
  obtain ⟨rfl, rfl, rfl, hr_12⟩ := hp_12
  have e_12 : S 20 (17 * t + 7) = r_12 := Eq.symm (by rw [hr_12])
  subst e_12
  refine y_to (st' := [.int (iI (S 20 (17 * t + 7))), .int (iI 3), .int (iI ((17 * t) + 8))]) rfl rfl rfl ?_
  refine y_imul hE dX4_condition_15 ?_
  refine y_iadd hE dX4_condition_16 ?_
  refine y_istore hE [(5, .int (iI (((17 * t) + 8) + (3 * (S 20 (17 * t + 7)))))), (0, .ref (α 4 0)), (1, .int (iI t)), (2, .int (iI p)), (3, .int (iI o)), (4, .int (iI v))] (by decide) rfl dX4_condition_17 ?_
  refine y_aload_n hE rfl 1 rfl dX4_condition_19 ?_
  refine gX4_59r (z := 0) hE h40 (MObj.r hM.1 20 (by decide)) (by omega) dX4_condition_20 (fun hl_20 => ?_)
  refine y_iload hE 0 rfl dX4_condition_23 ?_
  refine y_iload_n hE rfl 3 rfl dX4_condition_25 ?_
  refine y_iast hE (by unfold kC; decide) rfl (by simp [kTag]) hl_20 (by have hL : K 120 0 (-1) = 408 := (MObj.l hM.1 20 (by decide)); omega) dX4_condition_26 ?_
  refine y_aload_n hE rfl 1 rfl dX4_condition_27 ?_
  refine gX4_59r (z := 0) hE h40 (MObj.r hM.1 20 (by decide)) (by omega) dX4_condition_28 (fun hl_28 => ?_)
  refine y_iload hE 0 rfl dX4_condition_31 ?_
  refine y_iconst hE dX4_condition_33 ?_
  refine y_iadd hE dX4_condition_34 ?_
  refine y_iload_n hE rfl 4 rfl dX4_condition_35 ?_
  refine y_iast hE (by unfold kC; decide) rfl (by simp [kTag]) hl_28 (by have hL : (up3 K 120 0 (((17 * t) + 8) + (3 * (S 20 (17 * t + 7)))) p) 120 0 (-1) = 408 := (MObj.l (MRep.a hM 20 rfl (j := ((17 * t) + 8) + (3 * (S 20 (17 * t + 7)))) (by omega) p).1 20 (by decide)); omega) dX4_condition_36 ?_
  refine y_aload_n hE rfl 1 rfl dX4_condition_37 ?_
  refine gX4_59r (z := 0) hE h40 (MObj.r hM.1 20 (by decide)) (by omega) dX4_condition_38 (fun hl_38 => ?_)
  refine y_iload hE 0 rfl dX4_condition_41 ?_
  refine y_iconst hE dX4_condition_43 ?_
  refine y_iadd hE dX4_condition_44 ?_
  refine y_iload hE 5 rfl dX4_condition_45 ?_
  refine y_iast hE (by unfold kC; decide) rfl (by simp [kTag]) hl_38 (by have hL : (up3 (up3 K 120 0 (((17 * t) + 8) + (3 * (S 20 (17 * t + 7)))) p) 120 0 ((((17 * t) + 8) + (3 * (S 20 (17 * t + 7)))) + 1) o) 120 0 (-1) = 408 := (MObj.l (MRep.a (MRep.a hM 20 rfl (j := ((17 * t) + 8) + (3 * (S 20 (17 * t + 7)))) (by omega) p) 20 rfl (j := (((17 * t) + 8) + (3 * (S 20 (17 * t + 7)))) + 1) (by omega) o).1 20 (by decide)); omega) dX4_condition_47 ?_
  refine y_aload_n hE rfl 1 rfl dX4_condition_48 ?_
  refine gX4_59r (z := 0) hE h40 (MObj.r hM.1 20 (by decide)) (by omega) dX4_condition_49 (fun hl_49 => ?_)
  refine y_bipush hE (by decide) dX4_condition_52 ?_
  refine y_iload_n hE rfl 2 rfl dX4_condition_54 ?_
  refine y_imul hE dX4_condition_55 ?_
  refine y_bipush hE (by decide) dX4_condition_56 ?_
  refine y_iadd hE dX4_condition_58 ?_
  refine y_dup2 hE rfl rfl dX4_condition_59 ?_
  refine y_iald hE rfl hl_49 (by have hL : (up3 (up3 (up3 K 120 0 (((17 * t) + 8) + (3 * (S 20 (17 * t + 7)))) p) 120 0 ((((17 * t) + 8) + (3 * (S 20 (17 * t + 7)))) + 1) o) 120 0 ((((17 * t) + 8) + (3 * (S 20 (17 * t + 7)))) + 2) v) 120 0 (-1) = 408 := (MObj.l (MRep.a (MRep.a (MRep.a hM 20 rfl (j := ((17 * t) + 8) + (3 * (S 20 (17 * t + 7)))) (by omega) p) 20 rfl (j := (((17 * t) + 8) + (3 * (S 20 (17 * t + 7)))) + 1) (by omega) o) 20 rfl (j := (((17 * t) + 8) + (3 * (S 20 (17 * t + 7)))) + 2) (by omega) v).1 20 (by decide)); omega) dX4_condition_60 ?_
  refine y_to (st' := [.int (iI ((up2 (up2 (up2 S 20 (((17 * t) + 8) + (3 * (S 20 (17 * t + 7)))) p) 20 ((((17 * t) + 8) + (3 * (S 20 (17 * t + 7)))) + 1) o) 20 ((((17 * t) + 8) + (3 * (S 20 (17 * t + 7)))) + 2) v) 20 ((17 * t) + 7))), .int (iI ((17 * t) + 7)), .ref (α 120 0)]) rfl rfl (by rw [show (up3 (up3 (up3 K 120 0 (((17 * t) + 8) + (3 * (S 20 (17 * t + 7)))) p) 120 0 ((((17 * t) + 8) + (3 * (S 20 (17 * t + 7)))) + 1) o) 120 0 ((((17 * t) + 8) + (3 * (S 20 (17 * t + 7)))) + 2) v) 120 0 ((17 * t) + 7) = (up2 (up2 (up2 S 20 (((17 * t) + 8) + (3 * (S 20 (17 * t + 7)))) p) 20 ((((17 * t) + 8) + (3 * (S 20 (17 * t + 7)))) + 1) o) 20 ((((17 * t) + 8) + (3 * (S 20 (17 * t + 7)))) + 2) v) 20 ((17 * t) + 7) from (MRep.ra (MRep.a (MRep.a (MRep.a hM 20 rfl (j := ((17 * t) + 8) + (3 * (S 20 (17 * t + 7)))) (by omega) p) 20 rfl (j := (((17 * t) + 8) + (3 * (S 20 (17 * t + 7)))) + 1) (by omega) o) 20 rfl (j := (((17 * t) + 8) + (3 * (S 20 (17 * t + 7)))) + 2) (by omega) v) 20 rfl (by omega) (by first | omega | (show _ < (408 : Int); omega)))]) ?_
  refine y_iconst hE dX4_condition_61 ?_
  refine y_iadd hE dX4_condition_62 ?_
  refine y_iast hE (by unfold kC; decide) rfl (by simp [kTag]) hl_49 (by have hL : (up3 (up3 (up3 K 120 0 (((17 * t) + 8) + (3 * (S 20 (17 * t + 7)))) p) 120 0 ((((17 * t) + 8) + (3 * (S 20 (17 * t + 7)))) + 1) o) 120 0 ((((17 * t) + 8) + (3 * (S 20 (17 * t + 7)))) + 2) v) 120 0 (-1) = 408 := (MObj.l (MRep.a (MRep.a (MRep.a hM 20 rfl (j := ((17 * t) + 8) + (3 * (S 20 (17 * t + 7)))) (by omega) p) 20 rfl (j := (((17 * t) + 8) + (3 * (S 20 (17 * t + 7)))) + 1) (by omega) o) 20 rfl (j := (((17 * t) + 8) + (3 * (S 20 (17 * t + 7)))) + 2) (by omega) v).1 20 (by decide)); omega) dX4_condition_63 ?_
  exact y_vret (r := 0) hE rfl hQ dX4_condition_64 Ext.rf ⟨rfl, rfl, (MRep.a (MRep.a (MRep.a (MRep.a hM 20 rfl (j := ((17 * t) + 8) + (3 * (S 20 (17 * t + 7)))) (by omega) p) 20 rfl (j := (((17 * t) + 8) + (3 * (S 20 (17 * t + 7)))) + 1) (by omega) o) 20 rfl (j := (((17 * t) + 8) + (3 * (S 20 (17 * t + 7)))) + 2) (by omega) v) 20 rfl (j := (17 * t) + 7) (by omega) (((up2 (up2 (up2 S 20 (((17 * t) + 8) + (3 * (S 20 (17 * t + 7)))) p) 20 ((((17 * t) + 8) + (3 * (S 20 (17 * t + 7)))) + 1) o) 20 ((((17 * t) + 8) + (3 * (S 20 (17 * t + 7)))) + 2) v) 20 ((17 * t) + 7)) + 1)), (KO.up (KO.up (KO.up (KO.up KO.rf (by decide)) (by decide)) (by decide)) (by decide)), trivial⟩
set_option maxHeartbeats 4000000 in
set_option maxRecDepth 100000 in
theorem m_X4_addCondition {w : KW} {n : KN} {α : KA} {K : KS} (S : SS) (t p o v : Int) (h40 : (0 : Int) ≤ 0 ∧ 0 < n 4) (hM : MRep S n K) (hW : WFs S) (ht : -2147483648 ≤ t ∧ t ≤ 2147483647) (hp : -2147483648 ≤ p ∧ p ≤ 2147483647) (ho : -2147483648 ≤ o ∧ o ≤ 2147483647) (hv : -2147483648 ≤ v ∧ v ≤ 2147483647) : KM w yX4_addCondition cX4_addCondition 7 (some (.int)) { frames := 2, cells := 0, slots := 0, locals := 47 } (0, 0) [.ref (α 4 0), .int (iI t), .int (iI p), .int (iI o), .int (iI v)] n α K (fun r n' α' K' => n = n' ∧ α = α' ∧ (MRep (oAddCond S t p o v).2.2 n K' ∧ KO K K' MK ∧ K' 4 0 25 = (oAddCond S t p o v).1 ∧ r = (oAddCond S t p o v).2.1)) := by
  refine y_start (by decide) (Nat.le_of_ble_eq_true rfl) (fun x hE hQ => ?_)
  have hw := hQ.2
  subst hw
  have hE : YE x cX4_addCondition RX4 (some (.int)) "addCondition" 7 { frames := 2, cells := 0, slots := 0, locals := 47 } := hE
  refine y_wk (fun hWK => ?_)
  have hn0 := hWK.1
  refine y_bud (bc' := 0) (bs' := 0) (Nat.le_refl _) (Nat.le_refl _) ?_
  refine y_to (lv' := [(0, .ref (α 4 0)), (1, .int (iI t)), (2, .int (iI p)), (3, .int (iI o)), (4, .int (iI v))]) (st' := []) rfl rfl rfl ?_
  have wpar := hW.par
  have wclips := hW.clips
  have wnodes := hW.nodes
  have wsts := hW.sts
  have wtrs := hW.trs
  have wthr := hW.thr
  have wtxt := hW.txt
  refine y_aload_n hE rfl 0 rfl dX4_addCondition_0 ?_
  refine y_iconst hE dX4_addCondition_1 ?_
  refine pX4_94 hE h40 dX4_addCondition_2 ?_
  refine y_aload_n hE rfl 0 rfl dX4_addCondition_5 ?_
  refine y_iload_n hE rfl 1 rfl dX4_addCondition_6 ?_
  refine y_callV hE (m_X4_isTransition S t h40 (MRep.t hM 25 (by decide) 0) (by omega) (by omega)) (lw_V q2958 q2960 qs63 q133 q2961) (nA := 1) (by decide +kernel) rfl ⟨Nat.le_of_ble_eq_true rfl, Nat.le_of_ble_eq_true rfl⟩ (hdd := rfl) (hcc := rfl) (hq := rfl) (hi := h40) (rest := []) rfl (by decide) dX4_addCondition_7 (bc' := 0) (bs' := 0) (Nat.le_refl _) (Nat.le_refl _) (fun r_7 n_7 α_7 K_7 hx_7 hp_7 => ?_)
  obtain ⟨rfl, rfl, rfl, hr_7⟩ := hp_7
  refine y_to (st' := [.int (iI r_7)]) rfl rfl rfl ?_
  refine y_if_eq hE 21 (by decide) (by omega) dX4_addCondition_10 (fun c_10 => ?_) (fun c_10 => ?_)
  · refine y_aload_n hE rfl 0 rfl dX4_addCondition_21 ?_
    refine y_iconst hE dX4_addCondition_22 ?_
    refine y_callV hE (m_X4_fails 1 h40) (lw_V q2871 q2873 qs53 q133 q2874) (nA := 1) (by decide +kernel) rfl ⟨Nat.le_of_ble_eq_true rfl, Nat.le_of_ble_eq_true rfl⟩ (hdd := rfl) (hcc := rfl) (hq := rfl) (hi := h40) (rest := []) rfl (by decide) dX4_addCondition_23 (bc' := 0) (bs' := 0) (Nat.le_refl _) (Nat.le_refl _) (fun r_23 n_23 α_23 K_23 hx_23 hp_23 => ?_)
    obtain ⟨rfl, rfl, rfl, hr_23⟩ := hp_23
    refine y_to (st' := [.int (iI r_23)]) rfl rfl rfl ?_
    refine y_iret hE rfl rfl hQ dX4_addCondition_26 Ext.rf ?_
    refine ⟨rfl, rfl, ?_⟩
    unfold oAddCond
    (repeat (first | rw [if_pos (by omega)] | rw [if_neg (by omega)]))
    exact ⟨(MRep.t (MRep.t hM 25 (by decide) 0) 25 (by decide) 1), (KO.up (KO.up KO.rf (by unfold MK; decide)) (by unfold MK; decide)), by simp [up3], by first | rfl | (dsimp only; omega)⟩
  · refine y_aload_n hE rfl 0 rfl dX4_addCondition_13 ?_
    refine y_iload_n hE rfl 2 rfl dX4_addCondition_14 ?_
    refine y_callV hE (m_X4_isParameter S p h40 (MRep.t hM 25 (by decide) 0) (by omega) (by omega)) (lw_V q2879 q2881 qs54 q133 q2882) (nA := 1) (by decide +kernel) rfl ⟨Nat.le_of_ble_eq_true rfl, Nat.le_of_ble_eq_true rfl⟩ (hdd := rfl) (hcc := rfl) (hq := rfl) (hi := h40) (rest := []) rfl (by decide) dX4_addCondition_15 (bc' := 0) (bs' := 0) (Nat.le_refl _) (Nat.le_refl _) (fun r_15 n_15 α_15 K_15 hx_15 hp_15 => ?_)
    obtain ⟨rfl, rfl, rfl, hr_15⟩ := hp_15
    refine y_to (st' := [.int (iI r_15)]) rfl rfl rfl ?_
    refine y_if_ne hE 27 (by decide) (by omega) dX4_addCondition_18 (fun c_18 => ?_) (fun c_18 => ?_)
    · have wt := hW.tr t (by omega) (by omega)
      have wk := hW.kind p (by omega) (by omega)
      refine y_aload_n hE rfl 0 rfl dX4_addCondition_27 ?_
      refine gX4_17r (z := 0) hE h40 (MObj.r hM.1 2 (by decide)) (by omega) dX4_addCondition_28 (fun hl_28 => ?_)
      refine y_iload_n hE rfl 2 rfl dX4_addCondition_31 ?_
      refine y_iald hE rfl hl_28 (by have hL : (up3 K 4 0 25 0) 102 0 (-1) = 8 := (MObj.l hM.1 2 (by decide)); omega) dX4_addCondition_32 ?_
      refine y_to (st' := [.int (iI (S 2 p))]) rfl rfl (by rw [show (up3 K 4 0 25 0) 102 0 p = S 2 p from (MRep.ra hM 2 rfl (by omega) (by first | omega | (show _ < (8 : Int); omega)))]) ?_
      refine y_istore hE [(5, .int (iI (S 2 p))), (0, .ref (α 4 0)), (1, .int (iI t)), (2, .int (iI p)), (3, .int (iI o)), (4, .int (iI v))] (by decide) rfl dX4_addCondition_33 ?_
      refine y_iload hE 0 rfl dX4_addCondition_35 ?_
      have J106 : ∀ (b : Int), (b = 1 ∧ (S 2 p = 0 ∧ 0 ≤ o ∧ o ≤ 3 ∧ -100 ≤ v ∧ v ≤ 100 ∨ S 2 p ≠ 0 ∧ o = 2 ∧ (S 2 p = 1 ∧ 0 ≤ v ∨ S 2 p ≠ 1 ∧ 1 ≤ v) ∧ v ≤ 1) ∨ b = 0 ∧ ¬ (S 2 p = 0 ∧ 0 ≤ o ∧ o ≤ 3 ∧ -100 ≤ v ∧ v ≤ 100 ∨ S 2 p ≠ 0 ∧ o = 2 ∧ (S 2 p = 1 ∧ 0 ≤ v ∨ S 2 p ≠ 1 ∧ 1 ≤ v) ∧ v ≤ 1)) → Y x n α (up3 K 4 0 25 0) 0 0 106 [(5, .int (iI (S 2 p))), (0, .ref (α 4 0)), (1, .int (iI t)), (2, .int (iI p)), (3, .int (iI o)), (4, .int (iI v))] [.int (iI b)] := by
        intro b hb
        refine y_istore hE [(6, .int (iI b)), (5, .int (iI (S 2 p))), (0, .ref (α 4 0)), (1, .int (iI t)), (2, .int (iI p)), (3, .int (iI o)), (4, .int (iI v))] (by decide) rfl dX4_addCondition_106 ?_
        refine y_iload hE 0 rfl dX4_addCondition_108 ?_
        refine y_if_ne hE 119 (by decide) (by omega) dX4_addCondition_110 (fun c_110 => ?_) (fun c_110 => ?_)
        · refine y_aload_n hE rfl 2 rfl dX4_addCondition_119 ?_
          refine y_iload_n hE rfl 3 rfl dX4_addCondition_120 ?_
          refine y_bipush hE (by decide) dX4_addCondition_121 ?_
          refine y_callV hE (m_X4_of S t 7 h40 (MRep.t hM 25 (by decide) 0) (by omega)) (lw_V q2964 q2966 qs64 q133 q2967) (nA := 2) (by decide +kernel) rfl ⟨Nat.le_of_ble_eq_true rfl, Nat.le_of_ble_eq_true rfl⟩ (hdd := rfl) (hcc := rfl) (hq := rfl) (hi := h40) (rest := []) rfl (by decide) dX4_addCondition_123 (bc' := 0) (bs' := 0) (Nat.le_refl _) (Nat.le_refl _) (fun r_123 n_123 α_123 K_123 hx_123 hp_123 => ?_)
          obtain ⟨rfl, rfl, rfl, hr_123⟩ := hp_123
          have e_123 : S 20 (17 * t + 7) = r_123 := Eq.symm (by rw [hr_123])
          subst e_123
          refine y_to (st' := [.int (iI (S 20 (17 * t + 7)))]) rfl rfl rfl ?_
          refine y_iconst hE dX4_addCondition_126 ?_
          refine y_icmp_ne hE 136 (by decide) (by omega) (by omega) dX4_addCondition_127 (fun c_127 => ?_) (fun c_127 => ?_)
          · refine y_aload_n hE rfl 2 rfl dX4_addCondition_136 ?_
            refine y_iload_n hE rfl 3 rfl dX4_addCondition_137 ?_
            refine y_iload_n hE rfl 4 rfl dX4_addCondition_138 ?_
            refine y_iload_n hE rfl 5 rfl dX4_addCondition_139 ?_
            refine y_iload hE 6 rfl dX4_addCondition_140 ?_
            have hz4 : (up3 K 4 0 25 0) 4 0 25 = 0 := by simp [up3]
            refine y_callV hE (m_X4_condition S t p o v h40 (MRep.t hM 25 (by decide) 0) (by omega) (by omega)) (lw_V q2977 q2979 qs65 q133 q2980) (nA := 4) (by decide +kernel) rfl ⟨Nat.le_of_ble_eq_true rfl, Nat.le_of_ble_eq_true rfl⟩ (hdd := rfl) (hcc := rfl) (hq := rfl) (hi := h40) (rest := []) rfl (by decide) dX4_addCondition_142 (bc' := 0) (bs' := 0) (Nat.le_refl _) (Nat.le_refl _) (fun r_142 n_142 α_142 K_142 hx_142 hp_142 => ?_)
            obtain ⟨rfl, rfl, hM_142, hk_142, hr_142⟩ := hp_142
            have hk4 := hk_142 4 0 (by decide) 25
            refine y_to (st' := []) rfl rfl rfl ?_
            refine y_aload_n hE rfl 2 rfl dX4_addCondition_145 ?_
            refine y_iload_n hE rfl 3 rfl dX4_addCondition_146 ?_
            refine y_bipush hE (by decide) dX4_addCondition_147 ?_
            refine y_callV hE (m_X4_of (cndS S t p o v) t 7 h40 hM_142 (by omega)) (lw_V q2964 q2966 qs64 q133 q2967) (nA := 2) (by decide +kernel) rfl ⟨Nat.le_of_ble_eq_true rfl, Nat.le_of_ble_eq_true rfl⟩ (hdd := rfl) (hcc := rfl) (hq := rfl) (hi := h40) (rest := []) rfl (by decide) dX4_addCondition_149 (bc' := 0) (bs' := 0) (Nat.le_refl _) (Nat.le_refl _) (fun r_149 n_149 α_149 K_149 hx_149 hp_149 => ?_)
            obtain ⟨rfl, rfl, rfl, hr_149⟩ := hp_149
            have e_149 : (cndS S t p o v) 20 (17 * t + 7) = r_149 := Eq.symm (by rw [hr_149])
            subst e_149
            refine y_to (st' := [.int (iI ((cndS S t p o v) 20 (17 * t + 7)))]) rfl rfl rfl ?_
            refine y_iret hE rfl rfl hQ dX4_addCondition_152 Ext.rf ?_
            refine ⟨rfl, rfl, ?_⟩
            unfold oAddCond
            (repeat (first | rw [if_pos (by omega)] | rw [if_neg (by omega)]))
            exact ⟨hM_142, ((KO.up KO.rf (by unfold MK; decide)).tr (KO.mono hk_142 (fun k i z => by unfold MK; (try dsimp only at z); (try dsimp only); omega))), by rw [hk4]; simp [up3], by rw [cndS_n (by omega)]⟩
          · refine y_aload_n hE rfl 2 rfl dX4_addCondition_130 ?_
            refine y_iconst hE dX4_addCondition_131 ?_
            refine y_callV hE (m_X4_fails 3 h40) (lw_V q2871 q2873 qs53 q133 q2874) (nA := 1) (by decide +kernel) rfl ⟨Nat.le_of_ble_eq_true rfl, Nat.le_of_ble_eq_true rfl⟩ (hdd := rfl) (hcc := rfl) (hq := rfl) (hi := h40) (rest := []) rfl (by decide) dX4_addCondition_132 (bc' := 0) (bs' := 0) (Nat.le_refl _) (Nat.le_refl _) (fun r_132 n_132 α_132 K_132 hx_132 hp_132 => ?_)
            obtain ⟨rfl, rfl, rfl, hr_132⟩ := hp_132
            refine y_to (st' := [.int (iI r_132)]) rfl rfl rfl ?_
            refine y_iret hE rfl rfl hQ dX4_addCondition_135 Ext.rf ?_
            refine ⟨rfl, rfl, ?_⟩
            unfold oAddCond
            (repeat (first | rw [if_pos (by omega)] | rw [if_neg (by omega)]))
            exact ⟨(MRep.t (MRep.t hM 25 (by decide) 0) 25 (by decide) 3), (KO.up (KO.up KO.rf (by unfold MK; decide)) (by unfold MK; decide)), by simp [up3], by first | rfl | (dsimp only; omega)⟩
        · refine y_aload_n hE rfl 2 rfl dX4_addCondition_113 ?_
          refine y_iconst hE dX4_addCondition_114 ?_
          refine y_callV hE (m_X4_fails 2 h40) (lw_V q2871 q2873 qs53 q133 q2874) (nA := 1) (by decide +kernel) rfl ⟨Nat.le_of_ble_eq_true rfl, Nat.le_of_ble_eq_true rfl⟩ (hdd := rfl) (hcc := rfl) (hq := rfl) (hi := h40) (rest := []) rfl (by decide) dX4_addCondition_115 (bc' := 0) (bs' := 0) (Nat.le_refl _) (Nat.le_refl _) (fun r_115 n_115 α_115 K_115 hx_115 hp_115 => ?_)
          obtain ⟨rfl, rfl, rfl, hr_115⟩ := hp_115
          refine y_to (st' := [.int (iI r_115)]) rfl rfl rfl ?_
          refine y_iret hE rfl rfl hQ dX4_addCondition_118 Ext.rf ?_
          refine ⟨rfl, rfl, ?_⟩
          unfold oAddCond
          (repeat (first | rw [if_pos (by omega)] | rw [if_neg (by omega)]))
          exact ⟨(MRep.t (MRep.t hM 25 (by decide) 0) 25 (by decide) 2), (KO.up (KO.up KO.rf (by unfold MK; decide)) (by unfold MK; decide)), by simp [up3], by first | rfl | (dsimp only; omega)⟩
      refine y_if_ne hE 75 (by decide) (by omega) dX4_addCondition_37 (fun c_37 => ?_) (fun c_37 => ?_)
      · refine y_iload_n hE rfl 4 rfl dX4_addCondition_75 ?_
        refine y_iconst hE dX4_addCondition_76 ?_
        refine y_icmp_ne hE 105 (by decide) (by omega) (by omega) dX4_addCondition_77 (fun c_77 => ?_) (fun c_77 => ?_)
        · refine y_iconst hE dX4_addCondition_105 ?_
          exact J106 0 (by omega)
        · refine y_iload hE 5 rfl dX4_addCondition_80 ?_
          refine y_i2l hE (by omega) dX4_addCondition_82 ?_
          refine y_iload hE 0 rfl dX4_addCondition_83 ?_
          refine y_iconst hE dX4_addCondition_85 ?_
          have J94 : ∀ (l : Int), (l = 0 ∧ S 2 p = 1 ∨ l = 1 ∧ S 2 p ≠ 1) → Y x n α (up3 K 4 0 25 0) 0 0 94 [(5, .int (iI (S 2 p))), (0, .ref (α 4 0)), (1, .int (iI t)), (2, .int (iI p)), (3, .int (iI o)), (4, .int (iI v))] [.long (iL l), .long (iL v)] := by
            intro l hl
            refine y_lconst hE 1 (by decide) dX4_addCondition_94 ?_
            refine y_callS hE (m_X4_in v l 1 (by omega) (by omega) (by omega)) (lw_S q2868 q2869 q133 q2870) (nA := 3) (by decide +kernel) rfl ⟨Nat.le_of_ble_eq_true rfl, Nat.le_of_ble_eq_true rfl⟩ (rest := []) rfl (by decide) dX4_addCondition_95 (bc' := 0) (bs' := 0) (Nat.le_refl _) (Nat.le_refl _) (fun r_95 n_95 α_95 K_95 hx_95 hp_95 => ?_)
            obtain ⟨rfl, rfl, rfl, hr_95⟩ := hp_95
            refine y_to (st' := [.int (iI r_95)]) rfl rfl rfl ?_
            refine y_if_eq hE 105 (by decide) (by omega) dX4_addCondition_98 (fun c_98 => ?_) (fun c_98 => ?_)
            · refine y_iconst hE dX4_addCondition_105 ?_
              exact J106 0 (by omega)
            · refine y_iconst hE dX4_addCondition_101 ?_
              refine y_goto hE 106 (by decide) dX4_addCondition_102 ?_
              exact J106 1 (by omega)
          refine y_icmp_ne hE 93 (by decide) (by omega) (by omega) dX4_addCondition_86 (fun c_86 => ?_) (fun c_86 => ?_)
          · refine y_lconst hE 1 (by decide) dX4_addCondition_93 ?_
            exact J94 1 (by omega)
          · refine y_lconst hE 0 (by decide) dX4_addCondition_89 ?_
            refine y_goto hE 94 (by decide) dX4_addCondition_90 ?_
            exact J94 0 (by omega)
      · refine y_iload_n hE rfl 4 rfl dX4_addCondition_40 ?_
        refine y_i2l hE (by omega) dX4_addCondition_41 ?_
        refine y_lconst hE 0 (by decide) dX4_addCondition_42 ?_
        refine y_ldc2 hE 3 (v := 3) (by decide) q2932 dX4_addCondition_43 ?_
        refine y_callS hE (m_X4_in o 0 3 (by omega) (by omega) (by omega)) (lw_S q2868 q2869 q133 q2870) (nA := 3) (by decide +kernel) rfl ⟨Nat.le_of_ble_eq_true rfl, Nat.le_of_ble_eq_true rfl⟩ (rest := []) rfl (by decide) dX4_addCondition_46 (bc' := 0) (bs' := 0) (Nat.le_refl _) (Nat.le_refl _) (fun r_46 n_46 α_46 K_46 hx_46 hp_46 => ?_)
        obtain ⟨rfl, rfl, rfl, hr_46⟩ := hp_46
        refine y_to (st' := [.int (iI r_46)]) rfl rfl rfl ?_
        refine y_if_eq hE 71 (by decide) (by omega) dX4_addCondition_49 (fun c_49 => ?_) (fun c_49 => ?_)
        · refine y_iconst hE dX4_addCondition_71 ?_
          refine y_goto hE 106 (by decide) dX4_addCondition_72 ?_
          exact J106 0 (by omega)
        · refine y_iload hE 5 rfl dX4_addCondition_52 ?_
          refine y_i2l hE (by omega) dX4_addCondition_54 ?_
          refine y_ldc2 hE (-100) (v := -100) (by decide) q2883 dX4_addCondition_55 ?_
          refine y_ldc2 hE 100 (v := 100) (by decide) q2884 dX4_addCondition_58 ?_
          refine y_callS hE (m_X4_in v (-100) 100 (by omega) (by omega) (by omega)) (lw_S q2868 q2869 q133 q2870) (nA := 3) (by decide +kernel) rfl ⟨Nat.le_of_ble_eq_true rfl, Nat.le_of_ble_eq_true rfl⟩ (rest := []) rfl (by decide) dX4_addCondition_61 (bc' := 0) (bs' := 0) (Nat.le_refl _) (Nat.le_refl _) (fun r_61 n_61 α_61 K_61 hx_61 hp_61 => ?_)
          obtain ⟨rfl, rfl, rfl, hr_61⟩ := hp_61
          refine y_to (st' := [.int (iI r_61)]) rfl rfl rfl ?_
          refine y_if_eq hE 71 (by decide) (by omega) dX4_addCondition_64 (fun c_64 => ?_) (fun c_64 => ?_)
          · refine y_iconst hE dX4_addCondition_71 ?_
            refine y_goto hE 106 (by decide) dX4_addCondition_72 ?_
            exact J106 0 (by omega)
          · refine y_iconst hE dX4_addCondition_67 ?_
            refine y_goto hE 106 (by decide) dX4_addCondition_68 ?_
            exact J106 1 (by omega)
    · refine y_aload_n hE rfl 0 rfl dX4_addCondition_21 ?_
      refine y_iconst hE dX4_addCondition_22 ?_
      refine y_callV hE (m_X4_fails 1 h40) (lw_V q2871 q2873 qs53 q133 q2874) (nA := 1) (by decide +kernel) rfl ⟨Nat.le_of_ble_eq_true rfl, Nat.le_of_ble_eq_true rfl⟩ (hdd := rfl) (hcc := rfl) (hq := rfl) (hi := h40) (rest := []) rfl (by decide) dX4_addCondition_23 (bc' := 0) (bs' := 0) (Nat.le_refl _) (Nat.le_refl _) (fun r_23_2 n_23_2 α_23_2 K_23_2 hx_23_2 hp_23_2 => ?_)
      obtain ⟨rfl, rfl, rfl, hr_23_2⟩ := hp_23_2
      refine y_to (st' := [.int (iI r_23_2)]) rfl rfl rfl ?_
      refine y_iret hE rfl rfl hQ dX4_addCondition_26 Ext.rf ?_
      refine ⟨rfl, rfl, ?_⟩
      unfold oAddCond
      (repeat (first | rw [if_pos (by omega)] | rw [if_neg (by omega)]))
      exact ⟨(MRep.t (MRep.t hM 25 (by decide) 0) 25 (by decide) 1), (KO.up (KO.up KO.rf (by unfold MK; decide)) (by unfold MK; decide)), by simp [up3], by first | rfl | (dsimp only; omega)⟩
set_option maxHeartbeats 4000000 in
set_option maxRecDepth 100000 in
theorem m_X4_setThreshold {w : KW} {n : KN} {α : KA} {K : KS} (S : SS) (v : Int) (h40 : (0 : Int) ≤ 0 ∧ 0 < n 4) (hM : MRep S n K) (hW : WFs S) (hv : -2147483648 ≤ v ∧ v ≤ 2147483647) : KM w yX4_setThreshold cX4_setThreshold 3 (some (.int)) { frames := 1, cells := 0, slots := 0, locals := 25 } (0, 0) [.ref (α 4 0), .int (iI v)] n α K (fun r n' α' K' => n = n' ∧ α = α' ∧ (MRep (oThr S v).2.2 n K' ∧ KO K K' MK ∧ K' 4 0 25 = (oThr S v).1 ∧ r = (oThr S v).2.1)) := by
  refine y_start (by decide) (Nat.le_of_ble_eq_true rfl) (fun x hE hQ => ?_)
  have hw := hQ.2
  subst hw
  have hE : YE x cX4_setThreshold RX4 (some (.int)) "setThreshold" 3 { frames := 1, cells := 0, slots := 0, locals := 25 } := hE
  refine y_wk (fun hWK => ?_)
  have hn0 := hWK.1
  refine y_bud (bc' := 0) (bs' := 0) (Nat.le_refl _) (Nat.le_refl _) ?_
  refine y_to (lv' := [(0, .ref (α 4 0)), (1, .int (iI v))]) (st' := []) rfl rfl rfl ?_
  have wpar := hW.par
  have wclips := hW.clips
  have wnodes := hW.nodes
  have wsts := hW.sts
  have wtrs := hW.trs
  have wthr := hW.thr
  have wtxt := hW.txt
  refine y_aload_n hE rfl 0 rfl dX4_setThreshold_0 ?_
  refine y_iconst hE dX4_setThreshold_1 ?_
  refine pX4_94 hE h40 dX4_setThreshold_2 ?_
  refine y_iload_n hE rfl 1 rfl dX4_setThreshold_5 ?_
  refine y_i2l hE (by omega) dX4_setThreshold_6 ?_
  refine y_lconst hE 0 (by decide) dX4_setThreshold_7 ?_
  refine y_ldc2 hE 100 (v := 100) (by decide) q2884 dX4_setThreshold_8 ?_
  refine y_callS hE (m_X4_in v 0 100 (by omega) (by omega) (by omega)) (lw_S q2868 q2869 q133 q2870) (nA := 3) (by decide +kernel) rfl ⟨Nat.le_of_ble_eq_true rfl, Nat.le_of_ble_eq_true rfl⟩ (rest := []) rfl (by decide) dX4_setThreshold_11 (bc' := 0) (bs' := 0) (Nat.le_refl _) (Nat.le_refl _) (fun r_11 n_11 α_11 K_11 hx_11 hp_11 => ?_)
  obtain ⟨rfl, rfl, rfl, hr_11⟩ := hp_11
  refine y_to (st' := [.int (iI r_11)]) rfl rfl rfl ?_
  refine y_if_ne hE 23 (by decide) (by omega) dX4_setThreshold_14 (fun c_14 => ?_) (fun c_14 => ?_)
  · refine y_aload_n hE rfl 0 rfl dX4_setThreshold_23 ?_
    refine gX4_62 (z := S 22 0) hE h40 (hM.2.2.2.2.2.2.2.1) dX4_setThreshold_24 ?_
    refine y_istore_n hE rfl [(2, .int (iI (S 22 0))), (0, .ref (α 4 0)), (1, .int (iI v))] (by decide) rfl dX4_setThreshold_27 ?_
    refine y_aload_n hE rfl 1 rfl dX4_setThreshold_28 ?_
    refine y_iload_n hE rfl 2 rfl dX4_setThreshold_29 ?_
    refine pX4_62 hE h40 dX4_setThreshold_30 ?_
    refine y_iload_n hE rfl 0 rfl dX4_setThreshold_33 ?_
    refine y_iret hE rfl rfl hQ dX4_setThreshold_34 Ext.rf ?_
    refine ⟨rfl, rfl, ?_⟩
    unfold oThr
    (repeat (first | rw [if_pos (by omega)] | rw [if_neg (by omega)]))
    exact ⟨(MRep.s (MRep.t hM 25 (by decide) 0) 22 (by decide) v), (KO.up (KO.up KO.rf (by unfold MK; decide)) (by unfold MK; decide)), by simp [up3], by first | rfl | (dsimp only; omega)⟩
  · refine y_aload_n hE rfl 0 rfl dX4_setThreshold_17 ?_
    refine y_iconst hE dX4_setThreshold_18 ?_
    refine y_callV hE (m_X4_fails 1 h40) (lw_V q2871 q2873 qs53 q133 q2874) (nA := 1) (by decide +kernel) rfl ⟨Nat.le_of_ble_eq_true rfl, Nat.le_of_ble_eq_true rfl⟩ (hdd := rfl) (hcc := rfl) (hq := rfl) (hi := h40) (rest := []) rfl (by decide) dX4_setThreshold_19 (bc' := 0) (bs' := 0) (Nat.le_refl _) (Nat.le_refl _) (fun r_19 n_19 α_19 K_19 hx_19 hp_19 => ?_)
    obtain ⟨rfl, rfl, rfl, hr_19⟩ := hp_19
    refine y_to (st' := [.int (iI r_19)]) rfl rfl rfl ?_
    refine y_iret hE rfl rfl hQ dX4_setThreshold_22 Ext.rf ?_
    refine ⟨rfl, rfl, ?_⟩
    unfold oThr
    (repeat (first | rw [if_pos (by omega)] | rw [if_neg (by omega)]))
    exact ⟨(MRep.t (MRep.t hM 25 (by decide) 0) 25 (by decide) 1), (KO.up (KO.up KO.rf (by unfold MK; decide)) (by unfold MK; decide)), by simp [up3], by first | rfl | (dsimp only; omega)⟩
set_option maxHeartbeats 4000000 in
set_option maxRecDepth 100000 in
theorem m_X4_type {w : KW} {n : KN} {α : KA} {K : KS} (S : SS) (b : Int) (h40 : (0 : Int) ≤ 0 ∧ 0 < n 4) (hM : MRep S n K) (hW : WFs S) (hv : -2147483648 ≤ b ∧ b ≤ 2147483647) : KM w yX4_type cX4_type 2 (some (.int)) { frames := 1, cells := 0, slots := 0, locals := 25 } (0, 0) [.ref (α 4 0), .int (iI b)] n α K (fun r n' α' K' => n = n' ∧ α = α' ∧ (MRep (oType S b).2.2 n K' ∧ KO K K' MK ∧ K' 4 0 25 = (oType S b).1 ∧ r = (oType S b).2.1)) := by
  refine y_start (by decide) (Nat.le_of_ble_eq_true rfl) (fun x hE hQ => ?_)
  have hw := hQ.2
  subst hw
  have hE : YE x cX4_type RX4 (some (.int)) "type" 2 { frames := 1, cells := 0, slots := 0, locals := 25 } := hE
  refine y_wk (fun hWK => ?_)
  have hn0 := hWK.1
  refine y_bud (bc' := 0) (bs' := 0) (Nat.le_refl _) (Nat.le_refl _) ?_
  refine y_to (lv' := [(0, .ref (α 4 0)), (1, .int (iI b))]) (st' := []) rfl rfl rfl ?_
  have wpar := hW.par
  have wclips := hW.clips
  have wnodes := hW.nodes
  have wsts := hW.sts
  have wtrs := hW.trs
  have wthr := hW.thr
  have wtxt := hW.txt
  refine y_aload_n hE rfl 0 rfl dX4_type_0 ?_
  refine y_iconst hE dX4_type_1 ?_
  refine pX4_94 hE h40 dX4_type_2 ?_
  refine y_iload_n hE rfl 1 rfl dX4_type_5 ?_
  refine y_i2l hE (by omega) dX4_type_6 ?_
  refine y_lconst hE 0 (by decide) dX4_type_7 ?_
  refine y_ldc2 hE 255 (v := 255) (by decide) q2989 dX4_type_8 ?_
  refine y_callS hE (m_X4_in b 0 255 (by omega) (by omega) (by omega)) (lw_S q2868 q2869 q133 q2870) (nA := 3) (by decide +kernel) rfl ⟨Nat.le_of_ble_eq_true rfl, Nat.le_of_ble_eq_true rfl⟩ (rest := []) rfl (by decide) dX4_type_11 (bc' := 0) (bs' := 0) (Nat.le_refl _) (Nat.le_refl _) (fun r_11 n_11 α_11 K_11 hx_11 hp_11 => ?_)
  obtain ⟨rfl, rfl, rfl, hr_11⟩ := hp_11
  refine y_to (st' := [.int (iI r_11)]) rfl rfl rfl ?_
  refine y_if_ne hE 23 (by decide) (by omega) dX4_type_14 (fun c_14 => ?_) (fun c_14 => ?_)
  · refine y_aload_n hE rfl 0 rfl dX4_type_23 ?_
    refine gX4_188 (z := S 24 0) hE h40 (hM.2.2.2.2.2.2.2.2) dX4_type_24 ?_
    refine y_sipush hE (by decide) dX4_type_27 ?_
    refine y_icmp_ne hE 39 (by decide) (by omega) (by omega) dX4_type_30 (fun c_30 => ?_) (fun c_30 => ?_)
    · refine y_aload_n hE rfl 0 rfl dX4_type_39 ?_
      refine gX4_66r (z := 0) hE h40 (MObj.r hM.1 23 (by decide)) (by omega) dX4_type_40 (fun hl_40 => ?_)
      refine y_aload_n hE rfl 0 rfl dX4_type_43 ?_
      refine gX4_188 (z := S 24 0) hE h40 (hM.2.2.2.2.2.2.2.2) dX4_type_44 ?_
      refine y_iload_n hE rfl 1 rfl dX4_type_47 ?_
      refine y_iast hE (by unfold kC; decide) rfl (by simp [kTag]) hl_40 (by have hL : (up3 K 4 0 25 0) 123 0 (-1) = 150 := (MObj.l hM.1 23 (by decide)); omega) dX4_type_48 ?_
      refine y_aload_n hE rfl 0 rfl dX4_type_49 ?_
      refine y_dup hE rfl dX4_type_50 ?_
      refine gX4_188 (z := S 24 0) hE h40 (hM.2.2.2.2.2.2.2.2) dX4_type_51 ?_
      refine y_iconst hE dX4_type_54 ?_
      refine y_iadd hE dX4_type_55 ?_
      refine pX4_188 hE h40 dX4_type_56 ?_
      refine y_aload_n hE rfl 0 rfl dX4_type_59 ?_
      refine gX4_188 (z := (S 24 0) + 1) hE h40 (by simp [up3, upr]) dX4_type_60 ?_
      refine y_iret hE rfl rfl hQ dX4_type_63 Ext.rf ?_
      refine ⟨rfl, rfl, ?_⟩
      unfold oType
      (repeat (first | rw [if_pos (by omega)] | rw [if_neg (by omega)]))
      exact ⟨(MRep.s (MRep.a (MRep.t hM 25 (by decide) 0) 23 rfl (j := S 24 0) (by omega) b) 24 (by decide) ((S 24 0) + 1)), (KO.up (KO.up (KO.up KO.rf (by unfold MK; decide)) (by unfold MK; decide)) (by unfold MK; decide)), by simp [up3], by first | rfl | (dsimp only; omega)⟩
    · refine y_aload_n hE rfl 0 rfl dX4_type_33 ?_
      refine y_iconst hE dX4_type_34 ?_
      refine y_callV hE (m_X4_fails 2 h40) (lw_V q2871 q2873 qs53 q133 q2874) (nA := 1) (by decide +kernel) rfl ⟨Nat.le_of_ble_eq_true rfl, Nat.le_of_ble_eq_true rfl⟩ (hdd := rfl) (hcc := rfl) (hq := rfl) (hi := h40) (rest := []) rfl (by decide) dX4_type_35 (bc' := 0) (bs' := 0) (Nat.le_refl _) (Nat.le_refl _) (fun r_35 n_35 α_35 K_35 hx_35 hp_35 => ?_)
      obtain ⟨rfl, rfl, rfl, hr_35⟩ := hp_35
      refine y_to (st' := [.int (iI r_35)]) rfl rfl rfl ?_
      refine y_iret hE rfl rfl hQ dX4_type_38 Ext.rf ?_
      refine ⟨rfl, rfl, ?_⟩
      unfold oType
      (repeat (first | rw [if_pos (by omega)] | rw [if_neg (by omega)]))
      exact ⟨(MRep.t (MRep.t hM 25 (by decide) 0) 25 (by decide) 2), (KO.up (KO.up KO.rf (by unfold MK; decide)) (by unfold MK; decide)), by simp [up3], by first | rfl | (dsimp only; omega)⟩
  · refine y_aload_n hE rfl 0 rfl dX4_type_17 ?_
    refine y_iconst hE dX4_type_18 ?_
    refine y_callV hE (m_X4_fails 1 h40) (lw_V q2871 q2873 qs53 q133 q2874) (nA := 1) (by decide +kernel) rfl ⟨Nat.le_of_ble_eq_true rfl, Nat.le_of_ble_eq_true rfl⟩ (hdd := rfl) (hcc := rfl) (hq := rfl) (hi := h40) (rest := []) rfl (by decide) dX4_type_19 (bc' := 0) (bs' := 0) (Nat.le_refl _) (Nat.le_refl _) (fun r_19 n_19 α_19 K_19 hx_19 hp_19 => ?_)
    obtain ⟨rfl, rfl, rfl, hr_19⟩ := hp_19
    refine y_to (st' := [.int (iI r_19)]) rfl rfl rfl ?_
    refine y_iret hE rfl rfl hQ dX4_type_22 Ext.rf ?_
    refine ⟨rfl, rfl, ?_⟩
    unfold oType
    (repeat (first | rw [if_pos (by omega)] | rw [if_neg (by omega)]))
    exact ⟨(MRep.t (MRep.t hM 25 (by decide) 0) 25 (by decide) 1), (KO.up (KO.up KO.rf (by unfold MK; decide)) (by unfold MK; decide)), by simp [up3], by first | rfl | (dsimp only; omega)⟩
set_option maxHeartbeats 4000000 in
set_option maxRecDepth 100000 in
theorem m_X4_clearText {w : KW} {n : KN} {α : KA} {K : KS} (S : SS)  (h40 : (0 : Int) ≤ 0 ∧ 0 < n 4) (hM : MRep S n K) (hW : WFs S) : KM w yX4_clearText cX4_clearText 2 (some (.int)) { frames := 0, cells := 0, slots := 0, locals := 0 } (0, 0) [.ref (α 4 0)] n α K (fun r n' α' K' => n = n' ∧ α = α' ∧ (MRep (oClear S).2.2 n K' ∧ KO K K' MK ∧ K' 4 0 25 = (oClear S).1 ∧ r = (oClear S).2.1)) := by
  refine y_start (by decide) (Nat.le_of_ble_eq_true rfl) (fun x hE hQ => ?_)
  have hw := hQ.2
  subst hw
  have hE : YE x cX4_clearText RX4 (some (.int)) "clearText" 2 { frames := 0, cells := 0, slots := 0, locals := 0 } := hE
  refine y_wk (fun hWK => ?_)
  have hn0 := hWK.1
  refine y_bud (bc' := 0) (bs' := 0) (Nat.le_refl _) (Nat.le_refl _) ?_
  refine y_to (lv' := [(0, .ref (α 4 0))]) (st' := []) rfl rfl rfl ?_
  have wpar := hW.par
  have wclips := hW.clips
  have wnodes := hW.nodes
  have wsts := hW.sts
  have wtrs := hW.trs
  have wthr := hW.thr
  have wtxt := hW.txt
  refine y_aload_n hE rfl 0 rfl dX4_clearText_0 ?_
  refine y_iconst hE dX4_clearText_1 ?_
  refine pX4_94 hE h40 dX4_clearText_2 ?_
  refine y_aload_n hE rfl 0 rfl dX4_clearText_5 ?_
  refine gX4_188 (z := S 24 0) hE h40 (hM.2.2.2.2.2.2.2.2) dX4_clearText_6 ?_
  refine y_istore_n hE rfl [(1, .int (iI (S 24 0))), (0, .ref (α 4 0))] (by decide) rfl dX4_clearText_9 ?_
  refine y_aload_n hE rfl 1 rfl dX4_clearText_10 ?_
  refine y_iconst hE dX4_clearText_11 ?_
  refine pX4_188 hE h40 dX4_clearText_12 ?_
  refine y_iload_n hE rfl 0 rfl dX4_clearText_15 ?_
  refine y_iret hE rfl rfl hQ dX4_clearText_16 Ext.rf ?_
  refine ⟨rfl, rfl, ?_⟩
  unfold oClear
  (repeat (first | rw [if_pos (by omega)] | rw [if_neg (by omega)]))
  exact ⟨(MRep.s (MRep.t hM 25 (by decide) 0) 24 (by decide) 0), (KO.up (KO.up KO.rf (by unfold MK; decide)) (by unfold MK; decide)), by simp [up3], by first | rfl | (dsimp only; omega)⟩
