set_option linter.unusedVariables false
/-- a state's sign; fine -/
def stV (Z : SS) (b any : Int) : Int := if any = 1 ∧ hI Z b 42 = 1 then -1 else if b < Z 24 0 then Z 23 b - 65 else 99
def stF (Z : SS) (pa fi any : Int) : Int := if fi = 1 ∧ sk Z pa < Z 24 0 ∧ (any = 1 ∧ hI Z (sk Z pa) 42 = 1 ∨ 0 ≤ stV Z (sk Z pa) any ∧ stV Z (sk Z pa) any < Z 19 0) then 1 else 0
theorem stF_01 (Z : SS) (pa fi any : Int) : stF Z pa fi any = 0 ∨ stF Z pa fi any = 1 := by unfold stF; split <;> omega
theorem stF_in {Z : SS} {pa fi any : Int} (h : pa ≤ Z 24 0) : pa ≤ sk Z pa ∧ sk Z pa + stF Z pa fi any ≤ Z 24 0 := by
  have h1 := sk_in h
  unfold stF
  split <;> omega
theorem stV_in {Z : SS} (hW : WFs Z) {b any : Int} (hb : 0 ≤ b) : -65 ≤ stV Z b any ∧ stV Z b any ≤ 190 := by
  unfold stV
  split
  · omega
  · split
    · have := hW.byt b hb (by omega); omega
    · omega
def zif (ad : Int) (Q S : SS) : SS := if ad = 1 then Q else S
theorem zif_e {ad : Int} {Q S : SS} (h : ad = 1 → S = Q) : zif ad Q S = S := by
  unfold zif
  split
  · rename_i e; exact (h e).symm
  · rfl
theorem zif_0 {ad : Int} {Q S : SS} (h : ad ≠ 1) : zif ad Q S = S := if_neg h
theorem zif_1 {ad : Int} {Q S : SS} (h : ad = 1) : zif ad Q S = Q := if_pos h
def setS (fi ad wh v : Int) (S : SS) : SS := if fi = 1 ∧ ad = 1 then up2 S 20 (17 * (S 21 0 - 1) + wh) v else S
set_option maxHeartbeats 4000000 in
set_option maxRecDepth 100000 in
theorem m_X4_readsState {w : KW} {n : KN} {α : KA} {K : KS} (S : SS) (Z : SS) (cd pa fi ad nu rm we co : Int) (any : Int) (h40 : (0 : Int) ≤ 0 ∧ 0 < n 4) (hM : MRep S n K) (hps : PS K cd pa fi ad nu rm we co) (hz : SZ S Z) (hWz : WFs Z) (hpa : 0 ≤ pa ∧ pa ≤ Z 24 0) (hfi : 0 ≤ fi ∧ fi ≤ 1) (hany : 0 ≤ any ∧ any ≤ 1) : KM w yX4_readsState cX4_readsState 3 (some (.int)) { frames := 2, cells := 0, slots := 0, locals := 46 } (0, 0) [.ref (α 4 0), .int (iI any)] n α K (fun r n' α' K' => n = n' ∧ α = α' ∧ MRep (S) n K' ∧ KO K K' (fun k _ => k = 4) ∧ (PS K' cd (sk Z pa + stF Z pa fi any) (stF Z pa fi any) ad nu rm we co ∧ r = stV Z (sk Z pa) any)) := by
  refine y_start (by decide) (Nat.le_of_ble_eq_true rfl) (fun x hE hQ => ?_)
  have hw := hQ.2
  subst hw
  have hE : YE x cX4_readsState RX4 (some (.int)) "readsState" 3 { frames := 2, cells := 0, slots := 0, locals := 46 } := hE
  refine y_wk (fun hWK => ?_)
  have hn0 := hWK.1
  refine y_bud (bc' := 0) (bs' := 0) (Nat.le_refl _) (Nat.le_refl _) ?_
  refine y_to (lv' := [(0, .ref (α 4 0)), (1, .int (iI any))]) (st' := []) rfl rfl rfl ?_
  have wtxt := hWz.txt
  have wsts := hWz.sts
  have wpar := hWz.par
  have wtrs := hWz.trs
  have q24 : S 24 0 = Z 24 0 := congrFun (hz 24 (by decide) (by decide)) 0
  have q19 : S 19 0 = Z 19 0 := congrFun (hz 19 (by decide) (by decide)) 0
  have q3 : S 3 0 = Z 3 0 := congrFun (hz 3 (by decide) (by decide)) 0
  have wsk := sk_in (Z := Z) (a := pa) (by omega)
  have wst := stF_in (Z := Z) (pa := pa) (fi := fi) (any := any) (by omega)
  have ws01 := stF_01 Z pa fi any
  have wsv := stV_in hWz (b := sk Z pa) (any := any) (by omega)
  have wh01 := hI_01 Z (sk Z pa) 42
  refine y_aload_n hE rfl 0 rfl dX4_readsState_0 ?_
  refine y_callV hE (m_X4_skips S Z cd pa fi ad nu rm we co h40 hM ⟨hps.1, hps.2.1, hps.2.2.1, hps.2.2.2.1, hps.2.2.2.2.1, hps.2.2.2.2.2.1, hps.2.2.2.2.2.2.1, hps.2.2.2.2.2.2.2⟩ (by first | exact hz | omega) (by first | exact hWz | omega) (by first | exact hpa | omega)) (lw_V q3006 q3008 qs68 q133 q3009) (nA := 0) (by decide +kernel) rfl ⟨Nat.le_of_ble_eq_true rfl, Nat.le_of_ble_eq_true rfl⟩ (hdd := rfl) (hcc := rfl) (hq := rfl) (hi := h40) (rest := []) rfl (by decide) dX4_readsState_1 (bc' := 0) (bs' := 0) (Nat.le_refl _) (Nat.le_refl _) (fun r_1 n_1 α_1 K_1 hx_1 hp_1 => ?_)
  obtain ⟨rfl, rfl, hM_1, hk_1, hr_1⟩ := hp_1
  obtain ⟨⟨z25_1, z30_1, z31_1, z32_1, z33_1, z34_1, z35_1, z36_1⟩, hr_1⟩ := hr_1
  refine y_to (st' := []) rfl rfl rfl ?_
  have J49 : ∀ (sv : Int), (sv = stV Z (sk Z pa) any) → Y x n α K_1 0 0 49 [(0, .ref (α 4 0)), (1, .int (iI any))] [.int (iI sv)] := by
    intro sv hsv
    refine y_istore_n hE rfl [(2, .int (iI sv)), (0, .ref (α 4 0)), (1, .int (iI any))] (by decide) rfl dX4_readsState_49 ?_
    refine y_aload_n hE rfl 1 rfl dX4_readsState_50 ?_
    have J95 : ∀ (b1 : Int), (b1 = stF Z pa fi any) → Y x n α K_1 0 0 95 [(2, .int (iI sv)), (0, .ref (α 4 0)), (1, .int (iI any))] [.int (iI b1), .ref (α 4 0)] := by
      intro b1 hb1
      refine pX4_197 hE h40 (by omega) dX4_readsState_95 ?_
      refine y_aload_n hE rfl 1 rfl dX4_readsState_98 ?_
      refine y_dup hE rfl dX4_readsState_99 ?_
      refine gX4_191 (z := (sk Z pa)) hE h40 z30_1 dX4_readsState_100 ?_
      have J115 : ∀ (b2 : Int), (b2 = stF Z pa fi any) → Y x n α (up3 K_1 4 0 31 b1) 0 0 115 [(2, .int (iI sv)), (0, .ref (α 4 0)), (1, .int (iI any))] [.int (iI b2), .int (iI (sk Z pa)), .ref (α 4 0)] := by
        intro b2 hb2
        refine y_iadd hE dX4_readsState_115 ?_
        refine pX4_191 hE h40 dX4_readsState_116 ?_
        refine y_iload_n hE rfl 0 rfl dX4_readsState_119 ?_
        refine y_iret hE rfl rfl hQ dX4_readsState_120 Ext.rf ?_
        refine ⟨rfl, rfl, (MRep.t (MRep.t hM_1 31 (by decide) b1) 30 (by decide) ((sk Z pa) + b2)), (KO.up (KO.up hk_1 (by decide)) (by decide)), ?_, hsv⟩
        have q := (show PS (up3 (up3 K_1 4 0 31 b1) 4 0 30 ((sk Z pa) + b2)) cd ((sk Z pa) + b2) b1 ad nu rm we co from ⟨z25_1, (by simp [up3, upr]), (by simp [up3, upr]), z32_1, z33_1, z34_1, z35_1, z36_1⟩)
        exact ⟨q.1.trans (by omega), q.2.1.trans (by omega), q.2.2.1.trans (by omega), q.2.2.2.1.trans (by omega), q.2.2.2.2.1.trans (by omega), q.2.2.2.2.2.1.trans (by omega), q.2.2.2.2.2.2.1.trans (by omega), q.2.2.2.2.2.2.2.trans (by omega)⟩
      refine y_aload_n hE rfl 1 rfl dX4_readsState_103 ?_
      refine gX4_197 (z := b1) hE h40 (by simp [up3, upr]) dX4_readsState_104 ?_
      refine y_if_eq hE 114 (by decide) (by omega) dX4_readsState_107 (fun c_107 => ?_) (fun c_107 => ?_)
      · refine y_iconst hE dX4_readsState_114 ?_
        exact J115 0 (by omega)
      · refine y_iconst hE dX4_readsState_110 ?_
        refine y_goto hE 115 (by decide) dX4_readsState_111 ?_
        exact J115 1 (by omega)
    refine y_aload_n hE rfl 1 rfl dX4_readsState_51 ?_
    refine gX4_197 (z := fi) hE h40 z31_1 dX4_readsState_52 ?_
    refine y_if_eq hE 94 (by decide) (by omega) dX4_readsState_55 (fun c_55 => ?_) (fun c_55 => ?_)
    · refine y_iconst hE dX4_readsState_94 ?_
      exact J95 0 (by unfold stF; rw [← hsv]; first | rw [if_pos (by omega)] | rw [if_neg (by omega)])
    · refine y_aload_n hE rfl 1 rfl dX4_readsState_58 ?_
      refine gX4_191 (z := (sk Z pa)) hE h40 z30_1 dX4_readsState_59 ?_
      refine y_aload_n hE rfl 1 rfl dX4_readsState_62 ?_
      refine gX4_188 (z := (Z 24 0)) hE h40 ((hM_1.2.2.2.2.2.2.2.2).trans (congrFun ((show SZ S Z by assumption) 24 (by decide) (by decide)) 0)) dX4_readsState_63 ?_
      refine y_icmp_ge hE 94 (by decide) (by omega) (by omega) dX4_readsState_66 (fun c_66 => ?_) (fun c_66 => ?_)
      · refine y_iconst hE dX4_readsState_94 ?_
        exact J95 0 (by unfold stF; rw [← hsv]; first | rw [if_pos (by omega)] | rw [if_neg (by omega)])
      · refine y_iload_n hE rfl 2 rfl dX4_readsState_69 ?_
        refine y_if_eq hE 82 (by decide) (by omega) dX4_readsState_70 (fun c_70 => ?_) (fun c_70 => ?_)
        · refine y_aload_n hE rfl 1 rfl dX4_readsState_82 ?_
          refine y_iload_n hE rfl 0 rfl dX4_readsState_83 ?_
          refine y_callV hE (m_X4_isState S sv h40 hM_1 (by omega) (by omega)) (lw_V q2945 q2947 qs61 q133 q2948) (nA := 1) (by decide +kernel) rfl ⟨Nat.le_of_ble_eq_true rfl, Nat.le_of_ble_eq_true rfl⟩ (hdd := rfl) (hcc := rfl) (hq := rfl) (hi := h40) (rest := [.ref (α 4 0)]) rfl (by simp [refV_cat, Value.category]) dX4_readsState_84 (bc' := 0) (bs' := 0) (Nat.le_refl _) (Nat.le_refl _) (fun r_84 n_84 α_84 K_84 hx_84 hp_84 => ?_)
          obtain ⟨rfl, rfl, rfl, hr_84⟩ := hp_84
          refine y_to (st' := [.int (iI r_84), .ref (α 4 0)]) rfl rfl rfl ?_
          refine y_if_eq hE 94 (by decide) (by omega) dX4_readsState_87 (fun c_87 => ?_) (fun c_87 => ?_)
          · refine y_iconst hE dX4_readsState_94 ?_
            exact J95 0 (by unfold stF; rw [← hsv]; first | rw [if_pos (by omega)] | rw [if_neg (by omega)])
          · refine y_iconst hE dX4_readsState_90 ?_
            refine y_goto hE 95 (by decide) dX4_readsState_91 ?_
            exact J95 1 (by unfold stF; rw [← hsv]; first | rw [if_pos (by omega)] | rw [if_neg (by omega)])
        · refine y_aload_n hE rfl 1 rfl dX4_readsState_73 ?_
          refine y_bipush hE (by decide) dX4_readsState_74 ?_
          refine y_callV hE (m_X4_here S Z cd (sk Z pa) fi ad nu rm we co 42 h40 hM_1 ⟨z25_1, z30_1, z31_1, z32_1, z33_1, z34_1, z35_1, z36_1⟩ (by assumption) (by assumption) (by omega) (by omega) (by omega)) (lw_V q3014 q3016 qs70 q133 q3017) (nA := 1) (by decide +kernel) rfl ⟨Nat.le_of_ble_eq_true rfl, Nat.le_of_ble_eq_true rfl⟩ (hdd := rfl) (hcc := rfl) (hq := rfl) (hi := h40) (rest := [.ref (α 4 0)]) rfl (by simp [refV_cat, Value.category]) dX4_readsState_76 (bc' := 0) (bs' := 0) (Nat.le_refl _) (Nat.le_refl _) (fun r_76 n_76 α_76 K_76 hx_76 hp_76 => ?_)
          obtain ⟨rfl, rfl, rfl, hr_76⟩ := hp_76
          have e_76 : hI Z (sk Z pa) 42 = r_76 := Eq.symm (by rw [hr_76.1])
          subst e_76
          refine y_to (st' := [.int (iI (hI Z (sk Z pa) 42)), .ref (α 4 0)]) rfl rfl rfl ?_
          refine y_if_ne hE 90 (by decide) (by omega) dX4_readsState_79 (fun c_79 => ?_) (fun c_79 => ?_)
          · refine y_iconst hE dX4_readsState_90 ?_
            refine y_goto hE 95 (by decide) dX4_readsState_91 ?_
            exact J95 1 (by unfold stF; rw [← hsv]; first | rw [if_pos (by omega)] | rw [if_neg (by omega)])
          · refine y_aload_n hE rfl 1 rfl dX4_readsState_82 ?_
            refine y_iload_n hE rfl 0 rfl dX4_readsState_83 ?_
            refine y_callV hE (m_X4_isState S sv h40 hM_1 (by omega) (by omega)) (lw_V q2945 q2947 qs61 q133 q2948) (nA := 1) (by decide +kernel) rfl ⟨Nat.le_of_ble_eq_true rfl, Nat.le_of_ble_eq_true rfl⟩ (hdd := rfl) (hcc := rfl) (hq := rfl) (hi := h40) (rest := [.ref (α 4 0)]) rfl (by simp [refV_cat, Value.category]) dX4_readsState_84 (bc' := 0) (bs' := 0) (Nat.le_refl _) (Nat.le_refl _) (fun r_84_2 n_84_2 α_84_2 K_84_2 hx_84_2 hp_84_2 => ?_)
            obtain ⟨rfl, rfl, rfl, hr_84_2⟩ := hp_84_2
            refine y_to (st' := [.int (iI r_84_2), .ref (α 4 0)]) rfl rfl rfl ?_
            refine y_if_eq hE 94 (by decide) (by omega) dX4_readsState_87 (fun c_87_2 => ?_) (fun c_87_2 => ?_)
            · refine y_iconst hE dX4_readsState_94 ?_
              exact J95 0 (by unfold stF; rw [← hsv]; first | rw [if_pos (by omega)] | rw [if_neg (by omega)])
            · refine y_iconst hE dX4_readsState_90 ?_
              refine y_goto hE 95 (by decide) dX4_readsState_91 ?_
              exact J95 1 (by unfold stF; rw [← hsv]; first | rw [if_pos (by omega)] | rw [if_neg (by omega)])
  refine y_iload_n hE rfl 1 rfl dX4_readsState_4 ?_
  refine y_if_eq hE 21 (by decide) (by omega) dX4_readsState_5 (fun c_5 => ?_) (fun c_5 => ?_)
  · refine y_aload_n hE rfl 0 rfl dX4_readsState_21 ?_
    refine gX4_191 (z := (sk Z pa)) hE h40 z30_1 dX4_readsState_22 ?_
    refine y_aload_n hE rfl 0 rfl dX4_readsState_25 ?_
    refine gX4_188 (z := (Z 24 0)) hE h40 ((hM_1.2.2.2.2.2.2.2.2).trans (congrFun ((show SZ S Z by assumption) 24 (by decide) (by decide)) 0)) dX4_readsState_26 ?_
    refine y_icmp_ge hE 47 (by decide) (by omega) (by omega) dX4_readsState_29 (fun c_29 => ?_) (fun c_29 => ?_)
    · refine y_bipush hE (by decide) dX4_readsState_47 ?_
      exact J49 99 (by unfold stV; (repeat (first | rw [if_pos (by omega)] | rw [if_neg (by omega)])))
    · have wb := hWz.byt (sk Z pa) (by omega) (by omega)
      refine y_aload_n hE rfl 0 rfl dX4_readsState_32 ?_
      refine gX4_66r (z := 0) hE h40 (MObj.r hM_1.1 23 (by decide)) (by omega) dX4_readsState_33 (fun hl_33 => ?_)
      refine y_aload_n hE rfl 0 rfl dX4_readsState_36 ?_
      refine gX4_191 (z := (sk Z pa)) hE h40 z30_1 dX4_readsState_37 ?_
      refine y_iald hE rfl hl_33 (by have hL : K_1 123 0 (-1) = 150 := (MObj.l hM_1.1 23 (by decide)); omega) dX4_readsState_40 ?_
      refine y_to (st' := [.int (iI (Z 23 (sk Z pa)))]) rfl rfl (by rw [show K_1 123 0 (sk Z pa) = Z 23 (sk Z pa) from ((MRep.ra hM_1 23 rfl (by omega) (by first | omega | (show _ < (150 : Int); omega))).trans (congrFun ((show SZ S Z by assumption) 23 (by decide) (by decide)) _))]) ?_
      refine y_bipush hE (by decide) dX4_readsState_41 ?_
      refine y_isub hE dX4_readsState_43 ?_
      refine y_goto hE 49 (by decide) dX4_readsState_44 ?_
      exact J49 ((Z 23 (sk Z pa)) - 65) (by unfold stV; (repeat (first | rw [if_pos (by omega)] | rw [if_neg (by omega)])))
  · refine y_aload_n hE rfl 0 rfl dX4_readsState_8 ?_
    refine y_bipush hE (by decide) dX4_readsState_9 ?_
    refine y_callV hE (m_X4_here S Z cd (sk Z pa) fi ad nu rm we co 42 h40 hM_1 ⟨z25_1, z30_1, z31_1, z32_1, z33_1, z34_1, z35_1, z36_1⟩ (by assumption) (by assumption) (by omega) (by omega) (by omega)) (lw_V q3014 q3016 qs70 q133 q3017) (nA := 1) (by decide +kernel) rfl ⟨Nat.le_of_ble_eq_true rfl, Nat.le_of_ble_eq_true rfl⟩ (hdd := rfl) (hcc := rfl) (hq := rfl) (hi := h40) (rest := []) rfl (by decide) dX4_readsState_11 (bc' := 0) (bs' := 0) (Nat.le_refl _) (Nat.le_refl _) (fun r_11 n_11 α_11 K_11 hx_11 hp_11 => ?_)
    obtain ⟨rfl, rfl, rfl, hr_11⟩ := hp_11
    have e_11 : hI Z (sk Z pa) 42 = r_11 := Eq.symm (by rw [hr_11.1])
    subst e_11
    refine y_to (st' := [.int (iI (hI Z (sk Z pa) 42))]) rfl rfl rfl ?_
    refine y_if_eq hE 21 (by decide) (by omega) dX4_readsState_14 (fun c_14 => ?_) (fun c_14 => ?_)
    · refine y_aload_n hE rfl 0 rfl dX4_readsState_21 ?_
      refine gX4_191 (z := (sk Z pa)) hE h40 z30_1 dX4_readsState_22 ?_
      refine y_aload_n hE rfl 0 rfl dX4_readsState_25 ?_
      refine gX4_188 (z := (Z 24 0)) hE h40 ((hM_1.2.2.2.2.2.2.2.2).trans (congrFun ((show SZ S Z by assumption) 24 (by decide) (by decide)) 0)) dX4_readsState_26 ?_
      refine y_icmp_ge hE 47 (by decide) (by omega) (by omega) dX4_readsState_29 (fun c_29_2 => ?_) (fun c_29_2 => ?_)
      · refine y_bipush hE (by decide) dX4_readsState_47 ?_
        exact J49 99 (by unfold stV; (repeat (first | rw [if_pos (by omega)] | rw [if_neg (by omega)])))
      · have wb := hWz.byt (sk Z pa) (by omega) (by omega)
        refine y_aload_n hE rfl 0 rfl dX4_readsState_32 ?_
        refine gX4_66r (z := 0) hE h40 (MObj.r hM_1.1 23 (by decide)) (by omega) dX4_readsState_33 (fun hl_33_2 => ?_)
        refine y_aload_n hE rfl 0 rfl dX4_readsState_36 ?_
        refine gX4_191 (z := (sk Z pa)) hE h40 z30_1 dX4_readsState_37 ?_
        refine y_iald hE rfl hl_33_2 (by have hL : K_1 123 0 (-1) = 150 := (MObj.l hM_1.1 23 (by decide)); omega) dX4_readsState_40 ?_
        refine y_to (st' := [.int (iI (Z 23 (sk Z pa)))]) rfl rfl (by rw [show K_1 123 0 (sk Z pa) = Z 23 (sk Z pa) from ((MRep.ra hM_1 23 rfl (by omega) (by first | omega | (show _ < (150 : Int); omega))).trans (congrFun ((show SZ S Z by assumption) 23 (by decide) (by decide)) _))]) ?_
        refine y_bipush hE (by decide) dX4_readsState_41 ?_
        refine y_isub hE dX4_readsState_43 ?_
        refine y_goto hE 49 (by decide) dX4_readsState_44 ?_
        exact J49 ((Z 23 (sk Z pa)) - 65) (by unfold stV; (repeat (first | rw [if_pos (by omega)] | rw [if_neg (by omega)])))
    · refine y_iconst hE dX4_readsState_17 ?_
      refine y_goto hE 49 (by decide) dX4_readsState_18 ?_
      exact J49 (-1) (by unfold stV; (repeat (first | rw [if_pos (by omega)] | rw [if_neg (by omega)])))
set_option maxHeartbeats 4000000 in
set_option maxRecDepth 100000 in
theorem m_X4_sets {w : KW} {n : KN} {α : KA} {K : KS} (S : SS) (Z : SS) (cd pa fi ad nu rm we co : Int) (wh v : Int) (h40 : (0 : Int) ≤ 0 ∧ 0 < n 4) (hM : MRep S n K) (hps : PS K cd pa fi ad nu rm we co) (hz : SZ S Z) (hWz : WFs Z) (hpa : 0 ≤ pa ∧ pa ≤ Z 24 0) (hfi : 0 ≤ fi ∧ fi ≤ 1) (hwh : 0 ≤ wh ∧ wh < 17) (had : 0 ≤ ad ∧ ad ≤ 1) (h21 : ad = 1 → 1 ≤ S 21 0 ∧ S 21 0 ≤ 24) : KM w yX4_sets cX4_sets 3 none { frames := 0, cells := 0, slots := 0, locals := 0 } (3, 0) [.ref (α 4 0), .int (iI wh), .int (iI v)] n α K (fun r n' α' K' => n = n' ∧ α = α' ∧ MRep (setS fi ad wh v S) n K' ∧ KO K K' (fun k _ => k = 120) ∧ (PS K' cd pa fi ad nu rm we co ∧ True)) := by
  refine y_start (by decide) (Nat.le_of_ble_eq_true rfl) (fun x hE hQ => ?_)
  have hw := hQ.2
  subst hw
  have hE : YE x cX4_sets RX4 none "sets" 3 { frames := 0, cells := 0, slots := 0, locals := 0 } := hE
  refine y_wk (fun hWK => ?_)
  have hn0 := hWK.1
  refine y_bud (bc' := 0) (bs' := 0) (Nat.le_refl _) (Nat.le_refl _) ?_
  refine y_to (lv' := [(0, .ref (α 4 0)), (1, .int (iI wh)), (2, .int (iI v))]) (st' := []) rfl rfl rfl ?_
  have wtxt := hWz.txt
  have wsts := hWz.sts
  have wpar := hWz.par
  have wtrs := hWz.trs
  have q24 : S 24 0 = Z 24 0 := congrFun (hz 24 (by decide) (by decide)) 0
  have q19 : S 19 0 = Z 19 0 := congrFun (hz 19 (by decide) (by decide)) 0
  have q3 : S 3 0 = Z 3 0 := congrFun (hz 3 (by decide) (by decide)) 0
  refine y_aload_n hE rfl 0 rfl dX4_sets_0 ?_
  refine gX4_197 (z := fi) hE h40 hps.2.2.1 dX4_sets_1 ?_
  refine y_if_eq hE 31 (by decide) (by omega) dX4_sets_4 (fun c_4 => ?_) (fun c_4 => ?_)
  · exact y_vret (r := 0) hE rfl hQ dX4_sets_31 Ext.rf ⟨rfl, rfl, by unfold setS; first | (rw [if_pos (by omega)]; exact hM) | (rw [if_neg (by omega)]; exact hM), KO.rf, ⟨hps.1, hps.2.1, hps.2.2.1, hps.2.2.2.1, hps.2.2.2.2.1, hps.2.2.2.2.2.1, hps.2.2.2.2.2.2.1, hps.2.2.2.2.2.2.2⟩, trivial⟩
  · refine y_aload_n hE rfl 0 rfl dX4_sets_7 ?_
    refine gX4_211 (z := ad) hE h40 hps.2.2.2.1 dX4_sets_8 ?_
    refine y_if_eq hE 31 (by decide) (by omega) dX4_sets_11 (fun c_11 => ?_) (fun c_11 => ?_)
    · exact y_vret (r := 0) hE rfl hQ dX4_sets_31 Ext.rf ⟨rfl, rfl, by unfold setS; first | (rw [if_pos (by omega)]; exact hM) | (rw [if_neg (by omega)]; exact hM), KO.rf, ⟨hps.1, hps.2.1, hps.2.2.1, hps.2.2.2.1, hps.2.2.2.2.1, hps.2.2.2.2.2.1, hps.2.2.2.2.2.2.1, hps.2.2.2.2.2.2.2⟩, trivial⟩
    · have h219 := h21 (by omega)
      refine y_aload_n hE rfl 0 rfl dX4_sets_14 ?_
      refine gX4_59r (z := 0) hE h40 (MObj.r hM.1 20 (by decide)) (by omega) dX4_sets_15 (fun hl_15 => ?_)
      refine y_bipush hE (by decide) dX4_sets_18 ?_
      refine y_aload_n hE rfl 0 rfl dX4_sets_20 ?_
      refine gX4_159 (z := S 21 0) hE h40 (hM.2.2.2.2.2.2.1) dX4_sets_21 ?_
      refine y_iconst hE dX4_sets_24 ?_
      refine y_isub hE dX4_sets_25 ?_
      refine y_imul hE dX4_sets_26 ?_
      refine y_iload_n hE rfl 1 rfl dX4_sets_27 ?_
      refine y_iadd hE dX4_sets_28 ?_
      refine y_iload_n hE rfl 2 rfl dX4_sets_29 ?_
      refine y_iast hE (by unfold kC; decide) rfl (by simp [kTag]) hl_15 (by have hL : K 120 0 (-1) = 408 := (MObj.l hM.1 20 (by decide)); omega) dX4_sets_30 ?_
      exact y_vret (r := 0) hE rfl hQ dX4_sets_31 Ext.rf ⟨rfl, rfl, by unfold setS; first | (rw [if_pos (by omega)]; exact (MRep.a hM 20 rfl (j := (17 * ((S 21 0) - 1)) + wh) (by omega) v)) | (rw [if_neg (by omega)]; exact (MRep.a hM 20 rfl (j := (17 * ((S 21 0) - 1)) + wh) (by omega) v)), (KO.up KO.rf (by decide)), ⟨hps.1, hps.2.1, hps.2.2.1, hps.2.2.2.1, hps.2.2.2.2.1, hps.2.2.2.2.2.1, hps.2.2.2.2.2.2.1, hps.2.2.2.2.2.2.2⟩, trivial⟩
/-- a condition is read, behind its sign: places, the parameter, the operator, fine, what is added -/
def cNt (Z : SS) (pa : Int) : Int := hI Z (sk Z pa) 126
def cB1 (Z : SS) (pa : Int) : Int := sk Z (sk Z pa + cNt Z pa)
def cP (Z : SS) (pa : Int) : Int := if cB1 Z pa < Z 24 0 then Z 23 (cB1 Z pa) - 97 else 99
def cF1 (Z : SS) (pa : Int) : Int := if 0 ≤ cP Z pa ∧ cP Z pa < Z 3 0 ∧ (cNt Z pa = 0 ∨ Z 2 (cP Z pa) = 1) then 1 else 0
def cB3 (Z : SS) (pa : Int) : Int := sk Z (cB1 Z pa + 1)
def opI (Z : SS) (b : Int) : Int := if hI Z b 62 = 1 then 0 else if hI Z b 60 = 1 then 1 else if hI Z b 61 = 1 then 2 else if hI Z b 35 = 1 then 3 else 4
def cOp (Z : SS) (pa : Int) : Int := opI Z (cB3 Z pa)
def cF2 (Z : SS) (pa : Int) : Int := if cOp Z pa < 4 then 1 else 0
def cB4 (Z : SS) (pa : Int) : Int := sk Z (cB3 Z pa + cF2 Z pa)
def cMi (Z : SS) (pa : Int) : Int := if cF2 Z pa = 1 ∧ hI Z (cB4 Z pa) 45 = 1 then 1 else 0
def cB5 (Z : SS) (pa : Int) : Int := cB4 Z pa + cMi Z pa
def cdF (Z : SS) (pa : Int) : Int := if cF1 Z pa = 0 then 0 else if Z 2 (cP Z pa) = 0 then nuF Z (cB5 Z pa) (cF2 Z pa) 100 else 1
def cdA (Z : SS) (pa : Int) : Int := if cF1 Z pa = 0 then cB1 Z pa else if Z 2 (cP Z pa) = 0 then nuA Z (cB5 Z pa) (cF2 Z pa) 100 else cB1 Z pa + 1
def cdN (Z : SS) (pa nu : Int) : Int := if cF1 Z pa = 0 then nu else if Z 2 (cP Z pa) = 0 then nuV Z (cB5 Z pa) (cF2 Z pa) else nu
def cdO (Z : SS) (pa : Int) : Int := if Z 2 (cP Z pa) = 0 then cOp Z pa else 2
def cdV (Z : SS) (pa : Int) : Int := if Z 2 (cP Z pa) = 0 then (if cMi Z pa = 1 then -nuV Z (cB5 Z pa) (cF2 Z pa) else nuV Z (cB5 Z pa) (cF2 Z pa)) else (if cNt Z pa = 1 then 0 else 1)
def cdQ (Z Q : SS) (pa : Int) : SS := if cdF Z pa = 1 then cndS Q (Q 21 0 - 1) (cP Z pa) (cdO Z pa) (cdV Z pa) else Q
theorem opI_in (Z : SS) (b : Int) : 0 ≤ opI Z b ∧ opI Z b ≤ 4 := by unfold opI; (repeat' split) <;> omega
theorem opI_ln {Z : SS} {b : Int} (h : opI Z b < 4) : b < Z 24 0 := by
  unfold opI at h
  (repeat' split at h) <;> first | omega | (rename_i q; exact (hI_ln q).1)
theorem c_in {Z : SS} (hW : WFs Z) {pa : Int} (h : 0 ≤ pa ∧ pa ≤ Z 24 0) : (cNt Z pa = 0 ∨ cNt Z pa = 1) ∧ (pa ≤ cB1 Z pa ∧ cB1 Z pa ≤ Z 24 0) ∧ (-97 ≤ cP Z pa ∧ cP Z pa ≤ 158) ∧ (cF1 Z pa = 0 ∨ cF1 Z pa = 1 ∧ cB1 Z pa + 1 ≤ cB3 Z pa ∧ cB3 Z pa ≤ Z 24 0 ∧ 0 ≤ cP Z pa ∧ cP Z pa < Z 3 0 ∧ cB3 Z pa + cF2 Z pa ≤ cB4 Z pa ∧ cB4 Z pa ≤ Z 24 0 ∧ cB4 Z pa ≤ cB5 Z pa ∧ cB5 Z pa ≤ Z 24 0) ∧ (cF2 Z pa = 0 ∨ cF2 Z pa = 1) ∧ (cMi Z pa = 0 ∨ cMi Z pa = 1) := by
  have h1 := sk_in h.2
  have hn : cNt Z pa = 0 ∨ cNt Z pa = 1 := hI_01 _ _ _
  have hn2 : sk Z pa + cNt Z pa ≤ Z 24 0 := by
    rcases hn with e | e
    · omega
    · have := hI_ln e; omega
  have h2 := sk_in hn2
  rw [← cB1] at h2
  have hp : -97 ≤ cP Z pa ∧ cP Z pa ≤ 158 := by
    unfold cP
    split
    · have := hW.byt (cB1 Z pa) (by omega) (by omega); omega
    · omega
  have hpl : 0 ≤ cP Z pa ∧ cP Z pa < Z 3 0 → cB1 Z pa < Z 24 0 := by
    have := hW.par
    unfold cP
    split <;> omega
  have hF2 : cF2 Z pa = 0 ∨ cF2 Z pa = 1 := by unfold cF2; split <;> omega
  have hMi : cMi Z pa = 0 ∨ cMi Z pa = 1 := by unfold cMi; split <;> omega
  refine ⟨hn, by omega, hp, ?_, hF2, hMi⟩
  by_cases e : cF1 Z pa = 0
  · exact Or.inl e
  · right
    have e1 : cF1 Z pa = 1 ∧ 0 ≤ cP Z pa ∧ cP Z pa < Z 3 0 := by
      unfold cF1 at *
      split at e
      · rename_i q; rw [if_pos q]; exact ⟨rfl, q.1, q.2.1⟩
      · omega
    have hl := hpl e1.2
    have h3 := sk_in (Z := Z) (a := cB1 Z pa + 1) (by omega)
    rw [← cB3] at h3
    have h4 : cB3 Z pa + cF2 Z pa ≤ Z 24 0 := by
      unfold cF2
      split
      · rename_i q; have := opI_ln (Z := Z) (b := cB3 Z pa) q; omega
      · omega
    have h5 := sk_in h4
    rw [← cB4] at h5
    have h6 : cB4 Z pa + cMi Z pa ≤ Z 24 0 := by
      unfold cMi
      split
      · rename_i q; have := hI_ln q.2; omega
      · omega
    unfold cB5
    omega
theorem cdF_01 (Z : SS) (pa : Int) : cdF Z pa = 0 ∨ cdF Z pa = 1 := by
  unfold cdF
  have := nuF_01 Z (cB5 Z pa) (cF2 Z pa) 100
  (repeat' split) <;> omega
theorem cdA_in {Z : SS} (hW : WFs Z) {pa : Int} (h : 0 ≤ pa ∧ pa ≤ Z 24 0) : pa ≤ cdA Z pa ∧ cdA Z pa ≤ Z 24 0 := by
  obtain ⟨h1, h2, h3, h4, h5, h6⟩ := c_in hW h
  unfold cdA
  split
  · exact h2
  · split
    · have := nuA_in (Z := Z) (pa := cB5 Z pa) (fi := cF2 Z pa) (m := 100) (by omega)
      omega
    · have : cB3 Z pa = sk Z (cB1 Z pa + 1) := rfl
      omega
