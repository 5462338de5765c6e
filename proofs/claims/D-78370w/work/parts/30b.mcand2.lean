set_option linter.unusedVariables false
set_option maxHeartbeats 4000000 in
set_option maxRecDepth 100000 in
theorem m_X4_against {w : KW} {n : KN} {α : KA} {K : KS} (S : SS) (T t l : Int) (h40 : (0 : Int) ≤ 0 ∧ 0 < n 4) (hM : MRep S n K) (hW : WFs S) (hv0 : WFv S) (hX : WFm S 0 T) (ht : 0 ≤ t ∧ t < S 21 0) (hl : l = 1 ∨ l = 2 ∧ S 0 8 = 1) (hT0 : 0 ≤ T ∧ T ≤ 20000) : KM w yX4_against cX4_against 5 (some (.int)) { frames := 1, cells := 0, slots := 0, locals := 26 } (0, 0) [.ref (α 4 0), .int (iI t), .int (iI l)] n α K (fun r n' α' K' => n = n' ∧ α = α' ∧ K = K' ∧ (r = agS S t l)) := by
  refine y_start (by decide) (Nat.le_of_ble_eq_true rfl) (fun x hE hQ => ?_)
  have hw := hQ.2
  subst hw
  have hE : YE x cX4_against RX4 (some (.int)) "against" 5 { frames := 1, cells := 0, slots := 0, locals := 26 } := hE
  refine y_wk (fun hWK => ?_)
  have hn0 := hWK.1
  refine y_bud (bc' := 0) (bs' := 0) (Nat.le_refl _) (Nat.le_refl _) ?_
  refine y_to (lv' := [(0, .ref (α 4 0)), (1, .int (iI t)), (2, .int (iI l))]) (st' := []) rfl rfl rfl ?_
  have wpar := hW.par
  have wclips := hW.clips
  have wnodes := hW.nodes
  have wsts := hW.sts
  have wtrs := hW.trs
  have wthr := hW.thr
  have wtxt := hW.txt
  have xinn := hX.inn
  have xcuts := hX.cuts
  have xfro := hX.fro
  have xmany := hX.many
  have xevn := hX.evn
  have xtks := hX.tks
  simp only [Int.zero_add] at xinn xcuts xfro xmany xevn xtks
  have xta := hX.ta
  have xtb := hX.tb
  simp only [Int.zero_add] at xta xtb
  unfold TkOk at xta xtb
  have wt := hW.tr t ht.1 ht.2
  have xtaa := xta (by omega)
  have J12 : ∀ (a : Int), (a = if l = 2 then 16 else 12) → Y x n α K 0 0 12 [(0, .ref (α 4 0)), (1, .int (iI t)), (2, .int (iI l))] [.int (iI a)] := by
    intro a ha
    refine y_istore_n hE rfl [(3, .int (iI a)), (0, .ref (α 4 0)), (1, .int (iI t)), (2, .int (iI l))] (by decide) rfl dX4_against_12 ?_
    have J45 : (¬ (S 20 (17 * t + 3) ≠ -1 ∧ prgS S a < S 20 (17 * t + 3) * 10000)) → Y x n α K 0 0 45 [(3, .int (iI a)), (0, .ref (α 4 0)), (1, .int (iI t)), (2, .int (iI l))] [] := by
      intro hnx
      refine y_iconst hE dX4_against_45 ?_
      refine y_istore hE [(4, .int (iI 0)), (3, .int (iI a)), (0, .ref (α 4 0)), (1, .int (iI t)), (2, .int (iI l))] (by decide) rfl dX4_against_46 ?_
      have L48 : ∀ (fuel : Nat) (k : Int), (0 ≤ k ∧ k ≤ S 20 (17 * t + 7)) → (agF S t (S 20 (17 * t + 7)).toNat 0 = agF S t (S 20 (17 * t + 7) - k).toNat k) → (S 20 (17 * t + 7) - k).toNat < fuel → Y x n α K 0 0 48 [(4, .int (iI k)), (3, .int (iI a)), (0, .ref (α 4 0)), (1, .int (iI t)), (2, .int (iI l))] [] := by
        intro fuel48
        induction fuel48 with
        | zero => intro k hk hf hfu48; exact absurd hfu48 (Nat.not_lt_zero _)
        | succ fuel48 ih48 =>
          intro k hk hf hfu48
          refine y_iload hE 0 rfl dX4_against_48 ?_
          refine y_aload_n hE rfl 2 rfl dX4_against_50 ?_
          refine y_iload_n hE rfl 3 rfl dX4_against_51 ?_
          refine y_bipush hE (by decide) dX4_against_52 ?_
          refine y_callV hE (m_X4_of S t 7 h40 hM (by omega)) (lw_V q2964 q2966 qs64 q133 q2967) (nA := 2) (by decide +kernel) rfl ⟨Nat.le_of_ble_eq_true rfl, Nat.le_of_ble_eq_true rfl⟩ (hdd := rfl) (hcc := rfl) (hq := rfl) (hi := h40) (rest := [.int (iI k)]) rfl (by simp [refV_cat, Value.category]) dX4_against_54 (bc' := 0) (bs' := 0) (Nat.le_refl _) (Nat.le_refl _) (fun r_54 n_54 α_54 K_54 hx_54 hp_54 => ?_)
          obtain ⟨rfl, rfl, rfl, hr_54⟩ := hp_54
          have e_54 : S 20 (17 * t + 7) = r_54 := Eq.symm (by rw [hr_54])
          subst e_54
          refine y_to (st' := [.int (iI (S 20 (17 * t + 7))), .int (iI k)]) rfl rfl rfl ?_
          refine y_icmp_ge hE 81 (by decide) (by omega) (by omega) dX4_against_57 (fun c_57 => ?_) (fun c_57 => ?_)
          · refine y_iconst hE dX4_against_81 ?_
            exact y_iret hE rfl rfl hQ dX4_against_82 Ext.rf ⟨rfl, rfl, rfl, by unfold agS; rw [← ha, if_neg hnx, hf, show (S 20 (17 * t + 7) - k).toNat = 0 by omega, agF]⟩
          · have hh01 := hldI_01 S t k
            refine y_aload_n hE rfl 2 rfl dX4_against_60 ?_
            refine y_iload_n hE rfl 3 rfl dX4_against_61 ?_
            refine y_iload hE 0 rfl dX4_against_62 ?_
            refine y_callV hE (m_X4_holds S t k h40 hM (by first | exact hW | omega) (by first | exact hv0 | omega) (by first | exact ht | omega) (by omega)) (lw_V q3126 q3128 qs91 q133 q3129) (nA := 2) (by decide +kernel) rfl ⟨Nat.le_of_ble_eq_true rfl, Nat.le_of_ble_eq_true rfl⟩ (hdd := rfl) (hcc := rfl) (hq := rfl) (hi := h40) (rest := []) rfl (by decide) dX4_against_64 (bc' := 0) (bs' := 0) (Nat.le_refl _) (Nat.le_refl _) (fun r_64 n_64 α_64 K_64 hx_64 hp_64 => ?_)
            obtain ⟨rfl, rfl, rfl, hr_64⟩ := hp_64
            have e_64 : hldI S t k = r_64 := Eq.symm (by rw [hr_64])
            subst e_64
            refine y_to (st' := [.int (iI (hldI S t k))]) rfl rfl rfl ?_
            refine y_if_ne hE 75 (by decide) (by omega) dX4_against_67 (fun c_67 => ?_) (fun c_67 => ?_)
            · refine y_iinc hE 0 rfl [(4, .int (iI (k + 1))), (3, .int (iI a)), (0, .ref (α 4 0)), (1, .int (iI t)), (2, .int (iI l))] (by decide) rfl dX4_against_75 ?_
              refine y_goto hE 48 (by decide) dX4_against_78 ?_
              exact ih48 (k + 1) (by omega) (by rw [hf, agF_s (by omega), if_pos (by omega)]) (by omega)
            · refine y_iconst hE dX4_against_70 ?_
              refine y_iload hE 0 rfl dX4_against_71 ?_
              refine y_iadd hE dX4_against_73 ?_
              exact y_iret hE rfl rfl hQ dX4_against_74 Ext.rf ⟨rfl, rfl, rfl, by unfold agS; rw [← ha, if_neg hnx, hf, agF_s (by omega), if_neg (by omega)]⟩
      exact L48 _ 0 (by omega) (by rw [Int.sub_zero]) (Nat.lt_succ_self _)
    refine y_aload_n hE rfl 1 rfl dX4_against_13 ?_
    refine y_iload_n hE rfl 2 rfl dX4_against_14 ?_
    refine y_iconst hE dX4_against_15 ?_
    refine y_callV hE (m_X4_of S t 3 h40 hM (by omega)) (lw_V q2964 q2966 qs64 q133 q2967) (nA := 2) (by decide +kernel) rfl ⟨Nat.le_of_ble_eq_true rfl, Nat.le_of_ble_eq_true rfl⟩ (hdd := rfl) (hcc := rfl) (hq := rfl) (hi := h40) (rest := []) rfl (by decide) dX4_against_16 (bc' := 0) (bs' := 0) (Nat.le_refl _) (Nat.le_refl _) (fun r_16 n_16 α_16 K_16 hx_16 hp_16 => ?_)
    obtain ⟨rfl, rfl, rfl, hr_16⟩ := hp_16
    have e_16 : S 20 (17 * t + 3) = r_16 := Eq.symm (by rw [hr_16])
    subst e_16
    refine y_to (st' := [.int (iI (S 20 (17 * t + 3)))]) rfl rfl rfl ?_
    refine y_iconst hE dX4_against_19 ?_
    refine y_icmp_eq hE 45 (by decide) (by omega) (by omega) dX4_against_20 (fun c_20 => ?_) (fun c_20 => ?_)
    · exact J45  (by omega)
    · have hpr : 0 ≤ prgS S a ∧ prgS S a ≤ 1000000000000 := by rcases hl with h | h; (rw [if_neg (by omega)] at ha; rw [ha]; unfold prgS; omega); (rw [if_pos (by omega)] at ha; have xb := xtb h.2; rw [ha]; unfold prgS; omega)
      have hpr1 : (-2147483648 ≤ S 0 (a + 1) ∧ S 0 (a + 1) ≤ 2147483647) ∧ (-2147483648 ≤ S 0 (a + 2) ∧ S 0 (a + 2) ≤ 2147483647) ∧ 0 ≤ a ∧ a + 2 < 1160 := by rcases hl with h | h; (rw [if_neg (by omega)] at ha; rw [ha]; omega); (rw [if_pos (by omega)] at ha; have xb := xtb h.2; rw [ha]; omega)
      refine y_aload_n hE rfl 1 rfl dX4_against_23 ?_
      refine y_iload_n hE rfl 0 rfl dX4_against_24 ?_
      refine y_callV hE (m_X4_progressOf S a h40 hM (by omega) (by omega) (by omega)) (lw_V q3121 q3123 qs90 q133 q3124) (nA := 1) (by decide +kernel) rfl ⟨Nat.le_of_ble_eq_true rfl, Nat.le_of_ble_eq_true rfl⟩ (hdd := rfl) (hcc := rfl) (hq := rfl) (hi := h40) (rest := []) rfl (by decide) dX4_against_25 (bc' := 0) (bs' := 0) (Nat.le_refl _) (Nat.le_refl _) (fun r_25 n_25 α_25 K_25 hx_25 hp_25 => ?_)
      obtain ⟨rfl, rfl, rfl, hr_25⟩ := hp_25
      have e_25 : prgS S a = r_25 := Eq.symm (by rw [hr_25])
      subst e_25
      refine y_to (st' := [.long (iL (prgS S a))]) rfl rfl rfl ?_
      refine y_aload_n hE rfl 1 rfl dX4_against_28 ?_
      refine y_iload_n hE rfl 2 rfl dX4_against_29 ?_
      refine y_iconst hE dX4_against_30 ?_
      refine y_callV hE (m_X4_of S t 3 h40 hM (by omega)) (lw_V q2964 q2966 qs64 q133 q2967) (nA := 2) (by decide +kernel) rfl ⟨Nat.le_of_ble_eq_true rfl, Nat.le_of_ble_eq_true rfl⟩ (hdd := rfl) (hcc := rfl) (hq := rfl) (hi := h40) (rest := [.long (iL (prgS S a))]) rfl (by simp [refV_cat, Value.category]) dX4_against_31 (bc' := 0) (bs' := 0) (Nat.le_refl _) (Nat.le_refl _) (fun r_31 n_31 α_31 K_31 hx_31 hp_31 => ?_)
      obtain ⟨rfl, rfl, rfl, hr_31⟩ := hp_31
      have e_31 : S 20 (17 * t + 3) = r_31 := Eq.symm (by rw [hr_31])
      subst e_31
      refine y_to (st' := [.int (iI (S 20 (17 * t + 3))), .long (iL (prgS S a))]) rfl rfl rfl ?_
      refine y_i2l hE (by omega) dX4_against_34 ?_
      refine y_ldc2 hE 10000 (v := 10000) (by decide) q3125 dX4_against_35 ?_
      refine y_lmul hE dX4_against_38 ?_
      refine y_lcmp_ge hE 45 (by decide) (by omega) (by omega) dX4_against_39 dX4_against_40 (fun c_39 => ?_) (fun c_39 => ?_)
      · exact J45  (by omega)
      · refine y_iconst hE dX4_against_43 ?_
        exact y_iret hE rfl rfl hQ dX4_against_44 Ext.rf ⟨rfl, rfl, rfl, by unfold agS; rw [← ha, if_pos (by omega)]⟩
  refine y_iload_n hE rfl 2 rfl dX4_against_0 ?_
  refine y_iconst hE dX4_against_1 ?_
  refine y_icmp_ne hE 10 (by decide) (by omega) (by omega) dX4_against_2 (fun c_2 => ?_) (fun c_2 => ?_)
  · refine y_bipush hE (by decide) dX4_against_10 ?_
    exact J12 12 (by first | rw [if_pos (by omega)] | rw [if_neg (by omega)])
  · refine y_bipush hE (by decide) dX4_against_5 ?_
    refine y_goto hE 12 (by decide) dX4_against_7 ?_
    exact J12 16 (by first | rw [if_pos (by omega)] | rw [if_neg (by omega)])
set_option maxHeartbeats 4000000 in
set_option maxRecDepth 100000 in
theorem m_X4_firstOf {w : KW} {n : KN} {α : KA} {K : KS} (S : SS) (T l : Int) (h40 : (0 : Int) ≤ 0 ∧ 0 < n 4) (hM : MRep S n K) (hW : WFs S) (hv0 : WFv S) (hX : WFm S 0 T) (hl : l = 1 ∨ l = 2) (hT0 : 0 ≤ T ∧ T ≤ 20000) : KM w yX4_firstOf cX4_firstOf 4 (some (.int)) { frames := 4, cells := 0, slots := 0, locals := 90 } (0, 0) [.ref (α 4 0), .int (iI l)] n α K (fun r n' α' K' => n = n' ∧ α = α' ∧ K = K' ∧ (r = fstS S l)) := by
  refine y_start (by decide) (Nat.le_of_ble_eq_true rfl) (fun x hE hQ => ?_)
  have hw := hQ.2
  subst hw
  have hE : YE x cX4_firstOf RX4 (some (.int)) "firstOf" 4 { frames := 4, cells := 0, slots := 0, locals := 90 } := hE
  refine y_wk (fun hWK => ?_)
  have hn0 := hWK.1
  refine y_bud (bc' := 0) (bs' := 0) (Nat.le_refl _) (Nat.le_refl _) ?_
  refine y_to (lv' := [(0, .ref (α 4 0)), (1, .int (iI l))]) (st' := []) rfl rfl rfl ?_
  have wpar := hW.par
  have wclips := hW.clips
  have wnodes := hW.nodes
  have wsts := hW.sts
  have wtrs := hW.trs
  have wthr := hW.thr
  have wtxt := hW.txt
  have xinn := hX.inn
  have xcuts := hX.cuts
  have xfro := hX.fro
  have xmany := hX.many
  have xevn := hX.evn
  have xtks := hX.tks
  simp only [Int.zero_add] at xinn xcuts xfro xmany xevn xtks
  have xta := hX.ta
  have xtb := hX.tb
  simp only [Int.zero_add] at xta xtb
  unfold TkOk at xta xtb
  refine y_iconst hE dX4_firstOf_0 ?_
  refine y_istore_n hE rfl [(2, .int (iI 0)), (0, .ref (α 4 0)), (1, .int (iI l))] (by decide) rfl dX4_firstOf_1 ?_
  have L2 : ∀ (fuel : Nat) (ps : Int), (0 ≤ ps ∧ ps ≤ 2) → (1 ≤ ps → fsF S l 0 (S 21 0).toNat 0 = -1) → (2 ≤ ps → fsF S l 1 (S 21 0).toNat 0 = -1) → (2 - ps).toNat < fuel → Y x n α K 0 0 2 [(2, .int (iI ps)), (0, .ref (α 4 0)), (1, .int (iI l))] [] := by
    intro fuel2
    induction fuel2 with
    | zero => intro ps hps hp1 hp2 hfu2; exact absurd hfu2 (Nat.not_lt_zero _)
    | succ fuel2 ih2 =>
      intro ps hps hp1 hp2 hfu2
      refine y_iload_n hE rfl 0 rfl dX4_firstOf_2 ?_
      refine y_iconst hE dX4_firstOf_3 ?_
      refine y_icmp_ge hE 76 (by decide) (by omega) (by omega) dX4_firstOf_4 (fun c_4 => ?_) (fun c_4 => ?_)
      · refine y_iconst hE dX4_firstOf_76 ?_
        exact y_iret hE rfl rfl hQ dX4_firstOf_77 Ext.rf ⟨rfl, rfl, rfl, by unfold fstS; rw [if_neg (by rw [hp1 (by omega)]; omega), hp2 (by omega)]⟩
      · refine y_iconst hE dX4_firstOf_7 ?_
        refine y_istore_n hE rfl [(3, .int (iI 0)), (2, .int (iI ps)), (0, .ref (α 4 0)), (1, .int (iI l))] (by decide) rfl dX4_firstOf_8 ?_
        have L9 : ∀ (fuel : Nat) (t : Int), (0 ≤ t ∧ t ≤ S 21 0) → (fsF S l ps (S 21 0).toNat 0 = fsF S l ps (S 21 0 - t).toNat t) → (S 21 0 - t).toNat < fuel → Y x n α K 0 0 9 [(3, .int (iI t)), (2, .int (iI ps)), (0, .ref (α 4 0)), (1, .int (iI l))] [] := by
          intro fuel9
          induction fuel9 with
          | zero => intro t ht hf hfu9; exact absurd hfu9 (Nat.not_lt_zero _)
          | succ fuel9 ih9 =>
            intro t ht hf hfu9
            refine y_iload_n hE rfl 0 rfl dX4_firstOf_9 ?_
            refine y_aload_n hE rfl 2 rfl dX4_firstOf_10 ?_
            refine gX4_159 (z := S 21 0) hE h40 (hM.2.2.2.2.2.2.1) dX4_firstOf_11 ?_
            refine y_icmp_ge hE 70 (by decide) (by omega) (by omega) dX4_firstOf_14 (fun c_14 => ?_) (fun c_14 => ?_)
            · have hfe : fsF S l ps (S 21 0).toNat 0 = -1 := by rw [hf, show (S 21 0 - t).toNat = 0 by omega, fsF]
              refine y_iinc hE 1 rfl [(2, .int (iI (ps + 1))), (3, .int (iI t)), (0, .ref (α 4 0)), (1, .int (iI l))] (by decide) rfl dX4_firstOf_70 ?_
              refine y_goto hE 2 (by decide) dX4_firstOf_73 ?_
              refine y_lv [0, 2, 3] [(2, .int (iI (ps + 1))), (0, .ref (α 4 0)), (1, .int (iI l))] rfl ?_
              exact ih2 (ps + 1) (by omega) (fun z => by by_cases e : ps = 0; (rw [e] at hfe; exact hfe); exact hp1 (by omega)) (fun z => by rw [show ps = 1 by omega] at hfe; exact hfe) (by omega)
            · have wt := hW.tr t (by omega) (by omega)
              have hli := lstS_012 S t
              have hai := agS_in hW (t := t) (l := l) (by omega)
              have J32 : ∀ (xa : Int), (xa = 1 ∧ S 20 (17 * t) = -1 ∨ xa = 0 ∧ S 20 (17 * t) ≠ -1) → Y x n α K 0 0 32 [(3, .int (iI t)), (2, .int (iI ps)), (0, .ref (α 4 0)), (1, .int (iI l))] [.int (iI xa)] := by
                intro xa hx
                have J41 : ∀ (y : Int), (y = 1 ∧ ps = 0 ∨ y = 0 ∧ ps ≠ 0) → Y x n α K 0 0 41 [(3, .int (iI t)), (2, .int (iI ps)), (0, .ref (α 4 0)), (1, .int (iI l))] [.int (iI y), .int (iI xa)] := by
                  intro y hy
                  have J64 : (¬ ((S 20 (17 * t) = -1 ∧ ps = 0 ∨ S 20 (17 * t) ≠ -1 ∧ ps ≠ 0) ∧ lstS S t = l ∧ agS S t l = 0)) → Y x n α K 0 0 64 [(3, .int (iI t)), (2, .int (iI ps)), (0, .ref (α 4 0)), (1, .int (iI l))] [] := by
                    intro hno
                    refine y_iinc hE 0 rfl [(3, .int (iI (t + 1))), (2, .int (iI ps)), (0, .ref (α 4 0)), (1, .int (iI l))] (by decide) rfl dX4_firstOf_64 ?_
                    refine y_goto hE 9 (by decide) dX4_firstOf_67 ?_
                    exact ih9 (t + 1) (by omega) (by rw [hf, fsF_s (by omega), if_neg hno]) (by omega)
                  refine y_icmp_ne hE 64 (by decide) (by omega) (by omega) dX4_firstOf_41 (fun c_41 => ?_) (fun c_41 => ?_)
                  · exact J64  (by omega)
                  · refine y_aload_n hE rfl 2 rfl dX4_firstOf_44 ?_
                    refine y_iload_n hE rfl 0 rfl dX4_firstOf_45 ?_
                    refine y_callV hE (m_X4_listOf S T t h40 hM (by first | exact hW | omega) (by first | exact hX | omega) (by omega)) (lw_V q3097 q3099 qs84 q133 q3100) (nA := 1) (by decide +kernel) rfl ⟨Nat.le_of_ble_eq_true rfl, Nat.le_of_ble_eq_true rfl⟩ (hdd := rfl) (hcc := rfl) (hq := rfl) (hi := h40) (rest := []) rfl (by decide) dX4_firstOf_46 (bc' := 0) (bs' := 0) (Nat.le_refl _) (Nat.le_refl _) (fun r_46 n_46 α_46 K_46 hx_46 hp_46 => ?_)
                    obtain ⟨rfl, rfl, rfl, hr_46⟩ := hp_46
                    have e_46 : lstS S t = r_46 := Eq.symm (by rw [hr_46])
                    subst e_46
                    refine y_to (st' := [.int (iI (lstS S t))]) rfl rfl rfl ?_
                    refine y_iload_n hE rfl 3 rfl dX4_firstOf_49 ?_
                    refine y_icmp_ne hE 64 (by decide) (by omega) (by omega) dX4_firstOf_50 (fun c_50 => ?_) (fun c_50 => ?_)
                    · exact J64  (by omega)
                    · have hl8 : l = 1 ∨ l = 2 ∧ S 0 8 = 1 := by
                        rcases hl with h | h
                        · exact Or.inl h
                        · right; refine ⟨h, ?_⟩
                          rcases xinn with z | z
                          · exfalso; have : lstS S t ≤ 1 := by unfold lstS; rw [if_pos z]; split <;> omega
                            omega
                          · exact z.1
                      refine y_aload_n hE rfl 2 rfl dX4_firstOf_53 ?_
                      refine y_iload_n hE rfl 0 rfl dX4_firstOf_54 ?_
                      refine y_iload_n hE rfl 3 rfl dX4_firstOf_55 ?_
                      refine y_callV hE (m_X4_against S T t l h40 hM (by first | exact hW | omega) (by first | exact hv0 | omega) (by first | exact hX | omega) (by omega) (hl8) (by first | exact hT0 | omega)) (lw_V q3117 q3119 qs89 q133 q3120) (nA := 2) (by decide +kernel) rfl ⟨Nat.le_of_ble_eq_true rfl, Nat.le_of_ble_eq_true rfl⟩ (hdd := rfl) (hcc := rfl) (hq := rfl) (hi := h40) (rest := []) rfl (by decide) dX4_firstOf_56 (bc' := 0) (bs' := 0) (Nat.le_refl _) (Nat.le_refl _) (fun r_56 n_56 α_56 K_56 hx_56 hp_56 => ?_)
                      obtain ⟨rfl, rfl, rfl, hr_56⟩ := hp_56
                      have e_56 : agS S t l = r_56 := Eq.symm (by rw [hr_56])
                      subst e_56
                      refine y_to (st' := [.int (iI (agS S t l))]) rfl rfl rfl ?_
                      refine y_if_ne hE 64 (by decide) (by omega) dX4_firstOf_59 (fun c_59 => ?_) (fun c_59 => ?_)
                      · exact J64  (by omega)
                      · refine y_iload_n hE rfl 0 rfl dX4_firstOf_62 ?_
                        refine y_iret hE rfl rfl hQ dX4_firstOf_63 Ext.rf ?_
                        refine ⟨rfl, rfl, rfl, ?_⟩
                        have hx2 : fsF S l ps (S 21 0).toNat 0 = t := by rw [hf, fsF_s (by omega), if_pos (by omega)]
                        unfold fstS
                        by_cases e : ps = 0
                        · rw [e] at hx2; rw [if_pos (by omega), hx2]
                        · rw [if_neg (by rw [hp1 (by omega)]; omega), ← hx2, show ps = 1 by omega]
                refine y_iload_n hE rfl 1 rfl dX4_firstOf_32 ?_
                refine y_if_ne hE 40 (by decide) (by omega) dX4_firstOf_33 (fun c_33 => ?_) (fun c_33 => ?_)
                · refine y_iconst hE dX4_firstOf_40 ?_
                  exact J41 0 (by omega)
                · refine y_iconst hE dX4_firstOf_36 ?_
                  refine y_goto hE 41 (by decide) dX4_firstOf_37 ?_
                  exact J41 1 (by omega)
              refine y_aload_n hE rfl 2 rfl dX4_firstOf_17 ?_
              refine y_iload_n hE rfl 0 rfl dX4_firstOf_18 ?_
              refine y_iconst hE dX4_firstOf_19 ?_
              refine y_callV hE (m_X4_of S t 0 h40 hM (by omega)) (lw_V q2964 q2966 qs64 q133 q2967) (nA := 2) (by decide +kernel) rfl ⟨Nat.le_of_ble_eq_true rfl, Nat.le_of_ble_eq_true rfl⟩ (hdd := rfl) (hcc := rfl) (hq := rfl) (hi := h40) (rest := []) rfl (by decide) dX4_firstOf_20 (bc' := 0) (bs' := 0) (Nat.le_refl _) (Nat.le_refl _) (fun r_20 n_20 α_20 K_20 hx_20 hp_20 => ?_)
              obtain ⟨rfl, rfl, rfl, hr_20⟩ := hp_20
              have e_20 : S 20 (17 * t) = r_20 := Eq.symm (by rw [hr_20, Int.add_zero])
              subst e_20
              refine y_to (st' := [.int (iI (S 20 (17 * t)))]) rfl rfl rfl ?_
              refine y_iconst hE dX4_firstOf_23 ?_
              refine y_icmp_ne hE 31 (by decide) (by omega) (by omega) dX4_firstOf_24 (fun c_24 => ?_) (fun c_24 => ?_)
              · refine y_iconst hE dX4_firstOf_31 ?_
                exact J32 0 (by omega)
              · refine y_iconst hE dX4_firstOf_27 ?_
                refine y_goto hE 32 (by decide) dX4_firstOf_28 ?_
                exact J32 1 (by omega)
        exact L9 _ 0 (by omega) (by rw [Int.sub_zero]) (Nat.lt_succ_self _)
  exact L2 _ 0 (by omega) (fun z => by omega) (fun z => by omega) (Nat.lt_succ_self _)
set_option maxHeartbeats 4000000 in
set_option maxRecDepth 100000 in
theorem m_X4_blocked {w : KW} {n : KN} {α : KA} {K : KS} (S : SS) (T : Int) (t : Int) (h40 : (0 : Int) ≤ 0 ∧ 0 < n 4) (hM : MRep S n K) (hW : WFs S) (hX : WFm S 0 T) (hv0 : WFv S) (ht0 : -2147483648 ≤ t ∧ t ≤ 2147483647) (hT0 : 0 ≤ T ∧ T ≤ 20000) : KM w yX4_blocked cX4_blocked 3 (some (.int)) { frames := 4, cells := 0, slots := 0, locals := 90 } (0, 0) [.ref (α 4 0), .int (iI t)] n α K (fun r n' α' K' => n = n' ∧ α = α' ∧ (MRep (oBlocked S t).2.2 n K' ∧ KO K K' MK ∧ K' 4 0 25 = (oBlocked S t).1 ∧ r = (oBlocked S t).2.1)) := by
  refine y_start (by decide) (Nat.le_of_ble_eq_true rfl) (fun x hE hQ => ?_)
  have hw := hQ.2
  subst hw
  have hE : YE x cX4_blocked RX4 (some (.int)) "blocked" 3 { frames := 4, cells := 0, slots := 0, locals := 90 } := hE
  refine y_wk (fun hWK => ?_)
  have hn0 := hWK.1
  refine y_bud (bc' := 0) (bs' := 0) (Nat.le_refl _) (Nat.le_refl _) ?_
  refine y_to (lv' := [(0, .ref (α 4 0)), (1, .int (iI t))]) (st' := []) rfl rfl rfl ?_
  have wpar := hW.par
  have wclips := hW.clips
  have wnodes := hW.nodes
  have wsts := hW.sts
  have wtrs := hW.trs
  have wthr := hW.thr
  have wtxt := hW.txt
  have xinn := hX.inn
  have xcuts := hX.cuts
  have xfro := hX.fro
  have xmany := hX.many
  have xevn := hX.evn
  have xtks := hX.tks
  simp only [Int.zero_add] at xinn xcuts xfro xmany xevn xtks
  have xta := hX.ta
  have xtb := hX.tb
  simp only [Int.zero_add] at xta xtb
  unfold TkOk at xta xtb
  refine y_aload_n hE rfl 0 rfl dX4_blocked_0 ?_
  refine y_iconst hE dX4_blocked_1 ?_
  refine pX4_94 hE h40 dX4_blocked_2 ?_
  refine y_aload_n hE rfl 0 rfl dX4_blocked_5 ?_
  refine y_iload_n hE rfl 1 rfl dX4_blocked_6 ?_
  refine y_callV hE (m_X4_isTransition S t h40 (MRep.t hM 25 (by decide) 0) (by omega) (by omega)) (lw_V q2958 q2960 qs63 q133 q2961) (nA := 1) (by decide +kernel) rfl ⟨Nat.le_of_ble_eq_true rfl, Nat.le_of_ble_eq_true rfl⟩ (hdd := rfl) (hcc := rfl) (hq := rfl) (hi := h40) (rest := []) rfl (by decide) dX4_blocked_7 (bc' := 0) (bs' := 0) (Nat.le_refl _) (Nat.le_refl _) (fun r_7 n_7 α_7 K_7 hx_7 hp_7 => ?_)
  obtain ⟨rfl, rfl, rfl, hr_7⟩ := hp_7
  refine y_to (st' := [.int (iI r_7)]) rfl rfl rfl ?_
  refine y_if_ne hE 19 (by decide) (by omega) dX4_blocked_10 (fun c_10 => ?_) (fun c_10 => ?_)
  · have wt := hW.tr t (by omega) (by omega)
    have hli := lstS_012 S t
    have hai := agS_in hW (t := t) (l := lstS S t) (by omega)
    refine y_aload_n hE rfl 0 rfl dX4_blocked_19 ?_
    refine gX4_145 (z := S 19 0) hE h40 (hM.2.2.2.2.2.1) dX4_blocked_20 ?_
    refine y_if_ne hE 30 (by decide) (by omega) dX4_blocked_23 (fun c_23 => ?_) (fun c_23 => ?_)
    · refine y_aload_n hE rfl 0 rfl dX4_blocked_30 ?_
      refine y_iload_n hE rfl 1 rfl dX4_blocked_31 ?_
      refine y_callV hE (m_X4_listOf S T t h40 (MRep.t hM 25 (by decide) 0) (by assumption) (by assumption) (by omega)) (lw_V q3097 q3099 qs84 q133 q3100) (nA := 1) (by decide +kernel) rfl ⟨Nat.le_of_ble_eq_true rfl, Nat.le_of_ble_eq_true rfl⟩ (hdd := rfl) (hcc := rfl) (hq := rfl) (hi := h40) (rest := []) rfl (by decide) dX4_blocked_32 (bc' := 0) (bs' := 0) (Nat.le_refl _) (Nat.le_refl _) (fun r_32 n_32 α_32 K_32 hx_32 hp_32 => ?_)
      obtain ⟨rfl, rfl, rfl, hr_32⟩ := hp_32
      have e_32 : lstS S t = r_32 := Eq.symm (by rw [hr_32])
      subst e_32
      refine y_to (st' := [.int (iI (lstS S t))]) rfl rfl rfl ?_
      refine y_istore_n hE rfl [(2, .int (iI (lstS S t))), (0, .ref (α 4 0)), (1, .int (iI t))] (by decide) rfl dX4_blocked_35 ?_
      refine y_iload_n hE rfl 0 rfl dX4_blocked_36 ?_
      refine y_if_ne hE 44 (by decide) (by omega) dX4_blocked_37 (fun c_37 => ?_) (fun c_37 => ?_)
      · have hl8 : lstS S t = 1 ∨ lstS S t = 2 ∧ S 0 8 = 1 := by
          rcases hli with h | h | h
          · omega
          · exact Or.inl h
          · right; refine ⟨h, ?_⟩
            rcases xinn with z | z
            · exfalso; have : lstS S t ≤ 1 := by unfold lstS; rw [if_pos z]; split <;> omega
              omega
            · exact z.1
        refine y_aload_n hE rfl 1 rfl dX4_blocked_44 ?_
        refine y_iload_n hE rfl 2 rfl dX4_blocked_45 ?_
        refine y_iload_n hE rfl 0 rfl dX4_blocked_46 ?_
        refine y_callV hE (m_X4_against S T t (lstS S t) h40 (MRep.t hM 25 (by decide) 0) (by assumption) (by assumption) (by assumption) (by omega) (hl8) (by omega)) (lw_V q3117 q3119 qs89 q133 q3120) (nA := 2) (by decide +kernel) rfl ⟨Nat.le_of_ble_eq_true rfl, Nat.le_of_ble_eq_true rfl⟩ (hdd := rfl) (hcc := rfl) (hq := rfl) (hi := h40) (rest := []) rfl (by decide) dX4_blocked_47 (bc' := 0) (bs' := 0) (Nat.le_refl _) (Nat.le_refl _) (fun r_47 n_47 α_47 K_47 hx_47 hp_47 => ?_)
        obtain ⟨rfl, rfl, rfl, hr_47⟩ := hp_47
        have e_47 : agS S t (lstS S t) = r_47 := Eq.symm (by rw [hr_47])
        subst e_47
        refine y_to (st' := [.int (iI (agS S t (lstS S t)))]) rfl rfl rfl ?_
        refine y_iret hE rfl rfl hQ dX4_blocked_50 Ext.rf ?_
        refine ⟨rfl, rfl, ?_⟩
        unfold oBlocked
        (repeat (first | rw [if_pos (by omega)] | rw [if_neg (by omega)]))
        exact ⟨(MRep.t hM 25 (by decide) 0), (KO.up KO.rf (by unfold MK; decide)), by simp [up3], by first | rfl | (dsimp only; omega)⟩
      · refine y_iconst hE dX4_blocked_40 ?_
        refine y_goto hE 50 (by decide) dX4_blocked_41 ?_
        refine y_iret hE rfl rfl hQ dX4_blocked_50 Ext.rf ?_
        refine ⟨rfl, rfl, ?_⟩
        unfold oBlocked
        (repeat (first | rw [if_pos (by omega)] | rw [if_neg (by omega)]))
        exact ⟨(MRep.t hM 25 (by decide) 0), (KO.up KO.rf (by unfold MK; decide)), by simp [up3], by first | rfl | (dsimp only; omega)⟩
    · exfalso; omega
  · refine y_aload_n hE rfl 0 rfl dX4_blocked_13 ?_
    refine y_iconst hE dX4_blocked_14 ?_
    refine y_callV hE (m_X4_fails 1 h40) (lw_V q2871 q2873 qs53 q133 q2874) (nA := 1) (by decide +kernel) rfl ⟨Nat.le_of_ble_eq_true rfl, Nat.le_of_ble_eq_true rfl⟩ (hdd := rfl) (hcc := rfl) (hq := rfl) (hi := h40) (rest := []) rfl (by decide) dX4_blocked_15 (bc' := 0) (bs' := 0) (Nat.le_refl _) (Nat.le_refl _) (fun r_15 n_15 α_15 K_15 hx_15 hp_15 => ?_)
    obtain ⟨rfl, rfl, rfl, hr_15⟩ := hp_15
    refine y_to (st' := [.int (iI r_15)]) rfl rfl rfl ?_
    refine y_iret hE rfl rfl hQ dX4_blocked_18 Ext.rf ?_
    refine ⟨rfl, rfl, ?_⟩
    unfold oBlocked
    (repeat (first | rw [if_pos (by omega)] | rw [if_neg (by omega)]))
    exact ⟨(MRep.t (MRep.t hM 25 (by decide) 0) 25 (by decide) 1), (KO.up (KO.up KO.rf (by unfold MK; decide)) (by unfold MK; decide)), by simp [up3], by first | rfl | (dsimp only; omega)⟩
