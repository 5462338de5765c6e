set_option linter.unusedVariables false
set_option maxHeartbeats 4000000 in
set_option maxRecDepth 100000 in
theorem m_X4_ticks {w : KW} {n : KN} {α : KA} {K : KS} (S : SS) (T : Int) (h40 : (0 : Int) ≤ 0 ∧ 0 < n 4) (hM : MRep S n K) (hW : WFs S) (hv0 : WFv S) (hX : WFm S 0 T) (hst0 : 0 < S 19 0) (hT0 : 0 ≤ T ∧ T ≤ 19000) : KM w yX4_ticks cX4_ticks 16 none { frames := 6, cells := 0, slots := 0, locals := 151 } (3, 0) [.ref (α 4 0)] n α K (fun r n' α' K' => n = n' ∧ α = α' ∧ MRep (tikS S) n K' ∧ KO K K' (fun k i => k = 127 ∨ k = 128 ∨ k = 129 ∨ k = 137 ∨ k = 138 ∨ k = 139 ∨ k = 4 ∨ k = 100) ∧ (K' 4 0 25 = K 4 0 25)) := by
  refine y_start (by decide) (Nat.le_of_ble_eq_true rfl) (fun x hE hQ => ?_)
  have hw := hQ.2
  subst hw
  have hE : YE x cX4_ticks RX4 none "ticks" 16 { frames := 6, cells := 0, slots := 0, locals := 151 } := hE
  refine y_wk (fun hWK => ?_)
  have hn0 := hWK.1
  refine y_bud (bc' := 0) (bs' := 0) (Nat.le_refl _) (Nat.le_refl _) ?_
  refine y_to (lv' := [(0, .ref (α 4 0))]) (st' := []) rfl rfl rfl ?_
  have wpar := hW.par
  have wclips := hW.clips
  have wnodes := hW.nodes
  have wsts := hW.sts
  have wtrs := hW.trs
  have wthr := hW.thr
  have wtxt := hW.txt
  have xinn := hX.inn
  have xcuts := hX.cuts
  have xfro := hX.fro
  have xmany := hX.many
  have xevn := hX.evn
  have xtks := hX.tks
  simp only [Int.zero_add] at xinn xcuts xfro xmany xevn xtks
  have xta := hX.ta
  have xtb := hX.tb
  simp only [Int.zero_add] at xta xtb
  unfold TkOk at xta xtb
  refine y_aload_n hE rfl 0 rfl dX4_ticks_0 ?_
  refine gX4_7r (z := 0) hE h40 (MObj.r hM.1 0 (by decide)) (by omega) dX4_ticks_1 (fun hl_1 => ?_)
  refine y_sipush hE (by decide) dX4_ticks_4 ?_
  refine y_dup2 hE rfl rfl dX4_ticks_7 ?_
  refine y_iald hE rfl hl_1 (by have hL : K 100 0 (-1) = 1160 := (MObj.l hM.1 0 (by decide)); omega) dX4_ticks_8 ?_
  refine y_to (st' := [.int (iI (S 0 287)), .int (iI 287), .ref (α 100 0)]) rfl rfl (by rw [show K 100 0 287 = S 0 287 from (MRep.ra hM 0 rfl (by omega) (by first | omega | (show _ < (1160 : Int); omega)))]) ?_
  refine y_iconst hE dX4_ticks_9 ?_
  refine y_iadd hE dX4_ticks_10 ?_
  refine y_iast hE (by unfold kC; decide) rfl (by simp [kTag]) hl_1 (by have hL : K 100 0 (-1) = 1160 := (MObj.l hM.1 0 (by decide)); omega) dX4_ticks_11 ?_
  refine y_iconst hE dX4_ticks_12 ?_
  refine y_istore_n hE rfl [(1, .int (iI 0)), (0, .ref (α 4 0))] (by decide) rfl dX4_ticks_13 ?_
  have L14 : ∀ (fuel : Nat) (K2 : KS) (S2 : SS) (j : Int), (MRep S2 n K2) → (KO K K2 (fun k i => k = 127 ∨ k = 128 ∨ k = 129 ∨ k = 137 ∨ k = 138 ∨ k = 139 ∨ k = 4 ∨ k = 100)) → (0 ≤ j ∧ j ≤ 4) → (S2 = tak4 (tkA S) j.toNat) → (K2 4 0 25 = K 4 0 25) → (4 - j).toNat < fuel → Y x n α K2 0 0 14 [(1, .int (iI j)), (0, .ref (α 4 0))] [] := by
    intro fuel14
    induction fuel14 with
    | zero => intro K2 S2 j hM2 hk2 hj hS2 h25 hfu14; exact absurd hfu14 (Nat.not_lt_zero _)
    | succ fuel14 ih14 =>
      intro K2 S2 j hM2 hk2 hj hS2 h25 hfu14
      have hWA : WFs (tkA S) := hW.congr (fun f h => tkA_f h)
      have f2 : ∀ f : Nat, f ≠ 0 → S2 f = S f := fun f h => by rw [hS2, tak4_f h, tkA_f h]
      have hW2 : WFs S2 := hW.congr f2
      have hX2 : WFm S2 0 (T + 1) := by rw [hS2]; exact tak4_ok hWA (tkA_ok hX) (by omega) _
      have e219 : S2 19 0 = S 19 0 := congrFun (f2 19 (by decide)) 0
      have e221 : S2 21 0 = S 21 0 := congrFun (f2 21 (by decide)) 0
      refine y_iload_n hE rfl 0 rfl dX4_ticks_14 ?_
      refine y_iconst hE dX4_ticks_15 ?_
      refine y_icmp_ge hE 30 (by decide) (by omega) (by omega) dX4_ticks_16 (fun c_16 => ?_) (fun c_16 => ?_)
      · rw [show j.toNat = 4 by omega] at hS2
        have y_inn := hX2.inn; have y_fro := hX2.fro; have y_ta := hX2.ta; have y_tb := hX2.tb; have y_tbr := hX2.tbr; have y_evn := hX2.evn; have y_cuts := hX2.cuts
        simp only [Int.zero_add] at y_inn y_fro y_ta y_tb y_tbr y_evn y_cuts
        have hta := y_ta (by omega)
        have hta9 := hta
        unfold TkOk at hta9
        have hpA : prgS S2 12 = S2 0 (12 + 1) * 1000000 + S2 0 (12 + 2) := rfl
        have hpB : prgS S2 16 = S2 0 (16 + 1) * 1000000 + S2 0 (16 + 2) := rfl
        have hbz : 0 ≤ S2 0 (16 + 1) ∧ S2 0 (16 + 1) ≤ 5 * (T + 1) ∧ 0 ≤ S2 0 (16 + 2) ∧ S2 0 (16 + 2) ≤ 1000000 ∧ 0 ≤ S2 0 19 ∧ S2 0 19 ≤ 1 := y_tbr
        have h15 : 0 ≤ S2 0 15 ∧ S2 0 15 ≤ 1 := hta.2.2.2.2.2.2.2
        have hs12 : 0 ≤ S2 0 12 ∧ S2 0 12 < S2 19 0 := by omega
        have hsti := stpS_in hW2 hs12
        refine y_aload_n hE rfl 1 rfl dX4_ticks_30 ?_
        refine gX4_7r (z := 0) hE h40 (MObj.r hM2.1 0 (by decide)) (by omega) dX4_ticks_31 (fun hl_31 => ?_)
        refine y_bipush hE (by decide) dX4_ticks_34 ?_
        refine y_iald hE rfl hl_31 (by have hL : K2 100 0 (-1) = 1160 := (MObj.l hM2.1 0 (by decide)); omega) dX4_ticks_36 ?_
        refine y_to (st' := [.int (iI (S2 0 12))]) rfl rfl (by rw [show K2 100 0 12 = S2 0 12 from (MRep.ra hM2 0 rfl (by omega) (by first | omega | (show _ < (1160 : Int); omega)))]) ?_
        refine y_istore_n hE rfl [(1, .int (iI (S2 0 12))), (0, .ref (α 4 0))] (by decide) rfl dX4_ticks_37 ?_
        refine y_aload_n hE rfl 1 rfl dX4_ticks_38 ?_
        refine gX4_7r (z := 0) hE h40 (MObj.r hM2.1 0 (by decide)) (by omega) dX4_ticks_39 (fun hl_39 => ?_)
        refine y_bipush hE (by decide) dX4_ticks_42 ?_
        refine y_iald hE rfl hl_39 (by have hL : K2 100 0 (-1) = 1160 := (MObj.l hM2.1 0 (by decide)); omega) dX4_ticks_44 ?_
        refine y_to (st' := [.int (iI (S2 0 16))]) rfl rfl (by rw [show K2 100 0 16 = S2 0 16 from (MRep.ra hM2 0 rfl (by omega) (by first | omega | (show _ < (1160 : Int); omega)))]) ?_
        refine y_istore_n hE rfl [(2, .int (iI (S2 0 16))), (1, .int (iI (S2 0 12))), (0, .ref (α 4 0))] (by decide) rfl dX4_ticks_45 ?_
        refine y_aload_n hE rfl 2 rfl dX4_ticks_46 ?_
        refine y_bipush hE (by decide) dX4_ticks_47 ?_
        refine y_callV hE (m_X4_progressOf S2 12 h40 hM2 (by omega) (by omega) (by omega)) (lw_V q3121 q3123 qs90 q133 q3124) (nA := 1) (by decide +kernel) rfl ⟨Nat.le_of_ble_eq_true rfl, Nat.le_of_ble_eq_true rfl⟩ (hdd := rfl) (hcc := rfl) (hq := rfl) (hi := h40) (rest := []) rfl (by decide) dX4_ticks_49 (bc' := 0) (bs' := 0) (Nat.le_refl _) (Nat.le_refl _) (fun r_49 n_49 α_49 K_49 hx_49 hp_49 => ?_)
        obtain ⟨rfl, rfl, rfl, hr_49⟩ := hp_49
        have e_49 : prgS S2 12 = r_49 := Eq.symm (by rw [hr_49])
        subst e_49
        refine y_to (st' := [.long (iL (prgS S2 12))]) rfl rfl rfl ?_
        refine y_lstore_n hE rfl [(3, .long (iL (prgS S2 12))), (2, .int (iI (S2 0 16))), (1, .int (iI (S2 0 12))), (0, .ref (α 4 0))] (by decide) rfl dX4_ticks_52 ?_
        refine y_aload_n hE rfl 3 rfl dX4_ticks_53 ?_
        refine y_bipush hE (by decide) dX4_ticks_54 ?_
        refine y_callV hE (m_X4_progressOf S2 16 h40 hM2 (by omega) (by omega) (by omega)) (lw_V q3121 q3123 qs90 q133 q3124) (nA := 1) (by decide +kernel) rfl ⟨Nat.le_of_ble_eq_true rfl, Nat.le_of_ble_eq_true rfl⟩ (hdd := rfl) (hcc := rfl) (hq := rfl) (hi := h40) (rest := []) rfl (by decide) dX4_ticks_56 (bc' := 0) (bs' := 0) (Nat.le_refl _) (Nat.le_refl _) (fun r_56 n_56 α_56 K_56 hx_56 hp_56 => ?_)
        obtain ⟨rfl, rfl, rfl, hr_56⟩ := hp_56
        have e_56 : prgS S2 16 = r_56 := Eq.symm (by rw [hr_56])
        subst e_56
        refine y_to (st' := [.long (iL (prgS S2 16))]) rfl rfl rfl ?_
        refine y_lstore hE [(5, .long (iL (prgS S2 16))), (3, .long (iL (prgS S2 12))), (2, .int (iI (S2 0 16))), (1, .int (iI (S2 0 12))), (0, .ref (α 4 0))] (by decide) rfl dX4_ticks_59 ?_
        have J77 : ∀ (fA : Int), (fA = frI (S2 0 15)) → (0 ≤ fA ∧ fA ≤ 1) → Y x n α K2 0 0 77 [(5, .long (iL (prgS S2 16))), (3, .long (iL (prgS S2 12))), (2, .int (iI (S2 0 16))), (1, .int (iI (S2 0 12))), (0, .ref (α 4 0))] [.int (iI fA)] := by
          intro fA hfA hfA1
          refine y_istore hE [(7, .int (iI fA)), (5, .long (iL (prgS S2 16))), (3, .long (iL (prgS S2 12))), (2, .int (iI (S2 0 16))), (1, .int (iI (S2 0 12))), (0, .ref (α 4 0))] (by decide) rfl dX4_ticks_77 ?_
          have J95 : ∀ (fB : Int), (fB = frI (S2 0 19)) → (0 ≤ fB ∧ fB ≤ 1) → Y x n α K2 0 0 95 [(7, .int (iI fA)), (5, .long (iL (prgS S2 16))), (3, .long (iL (prgS S2 12))), (2, .int (iI (S2 0 16))), (1, .int (iI (S2 0 12))), (0, .ref (α 4 0))] [.int (iI fB)] := by
            intro fB hfB hfB1
            refine y_istore hE [(8, .int (iI fB)), (7, .int (iI fA)), (5, .long (iL (prgS S2 16))), (3, .long (iL (prgS S2 12))), (2, .int (iI (S2 0 16))), (1, .int (iI (S2 0 12))), (0, .ref (α 4 0))] (by decide) rfl dX4_ticks_95 ?_
            refine y_aload_n hE rfl 6 rfl dX4_ticks_97 ?_
            refine gX4_7r (z := 0) hE h40 (MObj.r hM2.1 0 (by decide)) (by omega) dX4_ticks_98 (fun hl_98 => ?_)
            refine y_bipush hE (by decide) dX4_ticks_101 ?_
            refine y_iald hE rfl hl_98 (by have hL : K2 100 0 (-1) = 1160 := (MObj.l hM2.1 0 (by decide)); omega) dX4_ticks_103 ?_
            refine y_to (st' := [.int (iI (S2 0 8))]) rfl rfl (by rw [show K2 100 0 8 = S2 0 8 from (MRep.ra hM2 0 rfl (by omega) (by first | omega | (show _ < (1160 : Int); omega)))]) ?_
            refine y_if_ne hE 145 (by decide) (by omega) dX4_ticks_104 (fun c_104 => ?_) (fun c_104 => ?_)
            · have h82 : S2 0 8 = 1 := by omega
              obtain ⟨htb, hx9, hx9b, he10, he10b⟩ := y_tb h82
              have htb9 := htb
              unfold TkOk at htb9
              have wx2 := hW2.tr (S2 0 9) hx9 hx9b
              obtain ⟨s6a, s6b, s6c, s6d, s6e, s6f⟩ := shS6 hW2 hX2 h82
              obtain ⟨b1, b2⟩ := bthS_ok hW2 hta htb s6a
              have b1x := b1; have b2x := b2
              unfold TkOk at b1x b2x
              have J160 : ∀ (mv : Int), (mv = 1 ∧ S2 0 20 = 0 ∨ mv = 0 ∧ S2 0 20 ≠ 0) → Y x n α K2 0 0 160 [(8, .int (iI fB)), (7, .int (iI fA)), (5, .long (iL (prgS S2 16))), (3, .long (iL (prgS S2 12))), (2, .int (iI (S2 0 16))), (1, .int (iI (S2 0 12))), (0, .ref (α 4 0))] [.int (iI mv)] := by
                intro mv hmv
                refine y_istore hE [(9, .int (iI mv)), (8, .int (iI fB)), (7, .int (iI fA)), (5, .long (iL (prgS S2 16))), (3, .long (iL (prgS S2 12))), (2, .int (iI (S2 0 16))), (1, .int (iI (S2 0 12))), (0, .ref (α 4 0))] (by decide) rfl dX4_ticks_160 ?_
                refine y_aload_n hE rfl 7 rfl dX4_ticks_162 ?_
                refine y_callV hE (m_X4_advancesBoth S2 (T + 1) h40 hM2 (hW2) (hX2.v) (by omega) (by omega) (hta) (htb) (by omega) (by omega)) (lw_V q3191 q3193 qs105 q133 q3194) (nA := 0) (by decide +kernel) rfl ⟨Nat.le_of_ble_eq_true rfl, Nat.le_of_ble_eq_true rfl⟩ (hdd := rfl) (hcc := rfl) (hq := rfl) (hi := h40) (rest := []) rfl (by decide) dX4_ticks_163 (bc' := 0) (bs' := 0) (Nat.le_refl _) (Nat.le_refl _) (fun r_163 n_163 α_163 K_163 hx_163 hp_163 => ?_)
                obtain ⟨rfl, rfl, hM_163, hk_163, hr_163⟩ := hp_163
                obtain ⟨S5, hS5⟩ : ∃ z : SS, z = bthS S2 := ⟨_, rfl⟩
                rw [← hS5] at hM_163
                have hp5 : prgS S5 12 = S5 0 (12 + 1) * 1000000 + S5 0 (12 + 2) := rfl
                have hp5b : prgS S5 16 = S5 0 (16 + 1) * 1000000 + S5 0 (16 + 2) := rfl
                rw [← hS5] at b1x b2x
                refine y_to (st' := []) rfl rfl rfl ?_
                refine y_aload_n hE rfl 7 rfl dX4_ticks_166 ?_
                refine y_bipush hE (by decide) dX4_ticks_167 ?_
                refine y_callV hE (m_X4_progressOf S5 12 h40 hM_163 (by omega) (by omega) (by omega)) (lw_V q3121 q3123 qs90 q133 q3124) (nA := 1) (by decide +kernel) rfl ⟨Nat.le_of_ble_eq_true rfl, Nat.le_of_ble_eq_true rfl⟩ (hdd := rfl) (hcc := rfl) (hq := rfl) (hi := h40) (rest := []) rfl (by decide) dX4_ticks_169 (bc' := 0) (bs' := 0) (Nat.le_refl _) (Nat.le_refl _) (fun r_169 n_169 α_169 K_169 hx_169 hp_169 => ?_)
                obtain ⟨rfl, rfl, rfl, hr_169⟩ := hp_169
                have e_169 : prgS S5 12 = r_169 := Eq.symm (by rw [hr_169])
                subst e_169
                refine y_to (st' := [.long (iL (prgS S5 12))]) rfl rfl rfl ?_
                refine y_lstore hE [(10, .long (iL (prgS S5 12))), (9, .int (iI mv)), (8, .int (iI fB)), (7, .int (iI fA)), (5, .long (iL (prgS S2 16))), (3, .long (iL (prgS S2 12))), (2, .int (iI (S2 0 16))), (1, .int (iI (S2 0 12))), (0, .ref (α 4 0))] (by decide) rfl dX4_ticks_172 ?_
                refine y_aload_n hE rfl 8 rfl dX4_ticks_174 ?_
                refine y_bipush hE (by decide) dX4_ticks_175 ?_
                refine y_callV hE (m_X4_progressOf S5 16 h40 hM_163 (by omega) (by omega) (by omega)) (lw_V q3121 q3123 qs90 q133 q3124) (nA := 1) (by decide +kernel) rfl ⟨Nat.le_of_ble_eq_true rfl, Nat.le_of_ble_eq_true rfl⟩ (hdd := rfl) (hcc := rfl) (hq := rfl) (hi := h40) (rest := []) rfl (by decide) dX4_ticks_177 (bc' := 0) (bs' := 0) (Nat.le_refl _) (Nat.le_refl _) (fun r_177 n_177 α_177 K_177 hx_177 hp_177 => ?_)
                obtain ⟨rfl, rfl, rfl, hr_177⟩ := hp_177
                have e_177 : prgS S5 16 = r_177 := Eq.symm (by rw [hr_177])
                subst e_177
                refine y_to (st' := [.long (iL (prgS S5 16))]) rfl rfl rfl ?_
                refine y_lstore hE [(12, .long (iL (prgS S5 16))), (10, .long (iL (prgS S5 12))), (9, .int (iI mv)), (8, .int (iI fB)), (7, .int (iI fA)), (5, .long (iL (prgS S2 16))), (3, .long (iL (prgS S2 12))), (2, .int (iI (S2 0 16))), (1, .int (iI (S2 0 12))), (0, .ref (α 4 0))] (by decide) rfl dX4_ticks_180 ?_
                have J193 : ∀ (K6 : KS) (S6 : SS), (MRep S6 n K6) → (KO K K6 (fun k i => k = 127 ∨ k = 128 ∨ k = 129 ∨ k = 137 ∨ k = 138 ∨ k = 139 ∨ k = 4 ∨ k = 100)) → (S6 = tik6 S2) → (K6 4 0 25 = K 4 0 25) → Y x n α K6 0 0 193 [(12, .long (iL (prgS S5 16))), (10, .long (iL (prgS S5 12))), (9, .int (iI mv)), (8, .int (iI fB)), (7, .int (iI fA)), (5, .long (iL (prgS S2 16))), (3, .long (iL (prgS S2 12))), (2, .int (iI (S2 0 16))), (1, .int (iI (S2 0 12))), (0, .ref (α 4 0))] [] := by
                  intro K6 S6 hM6 hk6 hS6 h256
                  rw [← hS6] at s6b s6c s6d s6e s6f
                  have f6 : ∀ f : Nat, f ≠ 0 → S6 f = S2 f := fun f h => by rw [hS6]; unfold tik6; funext j; rw [up2_f _ _ _ _ h, bthS_f h]
                  have hW6 : WFs S6 := hW2.congr f6
                  have wt6 := hW6.tr (S6 0 9) s6b.1 s6b.2
                  have hsh6 := shS_in s6c
                  refine y_aload_n hE rfl 9 rfl dX4_ticks_193 ?_
                  refine y_callV hE (m_X4_shareOfTarget S6 h40 hM6 (hW6) (by omega) (by omega)) (lw_V q3069 q3071 qs81 q133 q3072) (nA := 0) (by decide +kernel) rfl ⟨Nat.le_of_ble_eq_true rfl, Nat.le_of_ble_eq_true rfl⟩ (hdd := rfl) (hcc := rfl) (hq := rfl) (hi := h40) (rest := []) rfl (by decide) dX4_ticks_194 (bc' := 0) (bs' := 0) (Nat.le_refl _) (Nat.le_refl _) (fun r_194 n_194 α_194 K_194 hx_194 hp_194 => ?_)
                  obtain ⟨rfl, rfl, rfl, hr_194⟩ := hp_194
                  have e_194 : shS S6 = r_194 := Eq.symm (by rw [hr_194.1])
                  subst e_194
                  refine y_to (st' := [.long (iL (shS S6))]) rfl rfl rfl ?_
                  refine y_lstore hE [(14, .long (iL (shS S6))), (12, .long (iL (prgS S5 16))), (10, .long (iL (prgS S5 12))), (9, .int (iI mv)), (8, .int (iI fB)), (7, .int (iI fA)), (5, .long (iL (prgS S2 16))), (3, .long (iL (prgS S2 12))), (2, .int (iI (S2 0 16))), (1, .int (iI (S2 0 12))), (0, .ref (α 4 0))] (by decide) rfl dX4_ticks_197 ?_
                  have J225 : ∀ (K7 : KS) (S7 : SS), (MRep S7 n K7) → (KO K K7 (fun k i => k = 127 ∨ k = 128 ∨ k = 129 ∨ k = 137 ∨ k = 138 ∨ k = 139 ∨ k = 4 ∨ k = 100)) → (S7 = tik7 S2) → (K7 4 0 25 = K 4 0 25) → Y x n α K7 0 0 225 [(14, .long (iL (shS S6))), (12, .long (iL (prgS S5 16))), (10, .long (iL (prgS S5 12))), (9, .int (iI mv)), (8, .int (iI fB)), (7, .int (iI fA)), (5, .long (iL (prgS S2 16))), (3, .long (iL (prgS S2 12))), (2, .int (iI (S2 0 16))), (1, .int (iI (S2 0 12))), (0, .ref (α 4 0))] [] := by
                    intro K7 S7 hM7 hk7 hS7 h257
                    obtain ⟨hX7, hL7, f7, o7⟩ := tik7_ok hW2 hX2 h82
                    rw [← hS7] at hX7 hL7 f7 o7
                    have hW7 : WFs S7 := hW2.congr f7
                    have e719 : S7 19 0 = S2 19 0 := congrFun (f7 19 (by decide)) 0
                    have e7166 := hL7.1
                    have J254 : ∀ (K8 : KS) (S8 : SS), (MRep S8 n K8) → (KO K K8 (fun k i => k = 127 ∨ k = 128 ∨ k = 129 ∨ k = 137 ∨ k = 138 ∨ k = 139 ∨ k = 4 ∨ k = 100)) → (S8 = tik8 S2) → (K8 4 0 25 = K 4 0 25) → Y x n α K8 0 0 254 [(14, .long (iL (shS S6))), (12, .long (iL (prgS S5 16))), (10, .long (iL (prgS S5 12))), (9, .int (iI mv)), (8, .int (iI fB)), (7, .int (iI fA)), (5, .long (iL (prgS S2 16))), (3, .long (iL (prgS S2 12))), (2, .int (iI (S2 0 16))), (1, .int (iI (S2 0 12))), (0, .ref (α 4 0))] [] := by
                      intro K8 S8 hM8 hk8 hS8 h258
                      obtain ⟨hX8, hL8, f8, o8⟩ := tik8_ok hW2 hX2 (by omega) h82
                      rw [← hS8] at hX8 hL8 f8 o8
                      have hW8 : WFs S8 := hW2.congr f8
                      have e819 : S8 19 0 = S2 19 0 := congrFun (f8 19 (by decide)) 0
                      have e8166 := hL8.1
                      refine y_aload_n hE rfl 10 rfl dX4_ticks_254 ?_
                      refine y_iload_n hE rfl 8 rfl dX4_ticks_255 ?_
                      refine y_lload hE 6 rfl dX4_ticks_256 ?_
                      refine y_iload hE 4 rfl dX4_ticks_258 ?_
                      refine y_lload hE 1 rfl dX4_ticks_260 ?_
                      refine y_lload hE 0 rfl dX4_ticks_262 ?_
                      refine y_aload_n hE rfl 10 rfl dX4_ticks_264 ?_
                      refine gX4_7r (z := 0) hE h40 (MObj.r hM8.1 0 (by decide)) (by omega) dX4_ticks_265 (fun hl_265 => ?_)
                      refine y_sipush hE (by decide) dX4_ticks_268 ?_
                      refine y_iald hE rfl hl_265 (by have hL : K8 100 0 (-1) = 1160 := (MObj.l hM8.1 0 (by decide)); omega) dX4_ticks_271 ?_
                      refine y_to (st' := [.int (iI (S8 0 287)), .long (iL (shS S6)), .long (iL (prgS S5 16)), .int (iI fB), .long (iL (prgS S2 16)), .int (iI (S2 0 16)), .ref (α 4 0)]) rfl rfl (by rw [show K8 100 0 287 = S8 0 287 from (MRep.ra hM8 0 rfl (by omega) (by first | omega | (show _ < (1160 : Int); omega)))]) ?_
                      refine y_callV hE (m_X4_fires S8 (S2 0 16) (prgS S2 16) fB (prgS S5 16) (shS S6) (S8 0 287) h40 hM8 (hW8) (hX8.v) (by omega) (by omega) (by omega) (by omega) (by omega) (by omega)) (lw_V q3180 q3182 qs103 q133 q3183) (nA := 6) (by decide +kernel) rfl ⟨Nat.le_of_ble_eq_true rfl, Nat.le_of_ble_eq_true rfl⟩ (hdd := rfl) (hcc := rfl) (hq := rfl) (hi := h40) (rest := []) rfl (by decide) dX4_ticks_272 (bc' := 0) (bs' := 0) (Nat.le_refl _) (Nat.le_refl _) (fun r_272 n_272 α_272 K_272 hx_272 hp_272 => ?_)
                      obtain ⟨rfl, rfl, hM_272, hk_272, hr_272⟩ := hp_272
                      refine y_to (st' := []) rfl rfl rfl ?_
                      exact y_vret (r := 0) hE rfl hQ dX4_ticks_275 Ext.rf ⟨rfl, rfl, by unfold tikS; rw [← hS2]; unfold tikC; rw [if_neg (by omega)]; unfold tikB; rw [← hS8, ← hS6, ← hS5, ← hfB]; exact hM_272, (hk8.tr (KO.mono hk_272 (fun k i z => by (try dsimp only at z); (try dsimp only); omega))), (hk_272 4 0 (by decide) 25).trans h258⟩
                    refine y_iload hE 3 rfl dX4_ticks_225 ?_
                    refine y_if_eq hE 254 (by decide) (by omega) dX4_ticks_227 (fun c_227 => ?_) (fun c_227 => ?_)
                    · exact J254 K7 S7 (hM7) (hk7) (by unfold tik8; rw [← hS7, ← hS6, ← hS5, ← hfA]; first | rw [if_pos (by omega)] | rw [if_neg (by omega)]) (by first | exact h257 | exact (hk_251 4 0 (by decide) 25).trans h257)
                    · refine y_aload_n hE rfl 10 rfl dX4_ticks_230 ?_
                      refine y_iload_n hE rfl 9 rfl dX4_ticks_231 ?_
                      refine y_lload_n hE rfl 7 rfl dX4_ticks_232 ?_
                      refine y_iload hE 5 rfl dX4_ticks_233 ?_
                      refine y_lload hE 2 rfl dX4_ticks_235 ?_
                      refine y_ldc2 hE 1000000 (v := 1000000) (by decide) q3052 dX4_ticks_237 ?_
                      refine y_lload hE 0 rfl dX4_ticks_240 ?_
                      refine y_lsub hE dX4_ticks_242 ?_
                      refine y_aload_n hE rfl 10 rfl dX4_ticks_243 ?_
                      refine gX4_7r (z := 0) hE h40 (MObj.r hM7.1 0 (by decide)) (by omega) dX4_ticks_244 (fun hl_244 => ?_)
                      refine y_sipush hE (by decide) dX4_ticks_247 ?_
                      refine y_iald hE rfl hl_244 (by have hL : K7 100 0 (-1) = 1160 := (MObj.l hM7.1 0 (by decide)); omega) dX4_ticks_250 ?_
                      refine y_to (st' := [.int (iI (S7 0 287)), .long (iL (1000000 - (shS S6))), .long (iL (prgS S5 12)), .int (iI fA), .long (iL (prgS S2 12)), .int (iI (S2 0 12)), .ref (α 4 0)]) rfl rfl (by rw [show K7 100 0 287 = S7 0 287 from (MRep.ra hM7 0 rfl (by omega) (by first | omega | (show _ < (1160 : Int); omega)))]) ?_
                      refine y_callV hE (m_X4_fires S7 (S2 0 12) (prgS S2 12) fA (prgS S5 12) (1000000 - (shS S6)) (S7 0 287) h40 hM7 (hW7) (hX7.v) (by omega) (by omega) (by omega) (by omega) (by omega) (by omega)) (lw_V q3180 q3182 qs103 q133 q3183) (nA := 6) (by decide +kernel) rfl ⟨Nat.le_of_ble_eq_true rfl, Nat.le_of_ble_eq_true rfl⟩ (hdd := rfl) (hcc := rfl) (hq := rfl) (hi := h40) (rest := []) rfl (by decide) dX4_ticks_251 (bc' := 0) (bs' := 0) (Nat.le_refl _) (Nat.le_refl _) (fun r_251 n_251 α_251 K_251 hx_251 hp_251 => ?_)
                      obtain ⟨rfl, rfl, hM_251, hk_251, hr_251⟩ := hp_251
                      refine y_to (st' := []) rfl rfl rfl ?_
                      exact J254 K_251 (firS S7 (S2 0 12) (prgS S2 12) fA (prgS S5 12) (1000000 - (shS S6)) (S7 0 287)) (hM_251) ((hk7.tr (KO.mono hk_251 (fun k i z => by (try dsimp only at z); (try dsimp only); omega)))) (by unfold tik8; rw [← hS7, ← hS6, ← hS5, ← hfA]; first | rw [if_pos (by omega)] | rw [if_neg (by omega)]) (by first | exact h257 | exact (hk_251 4 0 (by decide) 25).trans h257)
                  refine y_aload_n hE rfl 10 rfl dX4_ticks_199 ?_
                  refine gX4_7r (z := 0) hE h40 (MObj.r hM6.1 0 (by decide)) (by omega) dX4_ticks_200 (fun hl_200 => ?_)
                  refine y_bipush hE (by decide) dX4_ticks_203 ?_
                  refine y_iald hE rfl hl_200 (by have hL : K6 100 0 (-1) = 1160 := (MObj.l hM6.1 0 (by decide)); omega) dX4_ticks_205 ?_
                  refine y_to (st' := [.int (iI (S6 0 10))]) rfl rfl (by rw [show K6 100 0 10 = S6 0 10 from (MRep.ra hM6 0 rfl (by omega) (by first | omega | (show _ < (1160 : Int); omega)))]) ?_
                  refine y_aload_n hE rfl 10 rfl dX4_ticks_206 ?_
                  refine y_aload_n hE rfl 10 rfl dX4_ticks_207 ?_
                  refine gX4_7r (z := 0) hE h40 (MObj.r hM6.1 0 (by decide)) (by omega) dX4_ticks_208 (fun hl_208 => ?_)
                  refine y_bipush hE (by decide) dX4_ticks_211 ?_
                  refine y_iald hE rfl hl_208 (by have hL : K6 100 0 (-1) = 1160 := (MObj.l hM6.1 0 (by decide)); omega) dX4_ticks_213 ?_
                  refine y_to (st' := [.int (iI (S6 0 9)), .ref (α 4 0), .int (iI (S6 0 10))]) rfl rfl (by rw [show K6 100 0 9 = S6 0 9 from (MRep.ra hM6 0 rfl (by omega) (by first | omega | (show _ < (1160 : Int); omega)))]) ?_
                  refine y_iconst hE dX4_ticks_214 ?_
                  refine y_callV hE (m_X4_of S6 (S6 0 9) 2 h40 hM6 (by omega)) (lw_V q2964 q2966 qs64 q133 q2967) (nA := 2) (by decide +kernel) rfl ⟨Nat.le_of_ble_eq_true rfl, Nat.le_of_ble_eq_true rfl⟩ (hdd := rfl) (hcc := rfl) (hq := rfl) (hi := h40) (rest := [.int (iI (S6 0 10))]) rfl (by simp [refV_cat, Value.category]) dX4_ticks_215 (bc' := 0) (bs' := 0) (Nat.le_refl _) (Nat.le_refl _) (fun r_215 n_215 α_215 K_215 hx_215 hp_215 => ?_)
                  obtain ⟨rfl, rfl, rfl, hr_215⟩ := hp_215
                  have e_215 : S6 20 (17 * (S6 0 9) + 2) = r_215 := Eq.symm (by rw [hr_215])
                  subst e_215
                  refine y_to (st' := [.int (iI (S6 20 (17 * (S6 0 9) + 2))), .int (iI (S6 0 10))]) rfl rfl rfl ?_
                  refine y_icmp_ne hE 225 (by decide) (by omega) (by omega) dX4_ticks_218 (fun c_218 => ?_) (fun c_218 => ?_)
                  · exact J225 K6 S6 (hM6) (hk6) (by unfold tik7; rw [← hS6]; first | rw [if_pos (by omega)] | rw [if_neg (by omega)]) (by first | exact h256 | exact (hk_222 4 0 (by decide) 25).trans h256)
                  · refine y_aload_n hE rfl 10 rfl dX4_ticks_221 ?_
                    refine y_callV hE (m_X4_ends S6 h40 hM6) (lw_V q3164 q3166 qs99 q133 q3167) (nA := 0) (by decide +kernel) rfl ⟨Nat.le_of_ble_eq_true rfl, Nat.le_of_ble_eq_true rfl⟩ (hdd := rfl) (hcc := rfl) (hq := rfl) (hi := h40) (rest := []) rfl (by decide) dX4_ticks_222 (bc' := 0) (bs' := 0) (Nat.le_refl _) (Nat.le_refl _) (fun r_222 n_222 α_222 K_222 hx_222 hp_222 => ?_)
                    obtain ⟨rfl, rfl, hM_222, hk_222, hr_222⟩ := hp_222
                    refine y_to (st' := []) rfl rfl rfl ?_
                    exact J225 K_222 (endS S6) (hM_222) ((hk6.tr (KO.mono hk_222 (fun k i z => by (try dsimp only at z); (try dsimp only); omega)))) (by unfold tik7; rw [← hS6]; first | rw [if_pos (by omega)] | rw [if_neg (by omega)]) (by first | exact h256 | exact (hk_222 4 0 (by decide) 25).trans h256)
                refine y_aload_n hE rfl 9 rfl dX4_ticks_182 ?_
                refine gX4_7r (z := 0) hE h40 (MObj.r hM_163.1 0 (by decide)) (by omega) dX4_ticks_183 (fun hl_183 => ?_)
                refine y_bipush hE (by decide) dX4_ticks_186 ?_
                refine y_dup2 hE rfl rfl dX4_ticks_188 ?_
                refine y_iald hE rfl hl_183 (by have hL : K_163 100 0 (-1) = 1160 := (MObj.l hM_163.1 0 (by decide)); omega) dX4_ticks_189 ?_
                refine y_to (st' := [.int (iI (S5 0 10)), .int (iI 10), .ref (α 100 0)]) rfl rfl (by rw [show K_163 100 0 10 = S5 0 10 from (MRep.ra hM_163 0 rfl (by omega) (by first | omega | (show _ < (1160 : Int); omega)))]) ?_
                refine y_iconst hE dX4_ticks_190 ?_
                refine y_iadd hE dX4_ticks_191 ?_
                refine y_iast hE (by unfold kC; decide) rfl (by simp [kTag]) hl_183 (by have hL : K_163 100 0 (-1) = 1160 := (MObj.l hM_163.1 0 (by decide)); omega) dX4_ticks_192 ?_
                exact J193 (up3 K_163 100 0 10 ((S5 0 10) + 1)) (up2 S5 0 10 ((S5 0 10) + 1)) ((MRep.a hM_163 0 rfl (j := 10) (by omega) ((S5 0 10) + 1))) ((KO.up (hk2.tr (KO.mono hk_163 (fun k i z => by (try dsimp only at z); (try dsimp only); omega))) (by decide))) (by unfold tik6; rw [← hS5]) (by simp [up3]; exact (hk_163 4 0 (by decide) 25).trans h25)
              refine y_aload_n hE rfl 6 rfl dX4_ticks_145 ?_
              refine gX4_7r (z := 0) hE h40 (MObj.r hM2.1 0 (by decide)) (by omega) dX4_ticks_146 (fun hl_146 => ?_)
              refine y_bipush hE (by decide) dX4_ticks_149 ?_
              refine y_iald hE rfl hl_146 (by have hL : K2 100 0 (-1) = 1160 := (MObj.l hM2.1 0 (by decide)); omega) dX4_ticks_151 ?_
              refine y_to (st' := [.int (iI (S2 0 20))]) rfl rfl (by rw [show K2 100 0 20 = S2 0 20 from (MRep.ra hM2 0 rfl (by omega) (by first | omega | (show _ < (1160 : Int); omega)))]) ?_
              refine y_if_ne hE 159 (by decide) (by omega) dX4_ticks_152 (fun c_152 => ?_) (fun c_152 => ?_)
              · refine y_iconst hE dX4_ticks_159 ?_
                exact J160 0 (by omega)
              · refine y_iconst hE dX4_ticks_155 ?_
                refine y_goto hE 160 (by decide) dX4_ticks_156 ?_
                exact J160 1 (by omega)
            · refine y_aload_n hE rfl 6 rfl dX4_ticks_107 ?_
              refine y_bipush hE (by decide) dX4_ticks_108 ?_
              refine y_aload_n hE rfl 6 rfl dX4_ticks_110 ?_
              refine y_bipush hE (by decide) dX4_ticks_111 ?_
              refine y_callV hE (m_X4_stepOf S2 12 h40 hM2 (hW2) (hX2.v) (by omega) (by omega)) (lw_V q3168 q3170 qs100 q133 q3171) (nA := 1) (by decide +kernel) rfl ⟨Nat.le_of_ble_eq_true rfl, Nat.le_of_ble_eq_true rfl⟩ (hdd := rfl) (hcc := rfl) (hq := rfl) (hi := h40) (rest := [.int (iI 12), .ref (α 4 0)]) rfl (by simp [refV_cat, Value.category]) dX4_ticks_113 (bc' := 0) (bs' := 0) (Nat.le_refl _) (Nat.le_refl _) (fun r_113 n_113 α_113 K_113 hx_113 hp_113 => ?_)
              obtain ⟨rfl, rfl, hM_113, hk_113, hr_113⟩ := hp_113
              have e_113 : stpS S2 (S2 0 12) = r_113 := Eq.symm (by rw [hr_113.1])
              subst e_113
              refine y_to (st' := [.long (iL (stpS S2 (S2 0 12))), .int (iI 12), .ref (α 4 0)]) rfl rfl rfl ?_
              refine y_callV hE (m_X4_advances S2 (T + 1) 12 (stpS S2 (S2 0 12)) h40 hM_113 (hW2) (by omega) (hta) (by omega) (by omega)) (lw_V q3176 q3178 qs102 q133 q3179) (nA := 2) (by decide +kernel) rfl ⟨Nat.le_of_ble_eq_true rfl, Nat.le_of_ble_eq_true rfl⟩ (hdd := rfl) (hcc := rfl) (hq := rfl) (hi := h40) (rest := []) rfl (by decide) dX4_ticks_116 (bc' := 0) (bs' := 0) (Nat.le_refl _) (Nat.le_refl _) (fun r_116 n_116 α_116 K_116 hx_116 hp_116 => ?_)
              obtain ⟨rfl, rfl, hM_116, hk_116, hr_116⟩ := hp_116
              obtain ⟨S5, hS5⟩ : ∃ z : SS, z = advS S2 12 (stpS S2 (S2 0 12)) := ⟨_, rfl⟩
              rw [← hS5] at hM_116
              have hta5 : TkOk S5 12 (T + 2) := by rw [hS5, show T + 2 = T + 1 + 1 by omega]; exact advS_ok hta hsti
              have hta59 := hta5
              unfold TkOk at hta59
              have f5 : ∀ f : Nat, f ≠ 0 → S5 f = S2 f := fun f h => by rw [hS5]; exact advS_f h
              have hW5 : WFs S5 := hW2.congr f5
              have hv5 : WFv S5 := hX2.v.o (fun j h => by rw [hS5]; exact advS_o (by omega))
              have hp5 : prgS S5 12 = S5 0 (12 + 1) * 1000000 + S5 0 (12 + 2) := rfl
              have e519 : S5 19 0 = S2 19 0 := congrFun (f5 19 (by decide)) 0
              have e5166 : S5 0 166 = S2 0 166 := by rw [hS5]; exact advS_o (by omega)
              refine y_to (st' := []) rfl rfl rfl ?_
              refine y_aload_n hE rfl 6 rfl dX4_ticks_119 ?_
              refine y_iload_n hE rfl 5 rfl dX4_ticks_120 ?_
              refine y_lload_n hE rfl 3 rfl dX4_ticks_121 ?_
              refine y_iload hE 1 rfl dX4_ticks_122 ?_
              refine y_aload_n hE rfl 6 rfl dX4_ticks_124 ?_
              refine y_bipush hE (by decide) dX4_ticks_125 ?_
              refine y_callV hE (m_X4_progressOf S5 12 h40 hM_116 (by omega) (by omega) (by omega)) (lw_V q3121 q3123 qs90 q133 q3124) (nA := 1) (by decide +kernel) rfl ⟨Nat.le_of_ble_eq_true rfl, Nat.le_of_ble_eq_true rfl⟩ (hdd := rfl) (hcc := rfl) (hq := rfl) (hi := h40) (rest := [.int (iI fA), .long (iL (prgS S2 12)), .int (iI (S2 0 12)), .ref (α 4 0)]) rfl (by simp [refV_cat, Value.category]) dX4_ticks_127 (bc' := 0) (bs' := 0) (Nat.le_refl _) (Nat.le_refl _) (fun r_127 n_127 α_127 K_127 hx_127 hp_127 => ?_)
              obtain ⟨rfl, rfl, rfl, hr_127⟩ := hp_127
              have e_127 : prgS S5 12 = r_127 := Eq.symm (by rw [hr_127])
              subst e_127
              refine y_to (st' := [.long (iL (prgS S5 12)), .int (iI fA), .long (iL (prgS S2 12)), .int (iI (S2 0 12)), .ref (α 4 0)]) rfl rfl rfl ?_
              refine y_ldc2 hE 1000000 (v := 1000000) (by decide) q3052 dX4_ticks_130 ?_
              refine y_aload_n hE rfl 6 rfl dX4_ticks_133 ?_
              refine gX4_7r (z := 0) hE h40 (MObj.r hM_116.1 0 (by decide)) (by omega) dX4_ticks_134 (fun hl_134 => ?_)
              refine y_sipush hE (by decide) dX4_ticks_137 ?_
              refine y_iald hE rfl hl_134 (by have hL : K_116 100 0 (-1) = 1160 := (MObj.l hM_116.1 0 (by decide)); omega) dX4_ticks_140 ?_
              refine y_to (st' := [.int (iI (S5 0 287)), .long (iL 1000000), .long (iL (prgS S5 12)), .int (iI fA), .long (iL (prgS S2 12)), .int (iI (S2 0 12)), .ref (α 4 0)]) rfl rfl (by rw [show K_116 100 0 287 = S5 0 287 from (MRep.ra hM_116 0 rfl (by omega) (by first | omega | (show _ < (1160 : Int); omega)))]) ?_
              refine y_callV hE (m_X4_fires S5 (S2 0 12) (prgS S2 12) fA (prgS S5 12) 1000000 (S5 0 287) h40 hM_116 (hW5) (hv5) (by omega) (by omega) (by omega) (by omega) (by omega) (by omega)) (lw_V q3180 q3182 qs103 q133 q3183) (nA := 6) (by decide +kernel) rfl ⟨Nat.le_of_ble_eq_true rfl, Nat.le_of_ble_eq_true rfl⟩ (hdd := rfl) (hcc := rfl) (hq := rfl) (hi := h40) (rest := []) rfl (by decide) dX4_ticks_141 (bc' := 0) (bs' := 0) (Nat.le_refl _) (Nat.le_refl _) (fun r_141 n_141 α_141 K_141 hx_141 hp_141 => ?_)
              obtain ⟨rfl, rfl, hM_141, hk_141, hr_141⟩ := hp_141
              refine y_to (st' := []) rfl rfl rfl ?_
              exact y_vret (r := 0) hE rfl hQ dX4_ticks_144 Ext.rf ⟨rfl, rfl, by unfold tikS; rw [← hS2]; unfold tikC; rw [if_pos (by omega)]; unfold tikA tik1; rw [← hS5, ← hfA]; exact hM_141, (((hk2.tr (KO.mono hk_113 (fun k i z => by (try dsimp only at z); (try dsimp only); omega))).tr (KO.mono hk_116 (fun k i z => by (try dsimp only at z); (try dsimp only); omega))).tr (KO.mono hk_141 (fun k i z => by (try dsimp only at z); (try dsimp only); omega))), (hk_141 4 0 (by decide) 25).trans ((hk_116 4 0 (by decide) 25).trans ((hk_113 4 0 (by decide) 25).trans h25))⟩
          refine y_aload_n hE rfl 5 rfl dX4_ticks_79 ?_
          refine gX4_7r (z := 0) hE h40 (MObj.r hM2.1 0 (by decide)) (by omega) dX4_ticks_80 (fun hl_80 => ?_)
          refine y_bipush hE (by decide) dX4_ticks_83 ?_
          refine y_iald hE rfl hl_80 (by have hL : K2 100 0 (-1) = 1160 := (MObj.l hM2.1 0 (by decide)); omega) dX4_ticks_85 ?_
          refine y_to (st' := [.int (iI (S2 0 19))]) rfl rfl (by rw [show K2 100 0 19 = S2 0 19 from (MRep.ra hM2 0 rfl (by omega) (by first | omega | (show _ < (1160 : Int); omega)))]) ?_
          refine y_iconst hE dX4_ticks_86 ?_
          refine y_icmp_ne hE 94 (by decide) (by omega) (by omega) dX4_ticks_87 (fun c_87 => ?_) (fun c_87 => ?_)
          · refine y_iconst hE dX4_ticks_94 ?_
            exact J95 0 (by unfold frI; first | rw [if_pos (by omega)] | rw [if_neg (by omega)]) (by omega)
          · refine y_iconst hE dX4_ticks_90 ?_
            refine y_goto hE 95 (by decide) dX4_ticks_91 ?_
            exact J95 1 (by unfold frI; first | rw [if_pos (by omega)] | rw [if_neg (by omega)]) (by omega)
        refine y_aload_n hE rfl 4 rfl dX4_ticks_61 ?_
        refine gX4_7r (z := 0) hE h40 (MObj.r hM2.1 0 (by decide)) (by omega) dX4_ticks_62 (fun hl_62 => ?_)
        refine y_bipush hE (by decide) dX4_ticks_65 ?_
        refine y_iald hE rfl hl_62 (by have hL : K2 100 0 (-1) = 1160 := (MObj.l hM2.1 0 (by decide)); omega) dX4_ticks_67 ?_
        refine y_to (st' := [.int (iI (S2 0 15))]) rfl rfl (by rw [show K2 100 0 15 = S2 0 15 from (MRep.ra hM2 0 rfl (by omega) (by first | omega | (show _ < (1160 : Int); omega)))]) ?_
        refine y_iconst hE dX4_ticks_68 ?_
        refine y_icmp_ne hE 76 (by decide) (by omega) (by omega) dX4_ticks_69 (fun c_69 => ?_) (fun c_69 => ?_)
        · refine y_iconst hE dX4_ticks_76 ?_
          exact J77 0 (by unfold frI; first | rw [if_pos (by omega)] | rw [if_neg (by omega)]) (by omega)
        · refine y_iconst hE dX4_ticks_72 ?_
          refine y_goto hE 77 (by decide) dX4_ticks_73 ?_
          exact J77 1 (by unfold frI; first | rw [if_pos (by omega)] | rw [if_neg (by omega)]) (by omega)
      · refine y_aload_n hE rfl 1 rfl dX4_ticks_19 ?_
        refine y_callV hE (m_X4_takes S2 (T + 1) h40 hM2 (hW2) (hX2.v) (hX2) (by omega) (by omega)) (lw_V q3138 q3140 qs93 q133 q3141) (nA := 0) (by decide +kernel) rfl ⟨Nat.le_of_ble_eq_true rfl, Nat.le_of_ble_eq_true rfl⟩ (hdd := rfl) (hcc := rfl) (hq := rfl) (hi := h40) (rest := []) rfl (by decide) dX4_ticks_20 (bc' := 0) (bs' := 0) (Nat.le_refl _) (Nat.le_refl _) (fun r_20 n_20 α_20 K_20 hx_20 hp_20 => ?_)
        obtain ⟨rfl, rfl, hM_20, hk_20, hr_20⟩ := hp_20
        refine y_to (st' := [.int (iI r_20)]) rfl rfl rfl ?_
        refine y_istore_n hE rfl [(2, .int (iI r_20)), (1, .int (iI j)), (0, .ref (α 4 0))] (by decide) rfl dX4_ticks_23 ?_
        refine y_iinc hE 1 rfl [(1, .int (iI (j + 1))), (2, .int (iI r_20)), (0, .ref (α 4 0))] (by decide) rfl dX4_ticks_24 ?_
        refine y_goto hE 14 (by decide) dX4_ticks_27 ?_
        refine y_lv [0, 2] [(1, .int (iI (j + 1))), (0, .ref (α 4 0))] rfl ?_
        exact ih14 K_20 ((takS S2).2) (j + 1) (hM_20) ((hk2.tr hk_20)) (by omega) (by rw [tak4_s (by omega), ← hS2]) (hr_20.2.trans h25) (by omega)
  exact L14 _ (up3 K 100 0 287 ((S 0 287) + 1)) (up2 S 0 287 ((S 0 287) + 1)) 0 ((MRep.a hM 0 rfl (j := 287) (by omega) ((S 0 287) + 1))) ((KO.up KO.rf (by decide))) (by omega) (rfl) (by simp [up3]) (Nat.lt_succ_self _)
