set_option linter.unusedVariables false
/-- a machine's tracks go on -/
theorem MV.tk {S S' : SS} {n : KN} {K K' : KS} {mi ta tb fa fb : Int} (h : MV S n K mi ta tb fa fb) (hk : KF K K' (fun k i f => k = 13 ∧ i = ta ∨ k = 13 ∧ i = tb ∨ k = 34 ∧ i = 2 ∧ 0 ≤ f)) (e0 : ∀ f : Int, f = 0 ∨ f = 3 → K' 13 ta f = K 13 ta f ∧ K' 13 tb f = K 13 tb f) (hs : ∀ j : Int, (j < 13 ∨ j = 16 ∨ 19 < j) → S' 0 j = S 0 j)
    (ha : K' 13 ta 1 = S' 0 13 ∧ K' 13 ta 2 = S' 0 14) (hb : S 0 8 = 1 → K' 13 tb 1 = S' 0 17 ∧ K' 13 tb 2 = S' 0 18) : MV S' n K' mi ta tb fa fb := by
  obtain ⟨a1, ⟨b1, b2, b3, b4, b5, b6, b7⟩, a3, a4, a5, a6⟩ := h
  have e12 : ∀ f, K' 12 mi f = K 12 mi f := fun f => hk 12 mi f (by omega)
  have e35 : ∀ f, K' 35 mi f = K 35 mi f := fun f => hk 35 mi f (by omega)
  have eo : ∀ k : Nat, (k = 2 ∨ 31 ≤ k ∧ k ≤ 33) → ∀ f, K' k (mi + 1) f = K k (mi + 1) f := fun k hq f => hk k _ f (by omega)
  have efr : frS S' 0 = frS S 0 := by
    unfold frS
    rw [hs (0 + 21) (by omega)]
    apply List.map_congr_left
    intro k hk
    have hk := List.mem_range.mp hk
    rw [hs _ (by omega), hs _ (by omega), hs _ (by omega)]
  unfold MV
  rw [efr, hs 8 (by omega), hs 9 (by omega), hs 10 (by omega), hs 11 (by omega), hs 12 (by omega), hs 16 (by omega), hs 20 (by omega), hs 166 (by omega), hs 288 (by omega), (e0 0 (by omega)).1, (e0 3 (by omega)).1, (e0 0 (by omega)).2, (e0 3 (by omega)).2]
  simp only [e12, e35]
  refine ⟨a1, ⟨b1, b2, b3, b4, ha.1, ha.2, b7⟩, a3, ?_, fun z => (a5 z).congr (eo 2 (by omega) 3) (fun j _ _ => ⟨eo 31 (by omega) j, eo 32 (by omega) j, eo 33 (by omega) j⟩), ⟨a6.1, fun j j0 j1 => (a6.2.1 j j0 j1).trans (hs _ (by omega)).symm, a6.2.2⟩⟩
  rcases a4 with h | ⟨h1, ⟨g1, g2, g3, g4, g5, g6⟩, h2⟩
  · exact Or.inl h
  · exact Or.inr ⟨h1, ⟨g1, g2, g3, (hb h1).1, (hb h1).2, g6⟩, h2⟩
/-- what a track's going on writes, as the store says it -/
theorem adv_1 {S : SS} {a step q1 q2 x1 x2 : Int} (e1 : q1 = S 0 (a + 1)) (e2 : q2 = S 0 (a + 2)) (h1 : x1 = if S 17 (S 0 a) = 0 then q1 else q1 + (q2 + step) / 1000000) (h2 : x2 = if S 17 (S 0 a) = 0 then min 1000000 (q2 + step) else (q2 + step) % 1000000) : x1 = advS S a step 0 (a + 1) ∧ x2 = advS S a step 0 (a + 2) := by
  unfold advS prgS
  by_cases e : S 17 (S 0 a) = 0
  · rw [if_pos e] at h1 h2
    rw [if_neg (show ¬ (S 17 (S 0 a) ≠ 0) by omega)]
    refine ⟨?_, ?_⟩
    · rw [up2_j _ _ _ _ (by omega), up2_j _ _ _ _ (by omega)]; omega
    · rw [up2_j _ _ _ _ (by omega), up2_s]; split <;> omega
  · rw [if_neg e] at h1 h2
    rw [if_pos (show S 17 (S 0 a) ≠ 0 from e)]
    refine ⟨?_, ?_⟩
    · rw [up2_j _ _ _ _ (by omega), up2_j _ _ _ _ (by omega), up2_s]; omega
    · rw [up2_j _ _ _ _ (by omega), up2_s]; omega
set_option maxHeartbeats 4000000 in
set_option maxRecDepth 100000 in
theorem m_X13_advanceF {w : KW} {n : KN} {α : KA} {K : KS} (S : SS) (t st q1 q2 step : Int) (hR : Rst S n K) (hW : WFs S) (ht : 0 ≤ t ∧ t < n 13) (hst : 0 ≤ st ∧ st < S 19 0) (e0 : K 13 t 0 = st) (e1 : K 13 t 1 = q1) (e2 : K 13 t 2 = q2) (b1 : 0 ≤ q1 ∧ q1 ≤ 1000000000) (b2 : 0 ≤ q2 ∧ q2 ≤ 1000000) (hsp : 0 ≤ step ∧ step ≤ 1000000000) : KM w yX13_advance cX13_advance 5 none { frames := 1, cells := 0, slots := 0, locals := 20 } (3, 0) [.ref (α 13 t), .long (iL step)] n α K (fun r n' α' K' => n = n' ∧ α = α' ∧ KF K K' (fun k i f => k = 13 ∧ i = (t) ∧ f = 1 ∨ k = 13 ∧ i = (t) ∧ f = 2 ∨ k = 13 ∧ i = (t) ∧ f = 4) ∧ (K' 13 t 1 = (if S 17 st = 0 then q1 else q1 + (q2 + step) / 1000000) ∧ K' 13 t 2 = (if S 17 st = 0 then min 1000000 (q2 + step) else (q2 + step) % 1000000) ∧ K' 13 t 4 = q1 * 1000000 + q2)) := by
  refine y_start (by decide) (Nat.le_of_ble_eq_true rfl) (fun x hE hQ => ?_)
  have hw := hQ.2
  subst hw
  have hE : YE x cX13_advance RX13 none "advance" 5 { frames := 1, cells := 0, slots := 0, locals := 20 } := hE
  refine y_wk (fun hWK => ?_)
  have hn0 := hWK.1
  refine y_bud (bc' := 0) (bs' := 0) (Nat.le_refl _) (Nat.le_refl _) ?_
  refine y_to (lv' := [(0, .ref (α 13 t)), (1, .long (iL step))]) (st' := []) rfl rfl rfl ?_
  have hfoot : ∀ (k : Nat) (i f : Int), (fun k i f => k = 13 ∧ i = (t) ∧ f = 1 ∨ k = 13 ∧ i = (t) ∧ f = 2 ∨ k = 13 ∧ i = (t) ∧ f = 4) k i f → ¬ SKd k f := fun k i f z => by unfold SKd; (try dsimp only at z); omega
  have n11 := hR.n11
  have ws := hW.st st hst.1 hst.2
  refine y_aload_n hE rfl 0 rfl dX13_advance_0 ?_
  refine y_aload_n hE rfl 0 rfl dX13_advance_1 ?_
  refine y_callV hE (m_X13_progress t ht (by rw [e1]; exact b1) (by rw [e2]; exact b2)) (lw_V q2432 q2361 q2362 q146 q2363) (nA := 0) (by decide +kernel) rfl ⟨Nat.le_of_ble_eq_true rfl, Nat.le_of_ble_eq_true rfl⟩ (hdd := rfl) (hcc := rfl) (hq := rfl) (hi := ht) (rest := [.ref (α 13 t)]) rfl (by simp [refV_cat, Value.category]) dX13_advance_2 (bc' := 0) (bs' := 0) (Nat.le_refl _) (Nat.le_refl _) (fun r_2 n_2 α_2 K_2 hx_2 hp_2 => ?_)
  obtain ⟨rfl, rfl, rfl, hr_2⟩ := hp_2
  refine y_to (st' := [.long (iL r_2), .ref (α 13 t)]) rfl rfl rfl ?_
  refine pX13_29 hE ht dX13_advance_5 ?_
  refine y_aload_n hE rfl 0 rfl dX13_advance_8 ?_
  refine gX13_19 (z := q2) hE ht e2 dX13_advance_9 ?_
  refine y_i2l hE (by omega) dX13_advance_12 ?_
  refine y_lload_n hE rfl 1 rfl dX13_advance_13 ?_
  refine y_ladd hE dX13_advance_14 ?_
  refine y_lstore_n hE rfl [(3, .long (iL (q2 + step))), (0, .ref (α 13 t)), (1, .long (iL step))] (by decide) rfl dX13_advance_15 ?_
  refine y_aload_n hE rfl 1 rfl dX13_advance_16 ?_
  refine gX13_15r (z := st) hE ht e0 (by omega) dX13_advance_17 (fun hl_17 => ?_)
  refine gX13_39 (z := (S 17 st)) hE hl_17 (hR.s3 (i := st) (by omega)) dX13_advance_20 ?_
  refine y_if_eq hE 54 (by decide) (by omega) dX13_advance_23 (fun c_23 => ?_) (fun c_23 => ?_)
  · refine y_aload_n hE rfl 1 rfl dX13_advance_54 ?_
    refine y_ldc2 hE 1000000 (v := 1000000) (by decide) q2364 dX13_advance_55 ?_
    refine y_lload_n hE rfl 0 rfl dX13_advance_58 ?_
    refine y_mminL hE q2433 (by omega) (by omega) (Nat.le_of_ble_eq_true rfl) (Nat.le_of_ble_eq_true rfl) dX13_advance_59 ?_
    refine y_l2i hE dX13_advance_62 ?_
    refine pX13_19 hE ht dX13_advance_63 ?_
    refine y_vret (r := 0) hE rfl hQ dX13_advance_66 Ext.rf ?_
    refine ⟨rfl, rfl, (KF.up (KF.up KF.rf (by (try dsimp only); omega)) (by (try dsimp only); omega)), ?_⟩
    simp [up3, c_23, hr_2, e1, e2]
  · refine y_aload_n hE rfl 1 rfl dX13_advance_26 ?_
    refine y_dup hE rfl dX13_advance_27 ?_
    refine gX13_26 (z := q1) hE ht e1 dX13_advance_28 ?_
    refine y_lload_n hE rfl 0 rfl dX13_advance_31 ?_
    refine y_ldc2 hE 1000000 (v := 1000000) (by decide) q2364 dX13_advance_32 ?_
    refine y_ldiv hE (by omega) (by omega) dX13_advance_35 ?_
    refine y_l2i hE dX13_advance_36 ?_
    refine y_iadd hE dX13_advance_37 ?_
    refine pX13_26 hE ht dX13_advance_38 ?_
    refine y_aload_n hE rfl 1 rfl dX13_advance_41 ?_
    refine y_lload_n hE rfl 0 rfl dX13_advance_42 ?_
    refine y_ldc2 hE 1000000 (v := 1000000) (by decide) q2364 dX13_advance_43 ?_
    refine y_lrem hE (by omega) (by omega) dX13_advance_46 ?_
    refine y_l2i hE dX13_advance_47 ?_
    refine pX13_19 hE ht dX13_advance_48 ?_
    refine y_goto hE 66 (by decide) dX13_advance_51 ?_
    refine y_vret (r := 0) hE rfl hQ dX13_advance_66 Ext.rf ?_
    refine ⟨rfl, rfl, (KF.up (KF.up (KF.up KF.rf (by (try dsimp only); omega)) (by (try dsimp only); omega)) (by (try dsimp only); omega)), ?_⟩
    simp [up3, c_23, hr_2, e1, e2]
set_option maxHeartbeats 4000000 in
set_option maxRecDepth 100000 in
theorem m_X12_advance {w : KW} {n : KN} {α : KA} {K : KS} (S : SS) (mi t st q1 q2 : Int) (hR : Rst S n K) (hW : WFs S) (hv0 : WFv S) (hlm : 0 ≤ mi ∧ mi < n 12) (ht : 0 ≤ t ∧ t < n 13) (hst : 0 ≤ st ∧ st < S 19 0) (e0 : K 13 t 0 = st) (e1 : K 13 t 1 = q1) (e2 : K 13 t 2 = q2) (b1 : 0 ≤ q1 ∧ q1 ≤ 1000000000) (b2 : 0 ≤ q2 ∧ q2 ≤ 1000000) : KM w yX12_advance cX12_advance 2 none { frames := 8, cells := 0, slots := 0, locals := 208 } (3, 0) [.ref (α 12 mi), .ref (α 13 t)] n α K (fun r n' α' K' => n = n' ∧ α = α' ∧ KF K K' (fun k i f => k = 13 ∧ i = (t) ∧ f = 1 ∨ k = 13 ∧ i = (t) ∧ f = 2 ∨ k = 13 ∧ i = (t) ∧ f = 4 ∨ k = 34 ∧ i = 2 ∧ 0 ≤ f) ∧ (K' 13 t 1 = (if S 17 st = 0 then q1 else q1 + (q2 + stpS S st) / 1000000) ∧ K' 13 t 2 = (if S 17 st = 0 then min 1000000 (q2 + stpS S st) else (q2 + stpS S st) % 1000000) ∧ K' 13 t 4 = q1 * 1000000 + q2)) := by
  refine y_start (by decide) (Nat.le_of_ble_eq_true rfl) (fun x hE hQ => ?_)
  have hw := hQ.2
  subst hw
  have hE : YE x cX12_advance RX12 none "advance" 2 { frames := 8, cells := 0, slots := 0, locals := 208 } := hE
  refine y_wk (fun hWK => ?_)
  have hn0 := hWK.1
  refine y_bud (bc' := 0) (bs' := 0) (Nat.le_refl _) (Nat.le_refl _) ?_
  refine y_to (lv' := [(0, .ref (α 12 mi)), (1, .ref (α 13 t))]) (st' := []) rfl rfl rfl ?_
  have hfoot : ∀ (k : Nat) (i f : Int), (fun k i f => k = 13 ∧ i = (t) ∧ f = 1 ∨ k = 13 ∧ i = (t) ∧ f = 2 ∨ k = 13 ∧ i = (t) ∧ f = 4 ∨ k = 34 ∧ i = 2 ∧ 0 ≤ f) k i f → ¬ SKd k f := fun k i f z => by unfold SKd; (try dsimp only at z); omega
  have n11 := hR.n11
  have ws := hW.st st hst.1 hst.2
  have hsi := stpS_in hW hst
  have hse : 1000000 * S 16 st / (100 * lenS S st) = stpS S st := rfl
  refine y_aload_n hE rfl 1 rfl dX12_advance_0 ?_
  refine y_aload_n hE rfl 0 rfl dX12_advance_1 ?_
  refine y_aload_n hE rfl 1 rfl dX12_advance_2 ?_
  refine gX12_89r (z := st) hE ht e0 (by omega) dX12_advance_3 (fun hl_3 => ?_)
  refine gX12_208 (z := (S 16 st)) hE hl_3 (hR.s2 (i := st) (by omega)) dX12_advance_6 ?_
  refine y_i2l hE (by omega) dX12_advance_9 ?_
  refine y_aload_n hE rfl 0 rfl dX12_advance_10 ?_
  refine gX12_14r (z := 0) hE hlm (hR.m14 (i := mi) (by omega)) (by omega) dX12_advance_11 (fun hl_11 => ?_)
  refine y_aload_n hE rfl 1 rfl dX12_advance_14 ?_
  refine gX12_89r (z := st) hE ht e0 (by omega) dX12_advance_15 (fun hl_15 => ?_)
  refine y_callVN hE (m_X1_lengthOf S st hR hl_11 hW hv0 (by omega) hl_15) q2406 q2408 qs39 q108 q2409 (nA := 1) (by decide +kernel) rfl ⟨Nat.le_of_ble_eq_true rfl, Nat.le_of_ble_eq_true rfl⟩ (hdd := rfl) (hcc := rfl) (hq := rfl) (hi := hl_11) (rest := [.long (iL (S 16 st)), .ref (α 12 mi), .ref (α 13 t)]) rfl (by simp [refV_cat, Value.category]) dX12_advance_18 (bc' := 0) (bs' := 0) (Nat.le_refl _) (Nat.le_refl _) (fun r_18 n_18 α_18 K_18 hx_18 hp_18 => ?_)
  obtain ⟨rfl, rfl, hk_18, hr_18⟩ := hp_18
  have e_18 : lenS S st = r_18 := Eq.symm (by rw [hr_18.1])
  subst e_18
  refine y_to (st' := [.int (iI (lenS S st)), .long (iL (S 16 st)), .ref (α 12 mi), .ref (α 13 t)]) rfl rfl rfl ?_
  refine y_i2l hE (by omega) dX12_advance_21 ?_
  refine y_callV hE (m_X12_stepOf S mi (S 16 st) (lenS S st) (hR.kf (P := fun k i f => k = 13 ∧ i = (t) ∧ f = 1 ∨ k = 13 ∧ i = (t) ∧ f = 2 ∨ k = 13 ∧ i = (t) ∧ f = 4 ∨ k = 34 ∧ i = 2 ∧ 0 ≤ f) (KF.mono hk_18 (fun k i f z => by (try dsimp only at z ⊢); omega)) hfoot) hlm (by omega) (by omega)) (lw_V q2423 q2425 qs40 q145 q2426) (nA := 2) (by decide +kernel) rfl ⟨Nat.le_of_ble_eq_true rfl, Nat.le_of_ble_eq_true rfl⟩ (hdd := rfl) (hcc := rfl) (hq := rfl) (hi := hlm) (rest := [.ref (α 13 t)]) rfl (by simp [refV_cat, Value.category]) dX12_advance_22 (bc' := 0) (bs' := 0) (Nat.le_refl _) (Nat.le_refl _) (fun r_22 n_22 α_22 K_22 hx_22 hp_22 => ?_)
  obtain ⟨rfl, rfl, rfl, hr_22⟩ := hp_22
  refine y_to (st' := [.long (iL r_22), .ref (α 13 t)]) rfl rfl rfl ?_
  refine y_callV hE (m_X13_advanceF S t st q1 q2 r_22 (hR.kf (P := fun k i f => k = 13 ∧ i = (t) ∧ f = 1 ∨ k = 13 ∧ i = (t) ∧ f = 2 ∨ k = 13 ∧ i = (t) ∧ f = 4 ∨ k = 34 ∧ i = 2 ∧ 0 ≤ f) (KF.mono hk_18 (fun k i f z => by (try dsimp only at z ⊢); omega)) hfoot) (by assumption) ht (by omega) ((hk_18 13 t 0 (by (try dsimp only); omega)).trans e0) ((hk_18 13 t 1 (by (try dsimp only); omega)).trans e1) ((hk_18 13 t 2 (by (try dsimp only); omega)).trans e2) (by omega) (by omega) (by rw [hr_22, hse]; omega)) (lw_V q2428 q2429 q2430 q146 q2431) (nA := 1) (by decide +kernel) rfl ⟨Nat.le_of_ble_eq_true rfl, Nat.le_of_ble_eq_true rfl⟩ (hdd := rfl) (hcc := rfl) (hq := rfl) (hi := ht) (rest := []) rfl (by decide) dX12_advance_25 (bc' := 0) (bs' := 0) (Nat.le_refl _) (Nat.le_refl _) (fun r_25 n_25 α_25 K_25 hx_25 hp_25 => ?_)
  obtain ⟨rfl, rfl, hk_25, hr_25⟩ := hp_25
  refine y_to (st' := []) rfl rfl rfl ?_
  exact y_vret (r := 0) hE rfl hQ dX12_advance_28 Ext.rf ⟨rfl, rfl, ((KF.mono hk_18 (fun k i f z => by (try dsimp only at z ⊢); omega)).tr (KF.mono hk_25 (fun k i f z => by (try dsimp only at z ⊢); omega))), by rw [← hse, ← hr_22]; exact hr_25⟩
