set_option linter.unusedVariables false
set_option maxHeartbeats 4000000 in
set_option maxRecDepth 100000 in
theorem m_X4_readsAll {w : KW} {n : KN} {α : KA} {K : KS} (S : SS) (Z : SS) (cd a : Int) (h40 : (0 : Int) ≤ 0 ∧ 0 < n 4) (hM : MRep S n K) (h25 : K 4 0 25 = cd) (hz : SZ S Z) (hWz : WFs Z) (ha : 0 ≤ a ∧ a ≤ 1) (h21 : 0 ≤ S 21 0 ∧ S 21 0 ≤ 24) : KM w yX4_readsAll cX4_readsAll 2 (some (.boolean)) { frames := 5, cells := 0, slots := 0, locals := 117 } (0, 0) [.ref (α 4 0), .int (iI a)] n α K (fun r n' α' K' => n = n' ∧ α = α' ∧ MRep (zif a (alR Z S).2.2.2 S) n K' ∧ KO K K' (fun k _ => k = 4 ∨ k = 120) ∧ (r = (alR Z S).1 ∧ K' 4 0 25 = cd ∧ K' 4 0 30 = (alR Z S).2.1 ∧ K' 4 0 34 = (alR Z S).2.2.1)) := by
  refine y_start (by decide) (Nat.le_of_ble_eq_true rfl) (fun x hE hQ => ?_)
  have hw := hQ.2
  subst hw
  have hE : YE x cX4_readsAll RX4 (some (.boolean)) "readsAll" 2 { frames := 5, cells := 0, slots := 0, locals := 117 } := hE
  refine y_wk (fun hWK => ?_)
  have hn0 := hWK.1
  refine y_bud (bc' := 0) (bs' := 0) (Nat.le_refl _) (Nat.le_refl _) ?_
  refine y_to (lv' := [(0, .ref (α 4 0)), (1, .int (iI a))]) (st' := []) rfl rfl rfl ?_
  have wtxt := hWz.txt
  have wsts := hWz.sts
  have wpar := hWz.par
  have wtrs := hWz.trs
  have q24 : S 24 0 = Z 24 0 := congrFun (hz 24 (by decide) (by decide)) 0
  have q19 : S 19 0 = Z 19 0 := congrFun (hz 19 (by decide) (by decide)) 0
  have q3 : S 3 0 = Z 3 0 := congrFun (hz 3 (by decide) (by decide)) 0
  refine y_aload_n hE rfl 0 rfl dX4_readsAll_0 ?_
  refine y_iload_n hE rfl 1 rfl dX4_readsAll_1 ?_
  refine pX4_211 hE h40 (by omega) dX4_readsAll_2 ?_
  refine y_aload_n hE rfl 0 rfl dX4_readsAll_5 ?_
  refine y_iconst hE dX4_readsAll_6 ?_
  refine pX4_191 hE h40 dX4_readsAll_7 ?_
  refine y_aload_n hE rfl 0 rfl dX4_readsAll_10 ?_
  refine y_iconst hE dX4_readsAll_11 ?_
  refine pX4_214 hE h40 dX4_readsAll_12 ?_
  have hal1 := alS_ok (S := S) hWz hz (pa := 0) (rm := 0) (by omega) (by omega) h21 (by omega)
  have h1i := alS_in (Q := S) (rm := 0) hWz (pa := 0) (by omega)
  have htg := trR_ge (Q := S) hWz (pa := 0) (by omega)
  refine y_aload_n hE rfl 0 rfl dX4_readsAll_15 ?_
  refine y_callV hE (m_X4_readsTransition S Z cd 0 (K 4 0 31) a (K 4 0 33) 0 (K 4 0 35) (K 4 0 36) S h40 (MRep.t (MRep.t (MRep.t hM 32 (by decide) a) 30 (by decide) 0) 34 (by decide) 0) ⟨h25, (by simp [up3, upr]), rfl, (by simp [up3, upr]), rfl, (by simp [up3, upr]), rfl, rfl⟩ (by assumption) (by assumption) (by omega) (fun _ => rfl) (hz) (by omega) (by omega) (by omega) (by omega)) (lw_V q3002 q3004 qs67 q133 q3005) (nA := 0) (by decide +kernel) rfl ⟨Nat.le_of_ble_eq_true rfl, Nat.le_of_ble_eq_true rfl⟩ (hdd := rfl) (hcc := rfl) (hq := rfl) (hi := h40) (rest := []) rfl (by decide) dX4_readsAll_16 (bc' := 0) (bs' := 0) (Nat.le_refl _) (Nat.le_refl _) (fun r_16 n_16 α_16 K_16 hx_16 hp_16 => ?_)
  obtain ⟨rfl, rfl, hM_16, hk_16, hr_16⟩ := hp_16
  obtain ⟨⟨z25_16, z30_16, z31_16, z32_16, z33_16, z34_16, z35_16, z36_16⟩, hr_16⟩ := hr_16
  refine y_to (st' := []) rfl rfl rfl ?_
  have hz16 : SZ (zif a (trR Z S 0).2.2.2.2.2 S) Z := zif_z hal1.2.2.2.1 hz
  refine y_aload_n hE rfl 0 rfl dX4_readsAll_19 ?_
  refine y_dup hE rfl dX4_readsAll_20 ?_
  refine gX4_214 (z := 0) hE h40 z34_16 dX4_readsAll_21 ?_
  refine y_iconst hE dX4_readsAll_24 ?_
  refine y_iadd hE dX4_readsAll_25 ?_
  refine pX4_214 hE h40 dX4_readsAll_26 ?_
  refine y_aload_n hE rfl 0 rfl dX4_readsAll_29 ?_
  refine y_callV hE (m_X4_skips (zif a (trR Z S 0).2.2.2.2.2 S) Z cd ((trR Z S 0).2.1) ((trR Z S 0).1) a ((trR Z S 0).2.2.1) (0 + 1) ((trR Z S 0).2.2.2.1) ((trR Z S 0).2.2.2.2.1) h40 (MRep.t hM_16 34 (by decide) (0 + 1)) ⟨z25_16, z30_16, z31_16, z32_16, z33_16, (by simp [up3, upr]), z35_16, z36_16⟩ (by assumption) (by assumption) (by omega)) (lw_V q3006 q3008 qs68 q133 q3009) (nA := 0) (by decide +kernel) rfl ⟨Nat.le_of_ble_eq_true rfl, Nat.le_of_ble_eq_true rfl⟩ (hdd := rfl) (hcc := rfl) (hq := rfl) (hi := h40) (rest := []) rfl (by decide) dX4_readsAll_30 (bc' := 0) (bs' := 0) (Nat.le_refl _) (Nat.le_refl _) (fun r_30 n_30 α_30 K_30 hx_30 hp_30 => ?_)
  obtain ⟨rfl, rfl, hM_30, hk_30, hr_30⟩ := hp_30
  obtain ⟨⟨z25_30, z30_30, z31_30, z32_30, z33_30, z34_30, z35_30, z36_30⟩, hr_30⟩ := hr_30
  refine y_to (st' := []) rfl rfl rfl ?_
  have L33 : ∀ (fuel : Nat) (K5 : KS) (S5 Q5 : SS) (fi5 pa5 nu5 rm5 we5 co5 : Int), (MRep S5 n K5) → (KO K K5 (fun k _ => k = 4 ∨ k = 120)) → (PS K5 cd pa5 fi5 a nu5 rm5 we5 co5) → (S5 = zif a Q5 S) → (alR Z S = alA Z (fi5, pa5, rm5, Q5)) → (AlI Z S (fi5, pa5, rm5, Q5)) → (Z 24 0 - pa5).toNat < fuel → Y x n α K5 0 0 33 [(0, .ref (α 4 0)), (1, .int (iI a))] [] := by
    intro fuel33
    induction fuel33 with
    | zero => intro K5 S5 Q5 fi5 pa5 nu5 rm5 we5 co5 hM5 hk5 hps5 hS5 hal hai hfu33; exact absurd hfu33 (Nat.not_lt_zero _)
    | succ fuel33 ih33 =>
      intro K5 S5 Q5 fi5 pa5 nu5 rm5 we5 co5 hM5 hk5 hps5 hS5 hal hai hfu33
      obtain ⟨j1, j2, j3, j4, j5, j6⟩ := id hai
      dsimp only at j1 j2 j3 j4 j5 j6
      have hz5 : SZ S5 Z := by rw [hS5]; exact zif_z j4 hz
      have q524 : S5 24 0 = Z 24 0 := congrFun (hz5 24 (by decide) (by decide)) 0
      have hQs5 : a = 1 → S5 = Q5 := fun z => by rw [hS5]; exact zif_1 z
      have hq5 : fi5 = 1 → (a = 1 ∧ Q5 21 0 = S5 21 0 ∨ a = 0 ∧ Q5 21 0 = S5 21 0 + rm5) := fun z => by
        have q := j6 z
        by_cases e : a = 1
        · left; exact ⟨e, by rw [hQs5 e]⟩
        · right; refine ⟨by omega, ?_⟩; rw [hS5, zif_0 e]; exact q
      refine y_aload_n hE rfl 0 rfl dX4_readsAll_33 ?_
      refine gX4_197 (z := fi5) hE h40 hps5.2.2.1 dX4_readsAll_34 ?_
      refine y_if_eq hE 82 (by decide) (by omega) dX4_readsAll_37 (fun c_37 => ?_) (fun c_37 => ?_)
      · have hex : ¬ (fi5 = 1 ∧ pa5 < Z 24 0) := by omega
        refine y_aload_n hE rfl 0 rfl dX4_readsAll_82 ?_
        refine gX4_197 (z := fi5) hE h40 hps5.2.2.1 dX4_readsAll_83 ?_
        exact y_iret hE rfl (nar_b (by omega)).1 hQ dX4_readsAll_86 Ext.rf ⟨rfl, rfl, by rw [hal, alA_n hex]; show MRep (zif a Q5 S) n _; rw [← hS5]; exact hM5, hk5, by rw [hal, alA_n hex], hps5.1, by rw [hal, alA_n hex]; exact hps5.2.1, by rw [hal, alA_n hex]; exact hps5.2.2.2.2.2.1⟩
      · refine y_aload_n hE rfl 0 rfl dX4_readsAll_40 ?_
        refine gX4_191 (z := pa5) hE h40 hps5.2.1 dX4_readsAll_41 ?_
        refine y_aload_n hE rfl 0 rfl dX4_readsAll_44 ?_
        refine gX4_188 (z := (Z 24 0)) hE h40 ((hM5.2.2.2.2.2.2.2.2).trans (congrFun ((show SZ S5 Z by assumption) 24 (by decide) (by decide)) 0)) dX4_readsAll_45 ?_
        refine y_icmp_ge hE 82 (by decide) (by omega) (by omega) dX4_readsAll_48 (fun c_48 => ?_) (fun c_48 => ?_)
        · have hex : ¬ (fi5 = 1 ∧ pa5 < Z 24 0) := by omega
          refine y_aload_n hE rfl 0 rfl dX4_readsAll_82 ?_
          refine gX4_197 (z := fi5) hE h40 hps5.2.2.1 dX4_readsAll_83 ?_
          exact y_iret hE rfl (nar_b (by omega)).1 hQ dX4_readsAll_86 Ext.rf ⟨rfl, rfl, by rw [hal, alA_n hex]; show MRep (zif a Q5 S) n _; rw [← hS5]; exact hM5, hk5, by rw [hal, alA_n hex], hps5.1, by rw [hal, alA_n hex]; exact hps5.2.1, by rw [hal, alA_n hex]; exact hps5.2.2.2.2.2.1⟩
        · have j66 := j6 (by omega)
          have hal2 := alS_ok (S := S) hWz j4 (pa := pa5 + 1) (rm := rm5) (by omega) (by omega) j5 (by omega)
          have htg2 := trR_ge (Q := Q5) hWz (pa := pa5 + 1) (by omega)
          have hgo : fi5 = 1 ∧ pa5 < Z 24 0 := ⟨by omega, by omega⟩
          have h2i := sk_in htg2.2
          refine y_aload_n hE rfl 0 rfl dX4_readsAll_51 ?_
          refine y_dup hE rfl dX4_readsAll_52 ?_
          refine gX4_191 (z := pa5) hE h40 hps5.2.1 dX4_readsAll_53 ?_
          refine y_iconst hE dX4_readsAll_56 ?_
          refine y_iadd hE dX4_readsAll_57 ?_
          refine pX4_191 hE h40 dX4_readsAll_58 ?_
          refine y_aload_n hE rfl 0 rfl dX4_readsAll_61 ?_
          refine y_callV hE (m_X4_readsTransition S5 Z cd (pa5 + 1) fi5 a nu5 rm5 we5 co5 Q5 h40 (MRep.t hM5 30 (by decide) (pa5 + 1)) ⟨hps5.1, (by simp [up3, upr]), hps5.2.2.1, hps5.2.2.2.1, hps5.2.2.2.2.1, hps5.2.2.2.2.2.1, hps5.2.2.2.2.2.2.1, hps5.2.2.2.2.2.2.2⟩ (by assumption) (by assumption) (by omega) (hQs5) (j4) (by omega) (by omega) (hq5 hgo.1) (by omega)) (lw_V q3002 q3004 qs67 q133 q3005) (nA := 0) (by decide +kernel) rfl ⟨Nat.le_of_ble_eq_true rfl, Nat.le_of_ble_eq_true rfl⟩ (hdd := rfl) (hcc := rfl) (hq := rfl) (hi := h40) (rest := []) rfl (by decide) dX4_readsAll_62 (bc' := 0) (bs' := 0) (Nat.le_refl _) (Nat.le_refl _) (fun r_62 n_62 α_62 K_62 hx_62 hp_62 => ?_)
          obtain ⟨rfl, rfl, hM_62, hk_62, hr_62⟩ := hp_62
          obtain ⟨⟨z25_62, z30_62, z31_62, z32_62, z33_62, z34_62, z35_62, z36_62⟩, hr_62⟩ := hr_62
          refine y_to (st' := []) rfl rfl rfl ?_
          have hz62 : SZ (zif a (trR Z Q5 (pa5 + 1)).2.2.2.2.2 S5) Z := zif_z hal2.2.2.2.1 hz5
          refine y_aload_n hE rfl 0 rfl dX4_readsAll_65 ?_
          refine y_dup hE rfl dX4_readsAll_66 ?_
          refine gX4_214 (z := rm5) hE h40 z34_62 dX4_readsAll_67 ?_
          refine y_iconst hE dX4_readsAll_70 ?_
          refine y_iadd hE dX4_readsAll_71 ?_
          refine pX4_214 hE h40 dX4_readsAll_72 ?_
          refine y_aload_n hE rfl 0 rfl dX4_readsAll_75 ?_
          refine y_callV hE (m_X4_skips (zif a (trR Z Q5 (pa5 + 1)).2.2.2.2.2 S5) Z cd ((trR Z Q5 (pa5 + 1)).2.1) ((trR Z Q5 (pa5 + 1)).1) a ((trR Z Q5 (pa5 + 1)).2.2.1) (rm5 + 1) ((trR Z Q5 (pa5 + 1)).2.2.2.1) ((trR Z Q5 (pa5 + 1)).2.2.2.2.1) h40 (MRep.t hM_62 34 (by decide) (rm5 + 1)) ⟨z25_62, z30_62, z31_62, z32_62, z33_62, (by simp [up3, upr]), z35_62, z36_62⟩ (by assumption) (by assumption) (by omega)) (lw_V q3006 q3008 qs68 q133 q3009) (nA := 0) (by decide +kernel) rfl ⟨Nat.le_of_ble_eq_true rfl, Nat.le_of_ble_eq_true rfl⟩ (hdd := rfl) (hcc := rfl) (hq := rfl) (hi := h40) (rest := []) rfl (by decide) dX4_readsAll_76 (bc' := 0) (bs' := 0) (Nat.le_refl _) (Nat.le_refl _) (fun r_76 n_76 α_76 K_76 hx_76 hp_76 => ?_)
          obtain ⟨rfl, rfl, hM_76, hk_76, hr_76⟩ := hp_76
          obtain ⟨⟨z25_76, z30_76, z31_76, z32_76, z33_76, z34_76, z35_76, z36_76⟩, hr_76⟩ := hr_76
          refine y_to (st' := []) rfl rfl rfl ?_
          refine y_goto hE 33 (by decide) dX4_readsAll_79 ?_
          exact ih33 K_76 (zif a (trR Z Q5 (pa5 + 1)).2.2.2.2.2 S5) ((trR Z Q5 (pa5 + 1)).2.2.2.2.2) ((trR Z Q5 (pa5 + 1)).1) (sk Z ((trR Z Q5 (pa5 + 1)).2.1)) ((trR Z Q5 (pa5 + 1)).2.2.1) (rm5 + 1) ((trR Z Q5 (pa5 + 1)).2.2.2.1) ((trR Z Q5 (pa5 + 1)).2.2.2.2.1) (hM_76) (((KO.up ((KO.up hk5 (by decide)).tr hk_62) (by decide)).tr (KO.mono hk_76 (fun k i z => by (try dsimp only at z); (try dsimp only); omega)))) (⟨z25_76, z30_76, z31_76, z32_76, z33_76, z34_76, z35_76, z36_76⟩) (by rw [hS5, zif_zif]) (hal.trans (alA_y hWz j2 hgo)) (hal2) (by omega)
  exact L33 _ K_30 (zif a (trR Z S 0).2.2.2.2.2 S) ((trR Z S 0).2.2.2.2.2) ((trR Z S 0).1) (sk Z ((trR Z S 0).2.1)) ((trR Z S 0).2.2.1) (0 + 1) ((trR Z S 0).2.2.2.1) ((trR Z S 0).2.2.2.2.1) (hM_30) (((KO.up ((KO.up (KO.up (KO.up KO.rf (by decide)) (by decide)) (by decide)).tr hk_16) (by decide)).tr (KO.mono hk_30 (fun k i z => by (try dsimp only at z); (try dsimp only); omega)))) (⟨z25_30, z30_30, z31_30, z32_30, z33_30, z34_30, z35_30, z36_30⟩) (rfl) (rfl) (hal1) (Nat.lt_succ_self _)
set_option maxHeartbeats 4000000 in
set_option maxRecDepth 100000 in
theorem m_X4_fault {w : KW} {n : KN} {α : KA} {K : KS} (S : SS)  (h40 : (0 : Int) ≤ 0 ∧ 0 < n 4) (hM : MRep S n K) (hW : WFs S) : KM w yX4_fault cX4_fault 1 (some (.int)) { frames := 6, cells := 0, slots := 0, locals := 138 } (0, 0) [.ref (α 4 0)] n α K (fun r n' α' K' => n = n' ∧ α = α' ∧ (MRep (oFault S).2.2 n K' ∧ KO K K' MK ∧ K' 4 0 25 = (oFault S).1 ∧ r = (oFault S).2.1)) := by
  refine y_start (by decide) (Nat.le_of_ble_eq_true rfl) (fun x hE hQ => ?_)
  have hw := hQ.2
  subst hw
  have hE : YE x cX4_fault RX4 (some (.int)) "fault" 1 { frames := 6, cells := 0, slots := 0, locals := 138 } := hE
  refine y_wk (fun hWK => ?_)
  have hn0 := hWK.1
  refine y_bud (bc' := 0) (bs' := 0) (Nat.le_refl _) (Nat.le_refl _) ?_
  refine y_to (lv' := [(0, .ref (α 4 0))]) (st' := []) rfl rfl rfl ?_
  have wpar := hW.par
  have wclips := hW.clips
  have wnodes := hW.nodes
  have wsts := hW.sts
  have wtrs := hW.trs
  have wthr := hW.thr
  have wtxt := hW.txt
  refine y_aload_n hE rfl 0 rfl dX4_fault_0 ?_
  refine y_iconst hE dX4_fault_1 ?_
  refine pX4_94 hE h40 dX4_fault_2 ?_
  refine y_aload_n hE rfl 0 rfl dX4_fault_5 ?_
  refine y_iconst hE dX4_fault_6 ?_
  refine y_callV hE (m_X4_readsAll S S 0 0 h40 (MRep.t hM 25 (by decide) 0) (by simp [up3]) (fun _ _ _ => rfl) (hW) (by omega) (by omega)) (lw_V q2998 q3000 qs66 q133 q3001) (nA := 1) (by decide +kernel) rfl ⟨Nat.le_of_ble_eq_true rfl, Nat.le_of_ble_eq_true rfl⟩ (hdd := rfl) (hcc := rfl) (hq := rfl) (hi := h40) (rest := []) rfl (by decide) dX4_fault_7 (bc' := 0) (bs' := 0) (Nat.le_refl _) (Nat.le_refl _) (fun r_7 n_7 α_7 K_7 hx_7 hp_7 => ?_)
  obtain ⟨rfl, rfl, hM_7, hk_7, hr_7⟩ := hp_7
  obtain ⟨h71, h72, h73, h74⟩ := hr_7
  have hai := alR_ok hW (S := S) (fun _ _ _ => rfl) wtrs
  have e7 : zif 0 (alR S S).2.2.2 S = S := zif_0 (by decide)
  rw [e7] at hM_7
  have hai1 := hai.1
  have hai2 := hai.2.1
  refine y_to (st' := [.int (iI r_7)]) rfl rfl rfl ?_
  refine y_if_eq hE 17 (by decide) (by omega) dX4_fault_10 (fun c_10 => ?_) (fun c_10 => ?_)
  · refine y_aload_n hE rfl 0 rfl dX4_fault_17 ?_
    refine gX4_191 (z := (alR S S).2.1) hE h40 h73 dX4_fault_18 ?_
    refine y_iret hE rfl rfl hQ dX4_fault_21 Ext.rf ?_
    refine ⟨rfl, rfl, ?_⟩
    unfold oFault
    dsimp only
    (repeat (first | rw [if_pos (by omega)] | rw [if_neg (by omega)]))
    exact ⟨hM_7, ((KO.up KO.rf (by unfold MK; decide)).tr (KO.mono hk_7 (fun k i z => by unfold MK; (try dsimp only at z); (try dsimp only); omega))), h72, rfl⟩
  · refine y_iconst hE dX4_fault_13 ?_
    refine y_goto hE 21 (by decide) dX4_fault_14 ?_
    refine y_iret hE rfl rfl hQ dX4_fault_21 Ext.rf ?_
    refine ⟨rfl, rfl, ?_⟩
    unfold oFault
    dsimp only
    (repeat (first | rw [if_pos (by omega)] | rw [if_neg (by omega)]))
    exact ⟨hM_7, ((KO.up KO.rf (by unfold MK; decide)).tr (KO.mono hk_7 (fun k i z => by unfold MK; (try dsimp only at z); (try dsimp only); omega))), h72, rfl⟩
set_option maxHeartbeats 4000000 in
set_option maxRecDepth 100000 in
theorem m_X4_load {w : KW} {n : KN} {α : KA} {K : KS} (S : SS)  (h40 : (0 : Int) ≤ 0 ∧ 0 < n 4) (hM : MRep S n K) (hW : WFs S) : KM w yX4_load cX4_load 1 (some (.int)) { frames := 6, cells := 0, slots := 0, locals := 138 } (0, 0) [.ref (α 4 0)] n α K (fun r n' α' K' => n = n' ∧ α = α' ∧ (MRep (oLoad S).2.2 n K' ∧ KO K K' MK ∧ K' 4 0 25 = (oLoad S).1 ∧ r = (oLoad S).2.1)) := by
  refine y_start (by decide) (Nat.le_of_ble_eq_true rfl) (fun x hE hQ => ?_)
  have hw := hQ.2
  subst hw
  have hE : YE x cX4_load RX4 (some (.int)) "load" 1 { frames := 6, cells := 0, slots := 0, locals := 138 } := hE
  refine y_wk (fun hWK => ?_)
  have hn0 := hWK.1
  refine y_bud (bc' := 0) (bs' := 0) (Nat.le_refl _) (Nat.le_refl _) ?_
  refine y_to (lv' := [(0, .ref (α 4 0))]) (st' := []) rfl rfl rfl ?_
  have wpar := hW.par
  have wclips := hW.clips
  have wnodes := hW.nodes
  have wsts := hW.sts
  have wtrs := hW.trs
  have wthr := hW.thr
  have wtxt := hW.txt
  refine y_aload_n hE rfl 0 rfl dX4_load_0 ?_
  refine y_iconst hE dX4_load_1 ?_
  refine pX4_94 hE h40 dX4_load_2 ?_
  refine y_aload_n hE rfl 0 rfl dX4_load_5 ?_
  refine y_iconst hE dX4_load_6 ?_
  refine y_callV hE (m_X4_readsAll S S 0 0 h40 (MRep.t hM 25 (by decide) 0) (by simp [up3]) (fun _ _ _ => rfl) (hW) (by omega) (by omega)) (lw_V q2998 q3000 qs66 q133 q3001) (nA := 1) (by decide +kernel) rfl ⟨Nat.le_of_ble_eq_true rfl, Nat.le_of_ble_eq_true rfl⟩ (hdd := rfl) (hcc := rfl) (hq := rfl) (hi := h40) (rest := []) rfl (by decide) dX4_load_7 (bc' := 0) (bs' := 0) (Nat.le_refl _) (Nat.le_refl _) (fun r_7 n_7 α_7 K_7 hx_7 hp_7 => ?_)
  obtain ⟨rfl, rfl, hM_7, hk_7, hr_7⟩ := hp_7
  obtain ⟨h71, h72, h73, h74⟩ := hr_7
  have hai := alR_ok hW (S := S) (fun _ _ _ => rfl) wtrs
  have e7 : zif 0 (alR S S).2.2.2 S = S := zif_0 (by decide)
  rw [e7] at hM_7
  have hai1 := hai.1
  refine y_to (st' := [.int (iI r_7)]) rfl rfl rfl ?_
  refine y_if_ne hE 19 (by decide) (by omega) dX4_load_10 (fun c_10 => ?_) (fun c_10 => ?_)
  · refine y_aload_n hE rfl 0 rfl dX4_load_19 ?_
    refine y_iconst hE dX4_load_20 ?_
    refine y_callV hE (m_X4_readsAll S S 0 1 h40 hM_7 (h72) (fun _ _ _ => rfl) (hW) (by omega) (by omega)) (lw_V q2998 q3000 qs66 q133 q3001) (nA := 1) (by decide +kernel) rfl ⟨Nat.le_of_ble_eq_true rfl, Nat.le_of_ble_eq_true rfl⟩ (hdd := rfl) (hcc := rfl) (hq := rfl) (hi := h40) (rest := []) rfl (by decide) dX4_load_21 (bc' := 0) (bs' := 0) (Nat.le_refl _) (Nat.le_refl _) (fun r_21 n_21 α_21 K_21 hx_21 hp_21 => ?_)
    obtain ⟨rfl, rfl, hM_21, hk_21, hr_21⟩ := hp_21
    obtain ⟨g71, g72, g73, g74⟩ := hr_21
    have e21 : zif 1 (alR S S).2.2.2 S = (alR S S).2.2.2 := zif_1 rfl
    rw [e21] at hM_21
    refine y_to (st' := [.int (iI r_21)]) rfl rfl rfl ?_
    refine y_pop hE rfl dX4_load_24 ?_
    refine y_aload_n hE rfl 0 rfl dX4_load_25 ?_
    refine y_iconst hE dX4_load_26 ?_
    refine pX4_188 hE h40 dX4_load_27 ?_
    refine y_aload_n hE rfl 0 rfl dX4_load_30 ?_
    refine gX4_214 (z := (alR S S).2.2.1) hE h40 g74 dX4_load_31 ?_
    refine y_iret hE rfl rfl hQ dX4_load_34 Ext.rf ?_
    refine ⟨rfl, rfl, ?_⟩
    unfold oLoad
    rw [if_pos (by omega)]
    exact ⟨MRep.s hM_21 24 (by decide) 0, (KO.up (((KO.up KO.rf (by unfold MK; decide)).tr (KO.mono hk_7 (fun k i z => by unfold MK; (try dsimp only at z); (try dsimp only); omega))).tr (KO.mono hk_21 (fun k i z => by unfold MK; (try dsimp only at z); (try dsimp only); omega))) (by unfold MK; decide)), by simp [up3]; exact g72, rfl⟩
  · refine y_aload_n hE rfl 0 rfl dX4_load_13 ?_
    refine y_iconst hE dX4_load_14 ?_
    refine y_callV hE (m_X4_fails 1 h40) (lw_V q2871 q2873 qs53 q133 q2874) (nA := 1) (by decide +kernel) rfl ⟨Nat.le_of_ble_eq_true rfl, Nat.le_of_ble_eq_true rfl⟩ (hdd := rfl) (hcc := rfl) (hq := rfl) (hi := h40) (rest := []) rfl (by decide) dX4_load_15 (bc' := 0) (bs' := 0) (Nat.le_refl _) (Nat.le_refl _) (fun r_15 n_15 α_15 K_15 hx_15 hp_15 => ?_)
    obtain ⟨rfl, rfl, rfl, hr_15⟩ := hp_15
    refine y_to (st' := [.int (iI r_15)]) rfl rfl rfl ?_
    refine y_iret hE rfl rfl hQ dX4_load_18 Ext.rf ?_
    refine ⟨rfl, rfl, ?_⟩
    unfold oLoad
    rw [if_neg (by omega)]
    exact ⟨MRep.t hM_7 25 (by decide) 1, (KO.up ((KO.up KO.rf (by unfold MK; decide)).tr (KO.mono hk_7 (fun k i z => by unfold MK; (try dsimp only at z); (try dsimp only); omega))) (by unfold MK; decide)), by simp [up3], hr_15⟩
