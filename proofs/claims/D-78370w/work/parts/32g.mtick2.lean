set_option linter.unusedVariables false
/-- many ticks -/
def tikN (S : SS) : Nat → SS
  | 0 => S
  | k + 1 => tikS (tikN S k)
theorem tikN_s {S : SS} {k : Int} (h : 0 ≤ k) : tikN S (k + 1).toNat = tikS (tikN S k.toNat) := by
  rw [show (k + 1).toNat = k.toNat + 1 by omega, tikN]
theorem tikN_ok {S : SS} (hW : WFs S) {T : Int} (hX : WFm S 0 T) (hT : 0 ≤ T) (h0 : 0 < S 19 0) : ∀ k : Nat, WFm (tikN S k) 0 (T + 2 * k) ∧ ∀ f : Nat, f ≠ 0 → tikN S k f = S f
  | 0 => ⟨by rw [tikN]; have e : T + 2 * ((0 : Nat) : Int) = T := by omega
             rw [e]; exact hX, fun _ _ => rfl⟩
  | k + 1 => by
    obtain ⟨h1, h2⟩ := tikN_ok hW hX hT h0 k
    have hW2 : WFs (tikN S k) := hW.congr h2
    obtain ⟨h3, h4⟩ := tikS_ok hW2 h1 (by omega) (by rw [h2 19 (by decide)]; exact h0)
    rw [tikN]
    refine ⟨?_, fun f h => by rw [h4 f h, h2 f h]⟩
    have e : T + 2 * ((k + 1 : Nat) : Int) = T + 2 * (k : Int) + 2 := by omega
    rw [e]; exact h3
def oTick (S : SS) (k : Int) : Int × Int × SS := if ¬ (1 ≤ k ∧ k ≤ 100) then (1, 0, S) else if S 19 0 = 0 then (2, 0, S) else (0, tikN S k.toNat 0 288 - S 0 288, tikN S k.toNat)
def oForetell (S : SS) (k : Int) : Int × Int × SS := if ¬ (1 ≤ k ∧ k ≤ 100) then (1, 0, S) else if S 19 0 = 0 then (2, 0, S) else (0, if tikN (cpyS S 0 870 290) k.toNat 0 8 = 1 then tikN (cpyS S 0 870 290) k.toNat 0 16 else tikN (cpyS S 0 870 290) k.toNat 0 12, cpyS (tikN (cpyS S 0 870 290) k.toNat) 870 0 290)
/-- ticks until the machine is idle in a state, 101: not through 100 -/
def ttR (s : Int) : Nat → Int → SS → Int × SS
  | 0, k, R => (k, R)
  | f + 1, k, R => if R 0 8 = 1 ∨ R 0 12 ≠ s then ttR s f (k + 1) (if k + 1 ≤ 100 then tikS R else R) else (k, R)
def oTicksTo (S : SS) (s : Int) : Int × Int × SS := if ¬ (0 ≤ s ∧ s < S 19 0) then (1, 0, S) else (0, if (ttR s 101 0 (cpyS S 0 870 290)).1 > 100 then -1 else (ttR s 101 0 (cpyS S 0 870 290)).1, cpyS (ttR s 101 0 (cpyS S 0 870 290)).2 870 0 290)
theorem ttR_s {s k : Int} {R : SS} (h : k < 101) : ttR s (101 - k).toNat k R = if R 0 8 = 1 ∨ R 0 12 ≠ s then ttR s (101 - (k + 1)).toNat (k + 1) (if k + 1 ≤ 100 then tikS R else R) else (k, R) := by
  rw [show (101 - k).toNat = (101 - (k + 1)).toNat + 1 by omega, ttR]
theorem cpy_m {S : SS} {T : Int} (hX : WFm S 0 T) : WFm (cpyS S 0 870 290) 0 T := by
  have f : ∀ f : Nat, f ≠ 0 → cpyS S 0 870 290 f = S f := fun f h => cpyS_f h
  exact hX.ext (Int.le_refl _) (fun j a b => by rw [cpyS_r (by omega)]) (fun p a b => by rw [cpyS_r (by omega)]; exact hX.vals p a b) (by rw [f 19 (by decide)]; exact Int.le_refl _) (by rw [f 19 (by decide)]; exact fun z => z) (by rw [f 21 (by decide)]; exact Int.le_refl _) (by rw [f 8 (by decide)]; exact Int.le_refl _) (fun s _ _ => by rw [f 17 (by decide)]) (fun s _ _ => by rw [f 20 (by decide)])
set_option maxHeartbeats 4000000 in
set_option maxRecDepth 100000 in
theorem m_X4_tick {w : KW} {n : KN} {α : KA} {K : KS} (S : SS) (T : Int) (k : Int) (h40 : (0 : Int) ≤ 0 ∧ 0 < n 4) (hM : MRep S n K) (hW : WFs S) (hX : WFm S 0 T) (hv0 : WFv S) (hT0 : 0 ≤ T ∧ T ≤ 15000) (hk0 : -2147483648 ≤ k ∧ k ≤ 2147483647) : KM w yX4_tick cX4_tick 4 (some (.int)) { frames := 7, cells := 0, slots := 0, locals := 186 } (0, 0) [.ref (α 4 0), .int (iI k)] n α K (fun r n' α' K' => n = n' ∧ α = α' ∧ (MRep (oTick S k).2.2 n K' ∧ KO K K' MK ∧ K' 4 0 25 = (oTick S k).1 ∧ r = (oTick S k).2.1)) := by
  refine y_start (by decide) (Nat.le_of_ble_eq_true rfl) (fun x hE hQ => ?_)
  have hw := hQ.2
  subst hw
  have hE : YE x cX4_tick RX4 (some (.int)) "tick" 4 { frames := 7, cells := 0, slots := 0, locals := 186 } := hE
  refine y_wk (fun hWK => ?_)
  have hn0 := hWK.1
  refine y_bud (bc' := 0) (bs' := 0) (Nat.le_refl _) (Nat.le_refl _) ?_
  refine y_to (lv' := [(0, .ref (α 4 0)), (1, .int (iI k))]) (st' := []) rfl rfl rfl ?_
  have wpar := hW.par
  have wclips := hW.clips
  have wnodes := hW.nodes
  have wsts := hW.sts
  have wtrs := hW.trs
  have wthr := hW.thr
  have wtxt := hW.txt
  have xinn := hX.inn
  have xcuts := hX.cuts
  have xfro := hX.fro
  have xmany := hX.many
  have xevn := hX.evn
  have xtks := hX.tks
  simp only [Int.zero_add] at xinn xcuts xfro xmany xevn xtks
  refine y_aload_n hE rfl 0 rfl dX4_tick_0 ?_
  refine y_iconst hE dX4_tick_1 ?_
  refine pX4_94 hE h40 dX4_tick_2 ?_
  refine y_iload_n hE rfl 1 rfl dX4_tick_5 ?_
  refine y_i2l hE (by omega) dX4_tick_6 ?_
  refine y_lconst hE 1 (by decide) dX4_tick_7 ?_
  refine y_ldc2 hE 100 (v := 100) (by decide) q2884 dX4_tick_8 ?_
  refine y_callS hE (m_X4_in k 1 100 (by omega) (by omega) (by omega)) (lw_S q2868 q2869 q133 q2870) (nA := 3) (by decide +kernel) rfl ⟨Nat.le_of_ble_eq_true rfl, Nat.le_of_ble_eq_true rfl⟩ (rest := []) rfl (by decide) dX4_tick_11 (bc' := 0) (bs' := 0) (Nat.le_refl _) (Nat.le_refl _) (fun r_11 n_11 α_11 K_11 hx_11 hp_11 => ?_)
  obtain ⟨rfl, rfl, rfl, hr_11⟩ := hp_11
  refine y_to (st' := [.int (iI r_11)]) rfl rfl rfl ?_
  refine y_if_ne hE 23 (by decide) (by omega) dX4_tick_14 (fun c_14 => ?_) (fun c_14 => ?_)
  · refine y_aload_n hE rfl 0 rfl dX4_tick_23 ?_
    refine gX4_145 (z := S 19 0) hE h40 (hM.2.2.2.2.2.1) dX4_tick_24 ?_
    refine y_if_ne hE 36 (by decide) (by omega) dX4_tick_27 (fun c_27 => ?_) (fun c_27 => ?_)
    · have h19 : 0 < S 19 0 := by omega
      refine y_aload_n hE rfl 0 rfl dX4_tick_36 ?_
      refine gX4_7r (z := 0) hE h40 (MObj.r hM.1 0 (by decide)) (by omega) dX4_tick_37 (fun hl_37 => ?_)
      refine y_sipush hE (by decide) dX4_tick_40 ?_
      refine y_iald hE rfl hl_37 (by have hL : (up3 K 4 0 25 0) 100 0 (-1) = 1160 := (MObj.l hM.1 0 (by decide)); omega) dX4_tick_43 ?_
      refine y_to (st' := [.int (iI (S 0 288))]) rfl rfl (by rw [show (up3 K 4 0 25 0) 100 0 288 = S 0 288 from (MRep.ra hM 0 rfl (by omega) (by first | omega | (show _ < (1160 : Int); omega)))]) ?_
      refine y_istore_n hE rfl [(2, .int (iI (S 0 288))), (0, .ref (α 4 0)), (1, .int (iI k))] (by decide) rfl dX4_tick_44 ?_
      refine y_iconst hE dX4_tick_45 ?_
      refine y_istore_n hE rfl [(3, .int (iI 0)), (2, .int (iI (S 0 288))), (0, .ref (α 4 0)), (1, .int (iI k))] (by decide) rfl dX4_tick_46 ?_
      have L47 : ∀ (fuel : Nat) (K2 : KS) (S2 : SS) (j : Int), (MRep S2 n K2) → (KO K K2 MK) → (0 ≤ j ∧ j ≤ k) → (S2 = tikN S j.toNat) → (K2 4 0 25 = 0) → (k - j).toNat < fuel → Y x n α K2 0 0 47 [(3, .int (iI j)), (2, .int (iI (S 0 288))), (0, .ref (α 4 0)), (1, .int (iI k))] [] := by
        intro fuel47
        induction fuel47 with
        | zero => intro K2 S2 j hM2 hk2 hj hS2 h25 hfu47; exact absurd hfu47 (Nat.not_lt_zero _)
        | succ fuel47 ih47 =>
          intro K2 S2 j hM2 hk2 hj hS2 h25 hfu47
          have f2 : ∀ f : Nat, f ≠ 0 → S2 f = S f := fun f h => by rw [hS2, (tikN_ok hW hX (by omega) h19 _).2 f h]
          have hX2 : WFm S2 0 (T + 2 * j) := by have q := (tikN_ok hW hX (by omega) h19 j.toNat).1; rw [← hS2, show ((j.toNat : Nat) : Int) = j by omega] at q; exact q
          have hW2 : WFs S2 := hW.congr f2
          have e219 : S2 19 0 = S 19 0 := congrFun (f2 19 (by decide)) 0
          refine y_iload_n hE rfl 0 rfl dX4_tick_47 ?_
          refine y_iload_n hE rfl 3 rfl dX4_tick_48 ?_
          refine y_icmp_ge hE 62 (by decide) (by omega) (by omega) dX4_tick_49 (fun c_49 => ?_) (fun c_49 => ?_)
          · have hjk : j.toNat = k.toNat := by omega
            refine y_aload_n hE rfl 2 rfl dX4_tick_62 ?_
            refine gX4_7r (z := 0) hE h40 (MObj.r hM2.1 0 (by decide)) (by omega) dX4_tick_63 (fun hl_63 => ?_)
            refine y_sipush hE (by decide) dX4_tick_66 ?_
            refine y_iald hE rfl hl_63 (by have hL : K2 100 0 (-1) = 1160 := (MObj.l hM2.1 0 (by decide)); omega) dX4_tick_69 ?_
            refine y_to (st' := [.int (iI (S2 0 288))]) rfl rfl (by rw [show K2 100 0 288 = S2 0 288 from (MRep.ra hM2 0 rfl (by omega) (by first | omega | (show _ < (1160 : Int); omega)))]) ?_
            refine y_iload_n hE rfl 1 rfl dX4_tick_70 ?_
            refine y_isub hE dX4_tick_71 ?_
            refine y_iret hE rfl rfl hQ dX4_tick_72 Ext.rf ?_
            refine ⟨rfl, rfl, ?_⟩
            unfold oTick
            (repeat (first | rw [if_pos (by omega)] | rw [if_neg (by omega)]))
            rw [← hjk, ← hS2]
            exact ⟨hM2, hk2, h25, rfl⟩
          · refine y_aload_n hE rfl 2 rfl dX4_tick_52 ?_
            refine y_callV hE (m_X4_ticks S2 (T + 2 * j) h40 hM2 (hW2) (hX2.v) (hX2) (by omega) (by omega)) (lw_V q3134 q3136 qs92 q133 q3137) (nA := 0) (by decide +kernel) rfl ⟨Nat.le_of_ble_eq_true rfl, Nat.le_of_ble_eq_true rfl⟩ (hdd := rfl) (hcc := rfl) (hq := rfl) (hi := h40) (rest := []) rfl (by decide) dX4_tick_53 (bc' := 0) (bs' := 0) (Nat.le_refl _) (Nat.le_refl _) (fun r_53 n_53 α_53 K_53 hx_53 hp_53 => ?_)
            obtain ⟨rfl, rfl, hM_53, hk_53, hr_53⟩ := hp_53
            refine y_to (st' := []) rfl rfl rfl ?_
            refine y_iinc hE 0 rfl [(3, .int (iI (j + 1))), (2, .int (iI (S 0 288))), (0, .ref (α 4 0)), (1, .int (iI k))] (by decide) rfl dX4_tick_56 ?_
            refine y_goto hE 47 (by decide) dX4_tick_59 ?_
            exact ih47 K_53 (tikS S2) (j + 1) (hM_53) ((hk2.tr (KO.mono hk_53 (fun k i z => by unfold MK; (try dsimp only at z); (try dsimp only); omega)))) (by omega) (by rw [tikN_s (by omega), ← hS2]) (hr_53.trans h25) (by omega)
      exact L47 _ (up3 K 4 0 25 0) S 0 ((MRep.t hM 25 (by decide) 0)) ((KO.up KO.rf (by unfold MK; decide))) (by omega) (rfl) (by simp [up3]) (Nat.lt_succ_self _)
    · refine y_aload_n hE rfl 0 rfl dX4_tick_30 ?_
      refine y_iconst hE dX4_tick_31 ?_
      refine y_callV hE (m_X4_fails 2 h40) (lw_V q2871 q2873 qs53 q133 q2874) (nA := 1) (by decide +kernel) rfl ⟨Nat.le_of_ble_eq_true rfl, Nat.le_of_ble_eq_true rfl⟩ (hdd := rfl) (hcc := rfl) (hq := rfl) (hi := h40) (rest := []) rfl (by decide) dX4_tick_32 (bc' := 0) (bs' := 0) (Nat.le_refl _) (Nat.le_refl _) (fun r_32 n_32 α_32 K_32 hx_32 hp_32 => ?_)
      obtain ⟨rfl, rfl, rfl, hr_32⟩ := hp_32
      refine y_to (st' := [.int (iI r_32)]) rfl rfl rfl ?_
      refine y_iret hE rfl rfl hQ dX4_tick_35 Ext.rf ?_
      refine ⟨rfl, rfl, ?_⟩
      unfold oTick
      (repeat (first | rw [if_pos (by omega)] | rw [if_neg (by omega)]))
      exact ⟨(MRep.t (MRep.t hM 25 (by decide) 0) 25 (by decide) 2), (KO.up (KO.up KO.rf (by unfold MK; decide)) (by unfold MK; decide)), by simp [up3], by first | rfl | (dsimp only; omega)⟩
  · refine y_aload_n hE rfl 0 rfl dX4_tick_17 ?_
    refine y_iconst hE dX4_tick_18 ?_
    refine y_callV hE (m_X4_fails 1 h40) (lw_V q2871 q2873 qs53 q133 q2874) (nA := 1) (by decide +kernel) rfl ⟨Nat.le_of_ble_eq_true rfl, Nat.le_of_ble_eq_true rfl⟩ (hdd := rfl) (hcc := rfl) (hq := rfl) (hi := h40) (rest := []) rfl (by decide) dX4_tick_19 (bc' := 0) (bs' := 0) (Nat.le_refl _) (Nat.le_refl _) (fun r_19 n_19 α_19 K_19 hx_19 hp_19 => ?_)
    obtain ⟨rfl, rfl, rfl, hr_19⟩ := hp_19
    refine y_to (st' := [.int (iI r_19)]) rfl rfl rfl ?_
    refine y_iret hE rfl rfl hQ dX4_tick_22 Ext.rf ?_
    refine ⟨rfl, rfl, ?_⟩
    unfold oTick
    (repeat (first | rw [if_pos (by omega)] | rw [if_neg (by omega)]))
    exact ⟨(MRep.t (MRep.t hM 25 (by decide) 0) 25 (by decide) 1), (KO.up (KO.up KO.rf (by unfold MK; decide)) (by unfold MK; decide)), by simp [up3], by first | rfl | (dsimp only; omega)⟩
set_option maxHeartbeats 4000000 in
set_option maxRecDepth 100000 in
theorem m_X4_foretell {w : KW} {n : KN} {α : KA} {K : KS} (S : SS) (T : Int) (k : Int) (h40 : (0 : Int) ≤ 0 ∧ 0 < n 4) (hM : MRep S n K) (hW : WFs S) (hX : WFm S 0 T) (hv0 : WFv S) (hT0 : 0 ≤ T ∧ T ≤ 15000) (hk0 : -2147483648 ≤ k ∧ k ≤ 2147483647) : KM w yX4_foretell cX4_foretell 3 (some (.int)) { frames := 7, cells := 0, slots := 0, locals := 186 } (0, 0) [.ref (α 4 0), .int (iI k)] n α K (fun r n' α' K' => n = n' ∧ α = α' ∧ (MRep (oForetell S k).2.2 n K' ∧ KO K K' MK ∧ K' 4 0 25 = (oForetell S k).1 ∧ r = (oForetell S k).2.1)) := by
  refine y_start (by decide) (Nat.le_of_ble_eq_true rfl) (fun x hE hQ => ?_)
  have hw := hQ.2
  subst hw
  have hE : YE x cX4_foretell RX4 (some (.int)) "foretell" 3 { frames := 7, cells := 0, slots := 0, locals := 186 } := hE
  refine y_wk (fun hWK => ?_)
  have hn0 := hWK.1
  refine y_bud (bc' := 0) (bs' := 0) (Nat.le_refl _) (Nat.le_refl _) ?_
  refine y_to (lv' := [(0, .ref (α 4 0)), (1, .int (iI k))]) (st' := []) rfl rfl rfl ?_
  have wpar := hW.par
  have wclips := hW.clips
  have wnodes := hW.nodes
  have wsts := hW.sts
  have wtrs := hW.trs
  have wthr := hW.thr
  have wtxt := hW.txt
  have xinn := hX.inn
  have xcuts := hX.cuts
  have xfro := hX.fro
  have xmany := hX.many
  have xevn := hX.evn
  have xtks := hX.tks
  simp only [Int.zero_add] at xinn xcuts xfro xmany xevn xtks
  refine y_aload_n hE rfl 0 rfl dX4_foretell_0 ?_
  refine y_iconst hE dX4_foretell_1 ?_
  refine pX4_94 hE h40 dX4_foretell_2 ?_
  refine y_iload_n hE rfl 1 rfl dX4_foretell_5 ?_
  refine y_i2l hE (by omega) dX4_foretell_6 ?_
  refine y_lconst hE 1 (by decide) dX4_foretell_7 ?_
  refine y_ldc2 hE 100 (v := 100) (by decide) q2884 dX4_foretell_8 ?_
  refine y_callS hE (m_X4_in k 1 100 (by omega) (by omega) (by omega)) (lw_S q2868 q2869 q133 q2870) (nA := 3) (by decide +kernel) rfl ⟨Nat.le_of_ble_eq_true rfl, Nat.le_of_ble_eq_true rfl⟩ (rest := []) rfl (by decide) dX4_foretell_11 (bc' := 0) (bs' := 0) (Nat.le_refl _) (Nat.le_refl _) (fun r_11 n_11 α_11 K_11 hx_11 hp_11 => ?_)
  obtain ⟨rfl, rfl, rfl, hr_11⟩ := hp_11
  refine y_to (st' := [.int (iI r_11)]) rfl rfl rfl ?_
  refine y_if_ne hE 23 (by decide) (by omega) dX4_foretell_14 (fun c_14 => ?_) (fun c_14 => ?_)
  · refine y_aload_n hE rfl 0 rfl dX4_foretell_23 ?_
    refine gX4_145 (z := S 19 0) hE h40 (hM.2.2.2.2.2.1) dX4_foretell_24 ?_
    refine y_if_ne hE 36 (by decide) (by omega) dX4_foretell_27 (fun c_27 => ?_) (fun c_27 => ?_)
    · have h19 : 0 < S 19 0 := by omega
      have hXc := cpy_m hX
      have hWc : WFs (cpyS S 0 870 290) := hW.congr (fun f h => cpyS_f h)
      have h19c : 0 < cpyS S 0 870 290 19 0 := by rw [cpyS_f (by decide)]; exact h19
      refine y_aload_n hE rfl 0 rfl dX4_foretell_36 ?_
      refine y_iconst hE dX4_foretell_37 ?_
      refine y_sipush hE (by decide) dX4_foretell_38 ?_
      have hz4 : (up3 K 4 0 25 0) 4 0 25 = 0 := by first | (simp [up3]; done) | (simp [up3]; assumption)
      refine y_callV hE (m_X4_copies S 0 870 h40 (MRep.t hM 25 (by decide) 0) (by omega) (by omega) (by omega)) (lw_V q3243 q3245 qs106 q133 q3246) (nA := 2) (by decide +kernel) rfl ⟨Nat.le_of_ble_eq_true rfl, Nat.le_of_ble_eq_true rfl⟩ (hdd := rfl) (hcc := rfl) (hq := rfl) (hi := h40) (rest := []) rfl (by decide) dX4_foretell_41 (bc' := 0) (bs' := 0) (Nat.le_refl _) (Nat.le_refl _) (fun r_41 n_41 α_41 K_41 hx_41 hp_41 => ?_)
      obtain ⟨rfl, rfl, hM_41, hk_41, hr_41⟩ := hp_41
      have hk4 := (hk_41 4 0 (by decide) 25).trans hz4
      refine y_to (st' := []) rfl rfl rfl ?_
      refine y_iconst hE dX4_foretell_44 ?_
      refine y_istore_n hE rfl [(2, .int (iI 0)), (0, .ref (α 4 0)), (1, .int (iI k))] (by decide) rfl dX4_foretell_45 ?_
      have L46 : ∀ (fuel : Nat) (K2 : KS) (S2 : SS) (j : Int), (MRep S2 n K2) → (KO K K2 MK) → (0 ≤ j ∧ j ≤ k) → (S2 = tikN (cpyS S 0 870 290) j.toNat) → (K2 4 0 25 = 0) → (k - j).toNat < fuel → Y x n α K2 0 0 46 [(2, .int (iI j)), (0, .ref (α 4 0)), (1, .int (iI k))] [] := by
        intro fuel46
        induction fuel46 with
        | zero => intro K2 S2 j hM2 hk2 hj hS2 h25 hfu46; exact absurd hfu46 (Nat.not_lt_zero _)
        | succ fuel46 ih46 =>
          intro K2 S2 j hM2 hk2 hj hS2 h25 hfu46
          have f2 : ∀ f : Nat, f ≠ 0 → S2 f = S f := fun f h => by rw [hS2, (tikN_ok hWc hXc (by omega) h19c _).2 f h, cpyS_f h]
          have hX2 : WFm S2 0 (T + 2 * j) := by have q := (tikN_ok hWc hXc (by omega) h19c j.toNat).1; rw [← hS2, show ((j.toNat : Nat) : Int) = j by omega] at q; exact q
          have hW2 : WFs S2 := hW.congr f2
          have e219 : S2 19 0 = S 19 0 := congrFun (f2 19 (by decide)) 0
          refine y_iload_n hE rfl 0 rfl dX4_foretell_46 ?_
          refine y_iload_n hE rfl 2 rfl dX4_foretell_47 ?_
          refine y_icmp_ge hE 61 (by decide) (by omega) (by omega) dX4_foretell_48 (fun c_48 => ?_) (fun c_48 => ?_)
          · have hjk : j.toNat = k.toNat := by omega
            have z_inn := hX2.inn; have z_ta := hX2.ta; have z_tb := hX2.tb
            simp only [Int.zero_add] at z_inn z_ta z_tb
            have z_taa := z_ta (by omega)
            unfold TkOk at z_taa z_tb
            have J89 : ∀ (v : Int), (v = if S2 0 8 = 1 then S2 0 16 else S2 0 12) → Y x n α K2 0 0 89 [(2, .int (iI j)), (0, .ref (α 4 0)), (1, .int (iI k))] [.int (iI v)] := by
              intro v hv
              refine y_istore_n hE rfl [(2, .int (iI v)), (0, .ref (α 4 0)), (1, .int (iI k))] (by decide) rfl dX4_foretell_89 ?_
              refine y_aload_n hE rfl 1 rfl dX4_foretell_90 ?_
              refine y_sipush hE (by decide) dX4_foretell_91 ?_
              refine y_iconst hE dX4_foretell_94 ?_
              refine y_callV hE (m_X4_copies S2 870 0 h40 hM2 (by omega) (by omega) (by omega)) (lw_V q3243 q3245 qs106 q133 q3246) (nA := 2) (by decide +kernel) rfl ⟨Nat.le_of_ble_eq_true rfl, Nat.le_of_ble_eq_true rfl⟩ (hdd := rfl) (hcc := rfl) (hq := rfl) (hi := h40) (rest := []) rfl (by decide) dX4_foretell_95 (bc' := 0) (bs' := 0) (Nat.le_refl _) (Nat.le_refl _) (fun r_95 n_95 α_95 K_95 hx_95 hp_95 => ?_)
              obtain ⟨rfl, rfl, hM_95, hk_95, hr_95⟩ := hp_95
              have hk9 := (hk_95 4 0 (by decide) 25).trans h25
              refine y_to (st' := []) rfl rfl rfl ?_
              refine y_iload_n hE rfl 0 rfl dX4_foretell_98 ?_
              refine y_iret hE rfl rfl hQ dX4_foretell_99 Ext.rf ?_
              refine ⟨rfl, rfl, ?_⟩
              unfold oForetell
              (repeat (first | rw [if_pos (by omega)] | rw [if_neg (by omega)]))
              rw [← hjk, ← hS2, ← hv]
              exact ⟨hM_95, (hk2.tr (KO.mono hk_95 (fun k i z => by unfold MK; (try dsimp only at z); (try dsimp only); omega))), hk9, rfl⟩
            refine y_aload_n hE rfl 1 rfl dX4_foretell_61 ?_
            refine gX4_7r (z := 0) hE h40 (MObj.r hM2.1 0 (by decide)) (by omega) dX4_foretell_62 (fun hl_62 => ?_)
            refine y_bipush hE (by decide) dX4_foretell_65 ?_
            refine y_iald hE rfl hl_62 (by have hL : K2 100 0 (-1) = 1160 := (MObj.l hM2.1 0 (by decide)); omega) dX4_foretell_67 ?_
            refine y_to (st' := [.int (iI (S2 0 8))]) rfl rfl (by rw [show K2 100 0 8 = S2 0 8 from (MRep.ra hM2 0 rfl (by omega) (by first | omega | (show _ < (1160 : Int); omega)))]) ?_
            refine y_iconst hE dX4_foretell_68 ?_
            refine y_icmp_ne hE 82 (by decide) (by omega) (by omega) dX4_foretell_69 (fun c_69 => ?_) (fun c_69 => ?_)
            · refine y_aload_n hE rfl 1 rfl dX4_foretell_82 ?_
              refine gX4_7r (z := 0) hE h40 (MObj.r hM2.1 0 (by decide)) (by omega) dX4_foretell_83 (fun hl_83 => ?_)
              refine y_bipush hE (by decide) dX4_foretell_86 ?_
              refine y_iald hE rfl hl_83 (by have hL : K2 100 0 (-1) = 1160 := (MObj.l hM2.1 0 (by decide)); omega) dX4_foretell_88 ?_
              refine y_to (st' := [.int (iI (S2 0 12))]) rfl rfl (by rw [show K2 100 0 12 = S2 0 12 from (MRep.ra hM2 0 rfl (by omega) (by first | omega | (show _ < (1160 : Int); omega)))]) ?_
              exact J89 (S2 0 12) (by first | rw [if_pos (by omega)] | rw [if_neg (by omega)])
            · refine y_aload_n hE rfl 1 rfl dX4_foretell_72 ?_
              refine gX4_7r (z := 0) hE h40 (MObj.r hM2.1 0 (by decide)) (by omega) dX4_foretell_73 (fun hl_73 => ?_)
              refine y_bipush hE (by decide) dX4_foretell_76 ?_
              refine y_iald hE rfl hl_73 (by have hL : K2 100 0 (-1) = 1160 := (MObj.l hM2.1 0 (by decide)); omega) dX4_foretell_78 ?_
              refine y_to (st' := [.int (iI (S2 0 16))]) rfl rfl (by rw [show K2 100 0 16 = S2 0 16 from (MRep.ra hM2 0 rfl (by omega) (by first | omega | (show _ < (1160 : Int); omega)))]) ?_
              refine y_goto hE 89 (by decide) dX4_foretell_79 ?_
              exact J89 (S2 0 16) (by first | rw [if_pos (by omega)] | rw [if_neg (by omega)])
          · refine y_aload_n hE rfl 1 rfl dX4_foretell_51 ?_
            refine y_callV hE (m_X4_ticks S2 (T + 2 * j) h40 hM2 (hW2) (hX2.v) (hX2) (by omega) (by omega)) (lw_V q3134 q3136 qs92 q133 q3137) (nA := 0) (by decide +kernel) rfl ⟨Nat.le_of_ble_eq_true rfl, Nat.le_of_ble_eq_true rfl⟩ (hdd := rfl) (hcc := rfl) (hq := rfl) (hi := h40) (rest := []) rfl (by decide) dX4_foretell_52 (bc' := 0) (bs' := 0) (Nat.le_refl _) (Nat.le_refl _) (fun r_52 n_52 α_52 K_52 hx_52 hp_52 => ?_)
            obtain ⟨rfl, rfl, hM_52, hk_52, hr_52⟩ := hp_52
            refine y_to (st' := []) rfl rfl rfl ?_
            refine y_iinc hE 0 rfl [(2, .int (iI (j + 1))), (0, .ref (α 4 0)), (1, .int (iI k))] (by decide) rfl dX4_foretell_55 ?_
            refine y_goto hE 46 (by decide) dX4_foretell_58 ?_
            exact ih46 K_52 (tikS S2) (j + 1) (hM_52) ((hk2.tr (KO.mono hk_52 (fun k i z => by unfold MK; (try dsimp only at z); (try dsimp only); omega)))) (by omega) (by rw [tikN_s (by omega), ← hS2]) (hr_52.trans h25) (by omega)
      exact L46 _ K_41 (cpyS S 0 870 290) 0 (hM_41) (((KO.up KO.rf (by unfold MK; decide)).tr (KO.mono hk_41 (fun k i z => by unfold MK; (try dsimp only at z); (try dsimp only); omega)))) (by omega) (rfl) (hk4) (Nat.lt_succ_self _)
    · refine y_aload_n hE rfl 0 rfl dX4_foretell_30 ?_
      refine y_iconst hE dX4_foretell_31 ?_
      refine y_callV hE (m_X4_fails 2 h40) (lw_V q2871 q2873 qs53 q133 q2874) (nA := 1) (by decide +kernel) rfl ⟨Nat.le_of_ble_eq_true rfl, Nat.le_of_ble_eq_true rfl⟩ (hdd := rfl) (hcc := rfl) (hq := rfl) (hi := h40) (rest := []) rfl (by decide) dX4_foretell_32 (bc' := 0) (bs' := 0) (Nat.le_refl _) (Nat.le_refl _) (fun r_32 n_32 α_32 K_32 hx_32 hp_32 => ?_)
      obtain ⟨rfl, rfl, rfl, hr_32⟩ := hp_32
      refine y_to (st' := [.int (iI r_32)]) rfl rfl rfl ?_
      refine y_iret hE rfl rfl hQ dX4_foretell_35 Ext.rf ?_
      refine ⟨rfl, rfl, ?_⟩
      unfold oForetell
      (repeat (first | rw [if_pos (by omega)] | rw [if_neg (by omega)]))
      exact ⟨(MRep.t (MRep.t hM 25 (by decide) 0) 25 (by decide) 2), (KO.up (KO.up KO.rf (by unfold MK; decide)) (by unfold MK; decide)), by simp [up3], by first | rfl | (dsimp only; omega)⟩
  · refine y_aload_n hE rfl 0 rfl dX4_foretell_17 ?_
    refine y_iconst hE dX4_foretell_18 ?_
    refine y_callV hE (m_X4_fails 1 h40) (lw_V q2871 q2873 qs53 q133 q2874) (nA := 1) (by decide +kernel) rfl ⟨Nat.le_of_ble_eq_true rfl, Nat.le_of_ble_eq_true rfl⟩ (hdd := rfl) (hcc := rfl) (hq := rfl) (hi := h40) (rest := []) rfl (by decide) dX4_foretell_19 (bc' := 0) (bs' := 0) (Nat.le_refl _) (Nat.le_refl _) (fun r_19 n_19 α_19 K_19 hx_19 hp_19 => ?_)
    obtain ⟨rfl, rfl, rfl, hr_19⟩ := hp_19
    refine y_to (st' := [.int (iI r_19)]) rfl rfl rfl ?_
    refine y_iret hE rfl rfl hQ dX4_foretell_22 Ext.rf ?_
    refine ⟨rfl, rfl, ?_⟩
    unfold oForetell
    (repeat (first | rw [if_pos (by omega)] | rw [if_neg (by omega)]))
    exact ⟨(MRep.t (MRep.t hM 25 (by decide) 0) 25 (by decide) 1), (KO.up (KO.up KO.rf (by unfold MK; decide)) (by unfold MK; decide)), by simp [up3], by first | rfl | (dsimp only; omega)⟩
/-- the loop's invariant: ticks so far -/
def TtI (S : SS) (T s k : Int) (R : SS) : Prop := ttR s 101 0 S = ttR s (101 - k).toNat k R ∧ (∀ f : Nat, f ≠ 0 → R f = S f) ∧ WFm R 0 (T + 2 * (if k ≤ 100 then k else 100))
set_option maxHeartbeats 4000000 in
set_option maxRecDepth 100000 in
theorem m_X4_ticksTo {w : KW} {n : KN} {α : KA} {K : KS} (S : SS) (T : Int) (s : Int) (h40 : (0 : Int) ≤ 0 ∧ 0 < n 4) (hM : MRep S n K) (hW : WFs S) (hX : WFm S 0 T) (hv0 : WFv S) (hT0 : 0 ≤ T ∧ T ≤ 15000) (hs0 : -2147483648 ≤ s ∧ s ≤ 2147483647) : KM w yX4_ticksTo cX4_ticksTo 3 (some (.int)) { frames := 7, cells := 0, slots := 0, locals := 186 } (0, 0) [.ref (α 4 0), .int (iI s)] n α K (fun r n' α' K' => n = n' ∧ α = α' ∧ (MRep (oTicksTo S s).2.2 n K' ∧ KO K K' MK ∧ K' 4 0 25 = (oTicksTo S s).1 ∧ r = (oTicksTo S s).2.1)) := by
  refine y_start (by decide) (Nat.le_of_ble_eq_true rfl) (fun x hE hQ => ?_)
  have hw := hQ.2
  subst hw
  have hE : YE x cX4_ticksTo RX4 (some (.int)) "ticksTo" 3 { frames := 7, cells := 0, slots := 0, locals := 186 } := hE
  refine y_wk (fun hWK => ?_)
  have hn0 := hWK.1
  refine y_bud (bc' := 0) (bs' := 0) (Nat.le_refl _) (Nat.le_refl _) ?_
  refine y_to (lv' := [(0, .ref (α 4 0)), (1, .int (iI s))]) (st' := []) rfl rfl rfl ?_
  have wpar := hW.par
  have wclips := hW.clips
  have wnodes := hW.nodes
  have wsts := hW.sts
  have wtrs := hW.trs
  have wthr := hW.thr
  have wtxt := hW.txt
  have xinn := hX.inn
  have xcuts := hX.cuts
  have xfro := hX.fro
  have xmany := hX.many
  have xevn := hX.evn
  have xtks := hX.tks
  simp only [Int.zero_add] at xinn xcuts xfro xmany xevn xtks
  refine y_aload_n hE rfl 0 rfl dX4_ticksTo_0 ?_
  refine y_iconst hE dX4_ticksTo_1 ?_
  refine pX4_94 hE h40 dX4_ticksTo_2 ?_
  refine y_aload_n hE rfl 0 rfl dX4_ticksTo_5 ?_
  refine y_iload_n hE rfl 1 rfl dX4_ticksTo_6 ?_
  refine y_callV hE (m_X4_isState S s h40 (MRep.t hM 25 (by decide) 0) (by omega) (by omega)) (lw_V q2945 q2947 qs61 q133 q2948) (nA := 1) (by decide +kernel) rfl ⟨Nat.le_of_ble_eq_true rfl, Nat.le_of_ble_eq_true rfl⟩ (hdd := rfl) (hcc := rfl) (hq := rfl) (hi := h40) (rest := []) rfl (by decide) dX4_ticksTo_7 (bc' := 0) (bs' := 0) (Nat.le_refl _) (Nat.le_refl _) (fun r_7 n_7 α_7 K_7 hx_7 hp_7 => ?_)
  obtain ⟨rfl, rfl, rfl, hr_7⟩ := hp_7
  refine y_to (st' := [.int (iI r_7)]) rfl rfl rfl ?_
  refine y_if_ne hE 19 (by decide) (by omega) dX4_ticksTo_10 (fun c_10 => ?_) (fun c_10 => ?_)
  · have h19 : 0 < S 19 0 := by omega
    have hXc := cpy_m hX
    have hWc : WFs (cpyS S 0 870 290) := hW.congr (fun f h => cpyS_f h)
    refine y_aload_n hE rfl 0 rfl dX4_ticksTo_19 ?_
    refine y_iconst hE dX4_ticksTo_20 ?_
    refine y_sipush hE (by decide) dX4_ticksTo_21 ?_
    have hz4 : (up3 K 4 0 25 0) 4 0 25 = 0 := by first | (simp [up3]; done) | (simp [up3]; assumption)
    refine y_callV hE (m_X4_copies S 0 870 h40 (MRep.t hM 25 (by decide) 0) (by omega) (by omega) (by omega)) (lw_V q3243 q3245 qs106 q133 q3246) (nA := 2) (by decide +kernel) rfl ⟨Nat.le_of_ble_eq_true rfl, Nat.le_of_ble_eq_true rfl⟩ (hdd := rfl) (hcc := rfl) (hq := rfl) (hi := h40) (rest := []) rfl (by decide) dX4_ticksTo_24 (bc' := 0) (bs' := 0) (Nat.le_refl _) (Nat.le_refl _) (fun r_24 n_24 α_24 K_24 hx_24 hp_24 => ?_)
    obtain ⟨rfl, rfl, hM_24, hk_24, hr_24⟩ := hp_24
    have hk4 := (hk_24 4 0 (by decide) 25).trans hz4
    refine y_to (st' := []) rfl rfl rfl ?_
    refine y_iconst hE dX4_ticksTo_27 ?_
    refine y_istore_n hE rfl [(2, .int (iI 0)), (0, .ref (α 4 0)), (1, .int (iI s))] (by decide) rfl dX4_ticksTo_28 ?_
    have L29 : ∀ (fuel : Nat) (K2 : KS) (S2 : SS) (j : Int), (MRep S2 n K2) → (KO K K2 MK) → (0 ≤ j ∧ j ≤ 101) → (ttR s 101 0 (cpyS S 0 870 290) = ttR s (101 - j).toNat j S2) → (∀ f : Nat, f ≠ 0 → S2 f = cpyS S 0 870 290 f) → (WFm S2 0 (T + 2 * (if j ≤ 100 then j else 100))) → (K2 4 0 25 = 0) → (101 - j).toNat < fuel → Y x n α K2 0 0 29 [(2, .int (iI j)), (0, .ref (α 4 0)), (1, .int (iI s))] [] := by
      intro fuel29
      induction fuel29 with
      | zero => intro K2 S2 j hM2 hk2 hj htr f2 hX2 h25 hfu29; exact absurd hfu29 (Nat.not_lt_zero _)
      | succ fuel29 ih29 =>
        intro K2 S2 j hM2 hk2 hj htr f2 hX2 h25 hfu29
        have hW2 : WFs S2 := hWc.congr f2
        have e219 : S2 19 0 = S 19 0 := by rw [f2 19 (by decide), cpyS_f (by decide)]
        have z_inn := hX2.inn; have z_ta := hX2.ta
        simp only [Int.zero_add] at z_inn z_ta
        have z_taa := z_ta (by omega)
        unfold TkOk at z_taa
        refine y_iload_n hE rfl 0 rfl dX4_ticksTo_29 ?_
        refine y_bipush hE (by decide) dX4_ticksTo_30 ?_
        refine y_icmp_gt hE 73 (by decide) (by omega) (by omega) dX4_ticksTo_32 (fun c_32 => ?_) (fun c_32 => ?_)
        · have hend : ttR s 101 0 (cpyS S 0 870 290) = (j, S2) := by rw [htr, show (101 - j).toNat = 0 by omega, ttR]
          refine y_aload_n hE rfl 1 rfl dX4_ticksTo_73 ?_
          refine y_sipush hE (by decide) dX4_ticksTo_74 ?_
          refine y_iconst hE dX4_ticksTo_77 ?_
          refine y_callV hE (m_X4_copies S2 870 0 h40 hM2 (by omega) (by omega) (by omega)) (lw_V q3243 q3245 qs106 q133 q3246) (nA := 2) (by decide +kernel) rfl ⟨Nat.le_of_ble_eq_true rfl, Nat.le_of_ble_eq_true rfl⟩ (hdd := rfl) (hcc := rfl) (hq := rfl) (hi := h40) (rest := []) rfl (by decide) dX4_ticksTo_78 (bc' := 0) (bs' := 0) (Nat.le_refl _) (Nat.le_refl _) (fun r_78 n_78 α_78 K_78 hx_78 hp_78 => ?_)
          obtain ⟨rfl, rfl, hM_78, hk_78, hr_78⟩ := hp_78
          have hk9 := (hk_78 4 0 (by decide) 25).trans h25
          refine y_to (st' := []) rfl rfl rfl ?_
          refine y_iload_n hE rfl 0 rfl dX4_ticksTo_81 ?_
          refine y_bipush hE (by decide) dX4_ticksTo_82 ?_
          refine y_icmp_gt hE 91 (by decide) (by omega) (by omega) dX4_ticksTo_84 (fun c_84 => ?_) (fun c_84 => ?_)
          · refine y_iconst hE dX4_ticksTo_91 ?_
            refine y_iret hE rfl rfl hQ dX4_ticksTo_92 Ext.rf ?_
            refine ⟨rfl, rfl, ?_⟩
            unfold oTicksTo
            rw [if_neg (by omega), hend]
            dsimp only
            (repeat (first | rw [if_pos (by omega)] | rw [if_neg (by omega)]))
            exact ⟨hM_78, (hk2.tr (KO.mono hk_78 (fun k i z => by unfold MK; (try dsimp only at z); (try dsimp only); omega))), hk9, by first | rfl | omega⟩
          · refine y_iload_n hE rfl 0 rfl dX4_ticksTo_87 ?_
            refine y_goto hE 92 (by decide) dX4_ticksTo_88 ?_
            refine y_iret hE rfl rfl hQ dX4_ticksTo_92 Ext.rf ?_
            refine ⟨rfl, rfl, ?_⟩
            unfold oTicksTo
            rw [if_neg (by omega), hend]
            dsimp only
            (repeat (first | rw [if_pos (by omega)] | rw [if_neg (by omega)]))
            exact ⟨hM_78, (hk2.tr (KO.mono hk_78 (fun k i z => by unfold MK; (try dsimp only at z); (try dsimp only); omega))), hk9, by first | rfl | omega⟩
        · have hX3 : WFm S2 0 (T + 2 * j) := by rw [if_pos (by omega)] at hX2; exact hX2
          have htt := ttR_s (s := s) (k := j) (R := S2) (by omega)
          have J57 : (S2 0 8 = 1 ∨ S2 0 12 ≠ s) → Y x n α K2 0 0 57 [(2, .int (iI j)), (0, .ref (α 4 0)), (1, .int (iI s))] [] := by
            intro hgo
            refine y_iinc hE 0 rfl [(2, .int (iI (j + 1))), (0, .ref (α 4 0)), (1, .int (iI s))] (by decide) rfl dX4_ticksTo_57 ?_
            refine y_iload_n hE rfl 0 rfl dX4_ticksTo_60 ?_
            refine y_bipush hE (by decide) dX4_ticksTo_61 ?_
            refine y_icmp_gt hE 29 (by decide) (by omega) (by omega) dX4_ticksTo_63 (fun c_63 => ?_) (fun c_63 => ?_)
            · rw [if_pos (by omega), if_neg (by omega)] at htt
              have htr9 := htr.trans htt
              have hX9 : WFm S2 0 (T + 2 * (if j + 1 ≤ 100 then j + 1 else 100)) := by rw [if_neg (by omega), show (100 : Int) = j by omega]; exact hX3
              have hf9 := f2
              have h259 := h25
              exact ih29 K2 S2 (j + 1) (hM2) (hk2) (by omega) (htr9) (hf9) (hX9) (h259) (by omega)
            · rw [if_pos (by omega), if_pos (by omega)] at htt
              have htr9 := htr.trans htt
              refine y_aload_n hE rfl 1 rfl dX4_ticksTo_66 ?_
              refine y_callV hE (m_X4_ticks S2 (T + 2 * j) h40 hM2 (hW2) (hX2.v) (hX3) (by omega) (by omega)) (lw_V q3134 q3136 qs92 q133 q3137) (nA := 0) (by decide +kernel) rfl ⟨Nat.le_of_ble_eq_true rfl, Nat.le_of_ble_eq_true rfl⟩ (hdd := rfl) (hcc := rfl) (hq := rfl) (hi := h40) (rest := []) rfl (by decide) dX4_ticksTo_67 (bc' := 0) (bs' := 0) (Nat.le_refl _) (Nat.le_refl _) (fun r_67 n_67 α_67 K_67 hx_67 hp_67 => ?_)
              obtain ⟨rfl, rfl, hM_67, hk_67, hr_67⟩ := hp_67
              refine y_to (st' := []) rfl rfl rfl ?_
              obtain ⟨hX8, hf8⟩ := tikS_ok hW2 hX3 (by omega) (by omega)
              have hX9 : WFm (tikS S2) 0 (T + 2 * (if j + 1 ≤ 100 then j + 1 else 100)) := by rw [if_pos (by omega), show T + 2 * (j + 1) = T + 2 * j + 2 by omega]; exact hX8
              have hf9 : ∀ f : Nat, f ≠ 0 → tikS S2 f = cpyS S 0 870 290 f := fun f h => by rw [hf8 f h, f2 f h]
              have h259 := hr_67.trans h25
              refine y_goto hE 29 (by decide) dX4_ticksTo_70 ?_
              exact ih29 K_67 (tikS S2) (j + 1) (hM_67) ((hk2.tr (KO.mono hk_67 (fun k i z => by unfold MK; (try dsimp only at z); (try dsimp only); omega)))) (by omega) (htr9) (hf9) (hX9) (h259) (by omega)
          refine y_aload_n hE rfl 1 rfl dX4_ticksTo_35 ?_
          refine gX4_7r (z := 0) hE h40 (MObj.r hM2.1 0 (by decide)) (by omega) dX4_ticksTo_36 (fun hl_36 => ?_)
          refine y_bipush hE (by decide) dX4_ticksTo_39 ?_
          refine y_iald hE rfl hl_36 (by have hL : K2 100 0 (-1) = 1160 := (MObj.l hM2.1 0 (by decide)); omega) dX4_ticksTo_41 ?_
          refine y_to (st' := [.int (iI (S2 0 8))]) rfl rfl (by rw [show K2 100 0 8 = S2 0 8 from (MRep.ra hM2 0 rfl (by omega) (by first | omega | (show _ < (1160 : Int); omega)))]) ?_
          refine y_iconst hE dX4_ticksTo_42 ?_
          refine y_icmp_eq hE 57 (by decide) (by omega) (by omega) dX4_ticksTo_43 (fun c_43 => ?_) (fun c_43 => ?_)
          · exact J57  (by omega)
          · refine y_aload_n hE rfl 1 rfl dX4_ticksTo_46 ?_
            refine gX4_7r (z := 0) hE h40 (MObj.r hM2.1 0 (by decide)) (by omega) dX4_ticksTo_47 (fun hl_47 => ?_)
            refine y_bipush hE (by decide) dX4_ticksTo_50 ?_
            refine y_iald hE rfl hl_47 (by have hL : K2 100 0 (-1) = 1160 := (MObj.l hM2.1 0 (by decide)); omega) dX4_ticksTo_52 ?_
            refine y_to (st' := [.int (iI (S2 0 12))]) rfl rfl (by rw [show K2 100 0 12 = S2 0 12 from (MRep.ra hM2 0 rfl (by omega) (by first | omega | (show _ < (1160 : Int); omega)))]) ?_
            refine y_iload_n hE rfl 2 rfl dX4_ticksTo_53 ?_
            refine y_icmp_eq hE 73 (by decide) (by omega) (by omega) dX4_ticksTo_54 (fun c_54 => ?_) (fun c_54 => ?_)
            · have hend : ttR s 101 0 (cpyS S 0 870 290) = (j, S2) := by rw [htr, htt, if_neg (by omega)]
              refine y_aload_n hE rfl 1 rfl dX4_ticksTo_73 ?_
              refine y_sipush hE (by decide) dX4_ticksTo_74 ?_
              refine y_iconst hE dX4_ticksTo_77 ?_
              refine y_callV hE (m_X4_copies S2 870 0 h40 hM2 (by omega) (by omega) (by omega)) (lw_V q3243 q3245 qs106 q133 q3246) (nA := 2) (by decide +kernel) rfl ⟨Nat.le_of_ble_eq_true rfl, Nat.le_of_ble_eq_true rfl⟩ (hdd := rfl) (hcc := rfl) (hq := rfl) (hi := h40) (rest := []) rfl (by decide) dX4_ticksTo_78 (bc' := 0) (bs' := 0) (Nat.le_refl _) (Nat.le_refl _) (fun r_78_2 n_78_2 α_78_2 K_78_2 hx_78_2 hp_78_2 => ?_)
              obtain ⟨rfl, rfl, hM_78_2, hk_78_2, hr_78_2⟩ := hp_78_2
              have hk9 := (hk_78_2 4 0 (by decide) 25).trans h25
              refine y_to (st' := []) rfl rfl rfl ?_
              refine y_iload_n hE rfl 0 rfl dX4_ticksTo_81 ?_
              refine y_bipush hE (by decide) dX4_ticksTo_82 ?_
              refine y_icmp_gt hE 91 (by decide) (by omega) (by omega) dX4_ticksTo_84 (fun c_84_2 => ?_) (fun c_84_2 => ?_)
              · refine y_iconst hE dX4_ticksTo_91 ?_
                refine y_iret hE rfl rfl hQ dX4_ticksTo_92 Ext.rf ?_
                refine ⟨rfl, rfl, ?_⟩
                unfold oTicksTo
                rw [if_neg (by omega), hend]
                dsimp only
                (repeat (first | rw [if_pos (by omega)] | rw [if_neg (by omega)]))
                exact ⟨hM_78_2, (hk2.tr (KO.mono hk_78_2 (fun k i z => by unfold MK; (try dsimp only at z); (try dsimp only); omega))), hk9, by first | rfl | omega⟩
              · refine y_iload_n hE rfl 0 rfl dX4_ticksTo_87 ?_
                refine y_goto hE 92 (by decide) dX4_ticksTo_88 ?_
                refine y_iret hE rfl rfl hQ dX4_ticksTo_92 Ext.rf ?_
                refine ⟨rfl, rfl, ?_⟩
                unfold oTicksTo
                rw [if_neg (by omega), hend]
                dsimp only
                (repeat (first | rw [if_pos (by omega)] | rw [if_neg (by omega)]))
                exact ⟨hM_78_2, (hk2.tr (KO.mono hk_78_2 (fun k i z => by unfold MK; (try dsimp only at z); (try dsimp only); omega))), hk9, by first | rfl | omega⟩
            · exact J57  (by omega)
    exact L29 _ K_24 (cpyS S 0 870 290) 0 (hM_24) (((KO.up KO.rf (by unfold MK; decide)).tr (KO.mono hk_24 (fun k i z => by unfold MK; (try dsimp only at z); (try dsimp only); omega)))) (by omega) (rfl) (fun f h => rfl) (by rw [if_pos (by omega), show T + 2 * 0 = T by omega]; exact hXc) (hk4) (Nat.lt_succ_self _)
  · refine y_aload_n hE rfl 0 rfl dX4_ticksTo_13 ?_
    refine y_iconst hE dX4_ticksTo_14 ?_
    refine y_callV hE (m_X4_fails 1 h40) (lw_V q2871 q2873 qs53 q133 q2874) (nA := 1) (by decide +kernel) rfl ⟨Nat.le_of_ble_eq_true rfl, Nat.le_of_ble_eq_true rfl⟩ (hdd := rfl) (hcc := rfl) (hq := rfl) (hi := h40) (rest := []) rfl (by decide) dX4_ticksTo_15 (bc' := 0) (bs' := 0) (Nat.le_refl _) (Nat.le_refl _) (fun r_15 n_15 α_15 K_15 hx_15 hp_15 => ?_)
    obtain ⟨rfl, rfl, rfl, hr_15⟩ := hp_15
    refine y_to (st' := [.int (iI r_15)]) rfl rfl rfl ?_
    refine y_iret hE rfl rfl hQ dX4_ticksTo_18 Ext.rf ?_
    refine ⟨rfl, rfl, ?_⟩
    unfold oTicksTo
    (repeat (first | rw [if_pos (by omega)] | rw [if_neg (by omega)]))
    exact ⟨(MRep.t (MRep.t hM 25 (by decide) 0) 25 (by decide) 1), (KO.up (KO.up KO.rf (by unfold MK; decide)) (by unfold MK; decide)), by simp [up3], by first | rfl | (dsimp only; omega)⟩
