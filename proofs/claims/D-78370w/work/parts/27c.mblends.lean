set_option linter.unusedVariables false
set_option maxHeartbeats 4000000 in
set_option maxRecDepth 100000 in
theorem m_X4_blends {w : KW} {n : KN} {α : KA} {K : KS} (S : SS) (i wg : Int) (h40 : (0 : Int) ≤ 0 ∧ 0 < n 4) (hM : MRep S n K) (hW : WFs S) (hv0 : WFv S) (hi : NdOk S i) (hw : 0 ≤ wg ∧ wg ≤ 1000000) : KM w yX4_blends cX4_blends 8 none { frames := 1, cells := 0, slots := 0, locals := 29 } (3, 0) [.ref (α 4 0), .int (iI i), .long (iL wg)] n α K (fun r n' α' K' => n = n' ∧ α = α' ∧ MRep (S) n K' ∧ KO K K' (fun k _ => k = 127 ∨ k = 128 ∨ k = 129) ∧ (∀ c : Int, 0 ≤ c → c < 12 → K' 127 0 c = wt S 4 i wg c)) := by
  refine y_start (by decide) (Nat.le_of_ble_eq_true rfl) (fun x hE hQ => ?_)
  have hw := hQ.2
  subst hw
  have hE : YE x cX4_blends RX4 none "blends" 8 { frames := 1, cells := 0, slots := 0, locals := 29 } := hE
  refine y_wk (fun hWK => ?_)
  have hn0 := hWK.1
  refine y_bud (bc' := 0) (bs' := 0) (Nat.le_refl _) (Nat.le_refl _) ?_
  refine y_to (lv' := [(0, .ref (α 4 0)), (1, .int (iI i)), (2, .long (iL wg))]) (st' := []) rfl rfl rfl ?_
  have wpar := hW.par
  have wclips := hW.clips
  have wnodes := hW.nodes
  have wsts := hW.sts
  have wtrs := hW.trs
  have wthr := hW.thr
  have wtxt := hW.txt
  obtain ⟨D, hD⟩ : ∃ D, DOk S D := hW.dep
  have hdi := hD i hi.1 hi.2.1
  refine y_iconst hE dX4_blends_0 ?_
  refine y_istore hE [(4, .int (iI 0)), (0, .ref (α 4 0)), (1, .int (iI i)), (2, .long (iL wg))] (by decide) rfl dX4_blends_1 ?_
  have L3 : ∀ (fuel : Nat) (K2 : KS) (c : Int), (MRep S n K2) → (KO K K2 (fun k _ => k = 127 ∨ k = 128 ∨ k = 129)) → (0 ≤ c ∧ c ≤ 12) → (∀ j : Int, 0 ≤ j → j < c → K2 127 0 j = 0) → (12 - c).toNat < fuel → Y x n α K2 0 0 3 [(4, .int (iI c)), (0, .ref (α 4 0)), (1, .int (iI i)), (2, .long (iL wg))] [] := by
    intro fuel3
    induction fuel3 with
    | zero => intro K2 c hM2 hk2 hk hz hfu3; exact absurd hfu3 (Nat.not_lt_zero _)
    | succ fuel3 ih3 =>
      intro K2 c hM2 hk2 hk hz hfu3
      refine y_iload hE 0 rfl dX4_blends_3 ?_
      refine y_bipush hE (by decide) dX4_blends_5 ?_
      refine y_icmp_ge hE 24 (by decide) (by omega) (by omega) dX4_blends_7 (fun c_7 => ?_) (fun c_7 => ?_)
      · refine y_iconst hE dX4_blends_24 ?_
        refine y_istore hE [(4, .int (iI 1)), (0, .ref (α 4 0)), (1, .int (iI i)), (2, .long (iL wg))] (by decide) rfl dX4_blends_25 ?_
        refine y_aload_n hE rfl 1 rfl dX4_blends_27 ?_
        refine gX4_76r (z := 0) hE h40 (MObj.r hM2.1 28 (by decide)) (by omega) dX4_blends_28 (fun hl_28 => ?_)
        refine y_iconst hE dX4_blends_31 ?_
        refine y_iload_n hE rfl 2 rfl dX4_blends_32 ?_
        refine y_iast hE (by unfold kC; decide) rfl (by simp [kTag]) hl_28 (by have hL : K2 128 0 (-1) = 32 := (MObj.l hM2.1 28 (by decide)); omega) dX4_blends_33 ?_
        refine y_aload_n hE rfl 1 rfl dX4_blends_34 ?_
        refine gX4_79r (z := 0) hE h40 (MObj.r hM2.1 29 (by decide)) (by omega) dX4_blends_35 (fun hl_35 => ?_)
        refine y_iconst hE dX4_blends_38 ?_
        refine y_lload_n hE rfl 3 rfl dX4_blends_39 ?_
        refine y_last hE (by unfold kC; decide) rfl (by simp [kTag]) hl_35 (by have hL : (up3 K2 128 0 0 i) 129 0 (-1) = 32 := (MObj.l hM2.1 29 (by decide)); omega) dX4_blends_40 ?_
        have L41 : ∀ (fuel : Nat) (K3 : KS) (o : Int), (MRep S n K3) → (KO K K3 (fun k _ => k = 127 ∨ k = 128 ∨ k = 129)) → (0 ≤ o ∧ o ≤ 5) → (Stk S D (K3 128 0) (K3 129 0) o) → (∀ c : Int, 0 ≤ c → c < 12 → K3 127 0 c + opS S (K3 128 0) (K3 129 0) c o.toNat = wt S 4 i wg c) → (opM D (K3 128 0) o.toNat).toNat < fuel → Y x n α K3 0 0 41 [(4, .int (iI o)), (0, .ref (α 4 0)), (1, .int (iI i)), (2, .long (iL wg))] [] := by
          intro fuel41
          induction fuel41 with
          | zero => intro K3 o hM3 hk3 ho hst hs hfu41; exact absurd hfu41 (Nat.not_lt_zero _)
          | succ fuel41 ih41 =>
            intro K3 o hM3 hk3 ho hst hs hfu41
            refine y_iload hE 0 rfl dX4_blends_41 ?_
            refine y_if_le hE 127 (by decide) (by omega) dX4_blends_43 (fun c_43 => ?_) (fun c_43 => ?_)
            · exact y_vret (r := 0) hE rfl hQ dX4_blends_127 Ext.rf ⟨rfl, rfl, hM3, hk3, fun c c0 c1 => by have h := hs c c0 c1; rw [show o = 0 by omega, show (0 : Int).toNat = 0 by rfl, opS] at h; omega⟩
            · have sp : ∀ c, opS S (K3 128 0) (K3 129 0) c o.toNat = opS S (K3 128 0) (K3 129 0) c (o + (-1)).toNat + wt S 4 (K3 128 0 (o + (-1))) (K3 129 0 (o + (-1))) c := fun c => by have h := opS_s (S := S) (nd := K3 128 0) (wg := K3 129 0) (c := c) (k := (o + (-1))) (by omega); rw [show o + (-1) + 1 = o by omega] at h; exact h
              have mp : opM D (K3 128 0) o.toNat = opM D (K3 128 0) (o + (-1)).toNat + pw (D (K3 128 0 (o + (-1)))) := by have h := opM_s (D := D) (nd := K3 128 0) (k := (o + (-1))) (by omega); rw [show o + (-1) + 1 = o by omega] at h; exact h
              have mn := opM_nn D (K3 128 0) (o + (-1)).toNat
              have mq := pw_pos (D (K3 128 0 (o + (-1))))
              obtain ⟨⟨k0, k1, k2⟩, k3, k4, k5⟩ := hst (o + (-1)) (by omega) (by omega)
              have wn := hW.nod (K3 128 0 (o + (-1))) k0 k1
              refine y_iinc hE 0 rfl [(4, .int (iI (o + (-1)))), (0, .ref (α 4 0)), (1, .int (iI i)), (2, .long (iL wg))] (by decide) rfl dX4_blends_46 ?_
              refine y_aload_n hE rfl 1 rfl dX4_blends_49 ?_
              refine gX4_76r (z := 0) hE h40 (MObj.r hM3.1 28 (by decide)) (by omega) dX4_blends_50 (fun hl_50 => ?_)
              refine y_iload hE 0 rfl dX4_blends_53 ?_
              refine y_iald hE rfl hl_50 (by have hL : K3 128 0 (-1) = 32 := (MObj.l hM3.1 28 (by decide)); omega) dX4_blends_55 ?_
              refine y_istore hE [(5, .int (iI (K3 128 0 (o + (-1))))), (4, .int (iI (o + (-1)))), (0, .ref (α 4 0)), (1, .int (iI i)), (2, .long (iL wg))] (by decide) rfl dX4_blends_56 ?_
              refine y_aload_n hE rfl 2 rfl dX4_blends_58 ?_
              refine gX4_79r (z := 0) hE h40 (MObj.r hM3.1 29 (by decide)) (by omega) dX4_blends_59 (fun hl_59 => ?_)
              refine y_iload hE 1 rfl dX4_blends_62 ?_
              refine y_lald hE rfl hl_59 (by have hL : K3 129 0 (-1) = 32 := (MObj.l hM3.1 29 (by decide)); omega) dX4_blends_64 ?_
              refine y_lstore hE [(6, .long (iL (K3 129 0 (o + (-1))))), (5, .int (iI (K3 128 0 (o + (-1))))), (4, .int (iI (o + (-1)))), (0, .ref (α 4 0)), (1, .int (iI i)), (2, .long (iL wg))] (by decide) rfl dX4_blends_65 ?_
              have J105 : (K3 129 0 (o + (-1)) ≤ 0 ∨ S 9 (K3 128 0 (o + (-1))) = -1) → Y x n α K3 0 0 105 [(6, .long (iL (K3 129 0 (o + (-1))))), (5, .int (iI (K3 128 0 (o + (-1))))), (4, .int (iI (o + (-1)))), (0, .ref (α 4 0)), (1, .int (iI i)), (2, .long (iL wg))] [] := by
                intro hzz
                refine y_lload hE 0 rfl dX4_blends_105 ?_
                refine y_lconst hE 0 (by decide) dX4_blends_107 ?_
                refine y_lcmp_le hE 124 (by decide) (by omega) (by omega) dX4_blends_108 dX4_blends_109 (fun c_108 => ?_) (fun c_108 => ?_)
                · have x_st : Stk S D (K3 128 0) (K3 129 0) (o + (-1)) := fun k a b => hst k a (by omega)
                  have x_s : ∀ c : Int, 0 ≤ c → c < 12 → K3 127 0 c + opS S (K3 128 0) (K3 129 0) c (o + (-1)).toNat = wt S 4 i wg c := fun c c0 c1 => by
                    rw [← hs c c0 c1, sp c, wt_z 4 _ c (by omega)]; omega
                  have x_m : opM D (K3 128 0) (o + (-1)).toNat < opM D (K3 128 0) o.toNat := by omega
                  refine y_goto hE 41 (by decide) dX4_blends_124 ?_
                  refine y_lv [2, 3, 4, 5] [(4, .int (iI (o + (-1)))), (0, .ref (α 4 0)), (1, .int (iI i)), (2, .long (iL wg))] rfl ?_
                  exact ih41 K3 (o + (-1)) (hM3) (hk3) (by omega) (x_st) (x_s) (by omega)
                · refine y_aload_n hE rfl 3 rfl dX4_blends_112 ?_
                  refine y_iload hE 1 rfl dX4_blends_113 ?_
                  refine y_lload hE 0 rfl dX4_blends_115 ?_
                  refine y_iload hE 2 rfl dX4_blends_117 ?_
                  have hi9 : S 9 (K3 128 0 (o + (-1))) = -1 := by omega
                  have hi11 : 0 < S 11 (K3 128 0 (o + (-1))) := by omega
                  refine y_callV hE (m_X4_opens S (K3 128 0 (o + (-1))) (K3 129 0 (o + (-1))) (o + (-1)) h40 hM3 (by assumption) (by assumption) (by omega) (by omega) (by omega)) (lw_V q3061 q3063 qs79 q133 q3064) (nA := 3) (by decide +kernel) rfl ⟨Nat.le_of_ble_eq_true rfl, Nat.le_of_ble_eq_true rfl⟩ (hdd := rfl) (hcc := rfl) (hq := rfl) (hi := h40) (rest := []) rfl (by decide) dX4_blends_119 (bc' := 0) (bs' := 0) (Nat.le_refl _) (Nat.le_refl _) (fun r_119 n_119 α_119 K_119 hx_119 hp_119 => ?_)
                  obtain ⟨rfl, rfl, hM_119, hk_119, hr_119⟩ := hp_119
                  obtain ⟨x_st, x_s0, x_m, x_r0, x_r5⟩ := opens_inv hW hD (nd := K3 128 0) (wg := K3 129 0) (nd' := K_119 128 0) (wg' := K_119 129 0) (o := (o + (-1))) (r := r_119) (by omega) (by rw [show o + (-1) + 1 = o by omega]; exact hst) hi9 (by omega) (fun j a b => by rcases hr_119 with ⟨-, -, e⟩ | ⟨-, -, e⟩ <;> (rw [e]; exact ⟨by simp [up3]; omega, by simp [up3]; omega⟩)) (by rcases hr_119 with ⟨h1, h2, e⟩ | ⟨h1, h2, e⟩; (left; refine ⟨h1, h2, ?_, ?_⟩ <;> (rw [e]; simp [up3, bZ])); (right; refine ⟨h1, h2, ?_, ?_, ?_, ?_⟩ <;> (rw [e]; first | (simp [up3]; done) | (simp [up3]; omega))))
                  rw [show o + (-1) + 1 = o by omega] at x_s0 x_m
                  have x_k : K_119 127 0 = K3 127 0 := by funext c; exact hk_119 127 0 (by decide) c
                  have x_s : ∀ c : Int, 0 ≤ c → c < 12 → K_119 127 0 c + opS S (K_119 128 0) (K_119 129 0) c r_119.toNat = wt S 4 i wg c := fun c c0 c1 => by rw [x_k, x_s0 c]; exact hs c c0 c1
                  refine y_to (st' := [.int (iI r_119)]) rfl rfl rfl ?_
                  refine y_istore hE [(4, .int (iI r_119)), (6, .long (iL (K3 129 0 (o + (-1))))), (5, .int (iI (K3 128 0 (o + (-1))))), (0, .ref (α 4 0)), (1, .int (iI i)), (2, .long (iL wg))] (by decide) rfl dX4_blends_122 ?_
                  refine y_goto hE 41 (by decide) dX4_blends_124 ?_
                  refine y_lv [0, 3, 4, 5] [(4, .int (iI r_119)), (0, .ref (α 4 0)), (1, .int (iI i)), (2, .long (iL wg))] rfl ?_
                  exact ih41 K_119 r_119 (hM_119) ((hk3.tr (KO.mono hk_119 (fun k i z => by (try dsimp only at z); (try dsimp only); omega)))) (by omega) (x_st) (x_s) (by omega)
              refine y_lload hE 0 rfl dX4_blends_67 ?_
              refine y_lconst hE 0 (by decide) dX4_blends_69 ?_
              refine y_lcmp_le hE 105 (by decide) (by omega) (by omega) dX4_blends_70 dX4_blends_71 (fun c_70 => ?_) (fun c_70 => ?_)
              · exact J105  (by omega)
              · refine y_aload_n hE rfl 3 rfl dX4_blends_74 ?_
                refine gX4_32r (z := 0) hE h40 (MObj.r hM3.1 9 (by decide)) (by omega) dX4_blends_75 (fun hl_75 => ?_)
                refine y_iload hE 1 rfl dX4_blends_78 ?_
                refine y_iald hE rfl hl_75 (by have hL : K3 109 0 (-1) = 20 := (MObj.l hM3.1 9 (by decide)); omega) dX4_blends_80 ?_
                refine y_to (st' := [.int (iI (S 9 (K3 128 0 (o + (-1)))))]) rfl rfl (by rw [show K3 109 0 (K3 128 0 (o + (-1))) = S 9 (K3 128 0 (o + (-1))) from (MRep.ra hM3 9 rfl (by omega) (by first | omega | (show _ < (20 : Int); omega)))]) ?_
                refine y_iconst hE dX4_blends_81 ?_
                refine y_icmp_eq hE 105 (by decide) (by omega) (by omega) dX4_blends_82 (fun c_82 => ?_) (fun c_82 => ?_)
                · exact J105  (by omega)
                · refine y_aload_n hE rfl 3 rfl dX4_blends_85 ?_
                  refine gX4_72r (z := 0) hE h40 (MObj.r hM3.1 27 (by decide)) (by omega) dX4_blends_86 (fun hl_86 => ?_)
                  refine y_aload_n hE rfl 3 rfl dX4_blends_89 ?_
                  refine gX4_32r (z := 0) hE h40 (MObj.r hM3.1 9 (by decide)) (by omega) dX4_blends_90 (fun hl_90 => ?_)
                  refine y_iload hE 1 rfl dX4_blends_93 ?_
                  refine y_iald hE rfl hl_90 (by have hL : K3 109 0 (-1) = 20 := (MObj.l hM3.1 9 (by decide)); omega) dX4_blends_95 ?_
                  refine y_to (st' := [.int (iI (S 9 (K3 128 0 (o + (-1))))), .ref (α 127 0)]) rfl rfl (by rw [show K3 109 0 (K3 128 0 (o + (-1))) = S 9 (K3 128 0 (o + (-1))) from (MRep.ra hM3 9 rfl (by omega) (by first | omega | (show _ < (20 : Int); omega)))]) ?_
                  refine y_dup2 hE rfl rfl dX4_blends_96 ?_
                  refine y_lald hE rfl hl_86 (by have hL : K3 127 0 (-1) = 12 := (MObj.l hM3.1 27 (by decide)); omega) dX4_blends_97 ?_
                  refine y_lload hE 0 rfl dX4_blends_98 ?_
                  refine y_ladd hE dX4_blends_100 ?_
                  refine y_last hE (by unfold kC; decide) rfl (by simp [kTag]) hl_86 (by have hL : K3 127 0 (-1) = 12 := (MObj.l hM3.1 27 (by decide)); omega) dX4_blends_101 ?_
                  have x_k : (up3 K3 127 0 (S 9 (K3 128 0 (o + (-1)))) ((K3 127 0 (S 9 (K3 128 0 (o + (-1))))) + (K3 129 0 (o + (-1))))) 128 = K3 128 := up3_kk _ _ _ _ (by decide)
                  have x_k2 : (up3 K3 127 0 (S 9 (K3 128 0 (o + (-1)))) ((K3 127 0 (S 9 (K3 128 0 (o + (-1))))) + (K3 129 0 (o + (-1))))) 129 = K3 129 := up3_kk _ _ _ _ (by decide)
                  have x_st : Stk S D ((up3 K3 127 0 (S 9 (K3 128 0 (o + (-1)))) ((K3 127 0 (S 9 (K3 128 0 (o + (-1))))) + (K3 129 0 (o + (-1))))) 128 0) ((up3 K3 127 0 (S 9 (K3 128 0 (o + (-1)))) ((K3 127 0 (S 9 (K3 128 0 (o + (-1))))) + (K3 129 0 (o + (-1))))) 129 0) (o + (-1)) := by rw [x_k, x_k2]; exact fun k a b => hst k a (by omega)
                  have x_s : ∀ c : Int, 0 ≤ c → c < 12 → (up3 K3 127 0 (S 9 (K3 128 0 (o + (-1)))) ((K3 127 0 (S 9 (K3 128 0 (o + (-1))))) + (K3 129 0 (o + (-1))))) 127 0 c + opS S ((up3 K3 127 0 (S 9 (K3 128 0 (o + (-1)))) ((K3 127 0 (S 9 (K3 128 0 (o + (-1))))) + (K3 129 0 (o + (-1))))) 128 0) ((up3 K3 127 0 (S 9 (K3 128 0 (o + (-1)))) ((K3 127 0 (S 9 (K3 128 0 (o + (-1))))) + (K3 129 0 (o + (-1))))) 129 0) c (o + (-1)).toNat = wt S 4 i wg c := fun c c0 c1 => by
                    rw [x_k, x_k2, ← hs c c0 c1, sp c, wt_clip 3 c (by omega) (by omega)]
                    by_cases e : c = S 9 (K3 128 0 (o + (-1)))
                    · rw [if_pos e]; subst e; rw [up3_s]; omega
                    · rw [if_neg e, up3_f _ _ _ _ _ _ e]; omega
                  have x_m : opM D ((up3 K3 127 0 (S 9 (K3 128 0 (o + (-1)))) ((K3 127 0 (S 9 (K3 128 0 (o + (-1))))) + (K3 129 0 (o + (-1))))) 128 0) (o + (-1)).toNat < opM D (K3 128 0) o.toNat := by rw [x_k]; omega
                  refine y_goto hE 124 (by decide) dX4_blends_102 ?_
                  refine y_goto hE 41 (by decide) dX4_blends_124 ?_
                  refine y_lv [2, 3, 4, 5] [(4, .int (iI (o + (-1)))), (0, .ref (α 4 0)), (1, .int (iI i)), (2, .long (iL wg))] rfl ?_
                  exact ih41 (up3 K3 127 0 (S 9 (K3 128 0 (o + (-1)))) ((K3 127 0 (S 9 (K3 128 0 (o + (-1))))) + (K3 129 0 (o + (-1))))) (o + (-1)) ((MRep.u hM3 27 (by decide) (j := S 9 (K3 128 0 (o + (-1)))) (by omega) ((K3 127 0 (S 9 (K3 128 0 (o + (-1))))) + (K3 129 0 (o + (-1)))))) ((KO.up hk3 (by decide))) (by omega) (x_st) (x_s) (by omega)
        exact L41 _ (up3 (up3 K2 128 0 0 i) 129 0 0 wg) 1 ((MRep.u (MRep.u hM2 28 (by decide) (j := 0) (by omega) i) 29 (by decide) (j := 0) (by omega) wg)) ((KO.up (KO.up hk2 (by decide)) (by decide))) (by omega) (fun k k0 k1 => by obtain rfl : k = 0 := (by omega); have e1 : ((up3 (up3 K2 128 0 0 i) 129 0 0 wg)) 128 0 0 = i := (by simp [up3]); have e2 : ((up3 (up3 K2 128 0 0 i) 129 0 0 wg)) 129 0 0 = wg := (by simp [up3]); rw [e1, e2]; exact ⟨hi, by omega, by omega, by omega⟩) (fun c c0 c1 => by rw [show (1 : Int).toNat = 0 + 1 by rfl, opS, opS]; simp [up3]; have q := hz c c0 (by omega); omega) (Nat.lt_succ_self _)
      · refine y_aload_n hE rfl 1 rfl dX4_blends_10 ?_
        refine gX4_72r (z := 0) hE h40 (MObj.r hM2.1 27 (by decide)) (by omega) dX4_blends_11 (fun hl_11 => ?_)
        refine y_iload hE 0 rfl dX4_blends_14 ?_
        refine y_lconst hE 0 (by decide) dX4_blends_16 ?_
        refine y_last hE (by unfold kC; decide) rfl (by simp [kTag]) hl_11 (by have hL : K2 127 0 (-1) = 12 := (MObj.l hM2.1 27 (by decide)); omega) dX4_blends_17 ?_
        refine y_iinc hE 0 rfl [(4, .int (iI (c + 1))), (0, .ref (α 4 0)), (1, .int (iI i)), (2, .long (iL wg))] (by decide) rfl dX4_blends_18 ?_
        refine y_goto hE 3 (by decide) dX4_blends_21 ?_
        exact ih3 (up3 K2 127 0 c 0) (c + 1) ((MRep.u hM2 27 (by decide) (j := c) (by omega) 0)) ((KO.up hk2 (by decide))) (by omega) (fun j j0 j1 => by by_cases e : j = c; (subst e; rw [up3_s]); (rw [up3_f _ _ _ _ _ _ e]; exact hz j j0 (by omega))) (by omega)
  exact L3 _ K 0 (hM) (KO.rf) (by omega) (fun j j0 j1 => by omega) (Nat.lt_succ_self _)
