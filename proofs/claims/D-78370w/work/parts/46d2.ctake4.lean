set_option linter.unusedVariables false
set_option maxHeartbeats 16000000 in
set_option maxRecDepth 100000 in
theorem m_X12_take {w : KW} {n : KN} {α : KA} {K : KS} (S : SS) (mi ta tb fa fb : Int) (T i t g : Int) (hR : Rst S n K) (hW : WFs S) (hlm : 0 ≤ mi ∧ mi < n 12) (hV : MV S n K mi ta tb fa fb) (hv0 : WFv S) (hX : WFm S 0 T) (h19 : 0 < S 19 0) (hT0 : 0 ≤ T ∧ T ≤ 20000) (hfa : fa = S 0 15) (hfb : S 0 8 = 1 → fb = S 0 19) (hfl : 0 ≤ K 2 (mi + 1) 3 ∧ K 2 (mi + 1) 3 ≤ 40) (hL : CA (lcL S) (K 12 mi 13) (K 36 mi) (K 37 mi)) (hi : 0 ≤ i ∧ i < K 12 mi 13) (h36 : K 36 mi i = t) (h37 : K 37 mi i = g) (htk : takt S = t) (htn : t ≠ -1) (hgl : takl S = 2 ∧ g = 0 ∨ takl S = 1 ∧ g ≠ 0) : KM w yX12_take cX12_take 5 none { frames := 9, cells := 1, slots := 5, locals := 231 } (3, 0) [.ref (α 12 mi), .int (iI i)] n α K (fun r n' α' K' => (∀ k, k ≠ 13 → n' k = n k) ∧ n 13 ≤ n' 13 ∧ Rst (takS S).2 n' K' ∧ KF K K' (FT mi ta tb (n 13)) ∧ MG (takS S).2 n' K' mi ta tb (n 13) ∧ 0 ≤ K' 2 (mi + 1) 3 ∧ K' 2 (mi + 1) 3 ≤ 40) := by
  refine y_start (by decide) (Nat.le_of_ble_eq_true rfl) (fun x hE hQ => ?_)
  have hw := hQ.2
  subst hw
  have hE : YE x cX12_take RX12 none "take" 5 { frames := 9, cells := 1, slots := 5, locals := 231 } := hE
  refine y_wk (fun hWK => ?_)
  have hn0 := hWK.1
  refine y_bud (bc' := 1) (bs' := 5) (Nat.le_refl _) (Nat.le_refl _) ?_
  refine y_to (lv' := [(0, .ref (α 12 mi)), (1, .int (iI i))]) (st' := []) rfl rfl rfl ?_
  have wcl := hW.clips
  have n1 := hR.n1
  have n3 := hR.n3
  have n34 := hR.n34
  have n6 := hR.n6
  have n21 := hR.n21
  have n51 := hR.n51
  have n8 := hR.n8
  have n11 := hR.n11
  have wsts := hW.sts
  have wnodes := hW.nodes
  have va := hV.a
  have vb := hV.b
  have vs := hV.st
  have vl := hV.lg
  have xinn := hX.inn
  have xfro := hX.fro
  have xmany := hX.many
  have xcuts := hX.cuts
  have xta := hX.ta
  have xtb := hX.tb
  have xfz := hX.fz
  simp only [Int.zero_add] at xinn xfro xmany xcuts xta xtb xfz
  unfold TkOk at xta xtb
  have xtaa := xta h19
  have wtrs := hW.trs
  have n24 := hR.n24
  have n54 := hR.n54
  have n36 := hR.n36
  have n37 := hR.n37
  have n11 := hR.n11
  have n2 := hR.n2
  have n2m := hR.n2m
  have n1 := hR.n1
  have hlr := hX.lcr hW h19
  have hlen := (lcL_ok hW).len hW
  have hmc48 : K 12 mi 13 ≤ 24 := by have := hL.1; omega
  have htin := (takt_in S).2
  have ht : 0 ≤ t ∧ t < S 21 0 := by omega
  have wt := hW.tr t ht.1 ht.2
  obtain ⟨xo, ex⟩ : ∃ z, K 54 0 t = z := ⟨_, rfl⟩
  obtain ⟨to, eto⟩ : ∃ z, S 20 (17 * t + 1) = z := ⟨_, rfl⟩
  have x1 : K 14 xo 1 = to := by rw [← ex, ← eto]; exact hR.t1 (i := t) ht
  have x2 : K 14 xo 2 = S 20 (17 * t + 2) := by rw [← ex]; exact hR.t2 (i := t) ht
  have x4 : K 14 xo 4 = S 20 (17 * t + 4) := by rw [← ex]; exact hR.t4 (i := t) ht
  have x0 : 0 ≤ xo := by rw [← ex]; exact hR.t54 (i := t) ht
  rw [eto] at wt
  have wto := hW.st to wt.2.2.1 wt.2.2.2.1
  have s3to := hR.s3 (i := to) ⟨wt.2.2.1, wt.2.2.2.1⟩
  obtain ⟨l, hl9⟩ : ∃ z, takl S = z := ⟨_, rfl⟩
  have hl12 : l = 1 ∨ l = 2 := by rw [← hl9]; exact (takt_in S).1
  refine y_aload_n hE rfl 0 rfl dX12_take_0 ?_
  refine gX12_14r (z := 0) hE hlm (hR.m14 (i := mi) (by omega)) (by omega) dX12_take_1 (fun hl_1 => ?_)
  refine gX12_95r (z := 0) hE hl_1 (hR.c4) (by omega) dX12_take_4 (fun hl_4 => ?_)
  refine y_aload_n hE rfl 0 rfl dX12_take_7 ?_
  refine gX12_38r (z := mi) hE hlm (hR.m11 (i := mi) (by omega)) (by omega) dX12_take_8 (fun hl_8 => ?_)
  refine y_iload_n hE rfl 1 rfl dX12_take_11 ?_
  refine y_iald hE rfl hl_8 (by have hL : K 36 mi (-1) = 48 := (hR.m36 (i := mi) (by omega)); omega) dX12_take_12 ?_
  refine y_to (st' := [.int (iI t), .ref (α 24 0)]) rfl rfl (by rw [show K 36 mi i = t from h36]) ?_
  refine y_callV hE (m_J2_get 24 54 14 0 t rfl rfl hl_4 (by have e1 : K 24 0 1 = 0 := (hR.l24); omega) (by have e1 : K 24 0 1 = 0 := (hR.l24); have e2 : K 24 0 2 = (S 21 0) := (hR.z24); have e3 : K 54 0 (-1) = 24 := (hR.m24); rw [e1, e2, e3]; omega) (by have e2 : K 24 0 2 = (S 21 0) := (hR.z24); rw [e2]; omega) (by have e1 : K 24 0 1 = 0 := (hR.l24); have e4 : K 54 0 t = xo := ex; rw [e1, e4]; omega)) (lw_V q823 q673 q674 q111 q675) (nA := 1) (by decide +kernel) rfl ⟨Nat.le_of_ble_eq_true rfl, Nat.le_of_ble_eq_true rfl⟩ (hdd := rfl) (hcc := rfl) (hq := rfl) (hi := hl_4) (rest := []) rfl (by decide) dX12_take_13 (bc' := 1) (bs' := 5) (Nat.le_refl _) (Nat.le_refl _) (fun r_13 n_13 α_13 K_13 hx_13 hp_13 => ?_)
  obtain ⟨rfl, rfl, rfl, hr_13⟩ := hp_13
  have e_13 : xo = r_13 := Eq.symm (by have e1 : K 24 0 1 = 0 := (hR.l24); have e4 : K 54 0 t = xo := ex; rw [hr_13.1, e1, e4])
  subst e_13
  refine y_to (st' := [refV α 14 xo]) rfl rfl rfl ?_
  have hl_13 : (0 : Int) ≤ xo ∧ xo < n 14 := hr_13.2
  refine y_ref hl_13.1 ?_
  refine y_castE hE rfl rfl hl_13 q824 rfl dX12_take_16 ?_
  refine y_astore_n hE rfl [(2, .ref (α 14 xo)), (0, .ref (α 12 mi)), (1, .int (iI i))] (by decide) rfl dX12_take_19 ?_
  refine y_aload_n hE rfl 0 rfl dX12_take_20 ?_
  refine y_callV hE (m_X14_resetTriggers S t xo hR hW (by omega) (ex) hl_13 (fun p a b => hR.p1 (i := p) ⟨a, b⟩)) (lw_V q2382 q2383 q2384 q147 q2385) (nA := 0) (by decide +kernel) rfl ⟨Nat.le_of_ble_eq_true rfl, Nat.le_of_ble_eq_true rfl⟩ (hdd := rfl) (hcc := rfl) (hq := rfl) (hi := hl_13) (rest := []) rfl (by decide) dX12_take_21 (bc' := 1) (bs' := 5) (Nat.le_refl _) (Nat.le_refl _) (fun r_21 n_21 α_21 K_21 hx_21 hp_21 => ?_)
  obtain ⟨rfl, rfl, hk_21, hr_21⟩ := hp_21
  obtain ⟨S1, hS1⟩ : ∃ z : SS, z = rsT S t (S 20 (17 * t + 7)).toNat := ⟨_, rfl⟩
  rw [← hS1] at hr_21
  have f1 : ∀ f : Nat, f ≠ 0 → S1 f = S f := fun f h => by rw [hS1]; exact rsT_f h _
  have hri := rsT_in hW hX.v ht (S 20 (17 * t + 7)).toNat (by omega)
  rw [← hS1] at hri
  have hW1 : WFs S1 := hW.congr f1
  have hX1 : WFm S1 0 T := by rw [hS1]; exact rsT_ok hW hX ht _ (by omega)
  have hv1 : WFv S1 := hri.2
  have e319 : S1 19 = S 19 := f1 19 (by decide)
  have e33 : S1 3 = S 3 := f1 3 (by decide)
  have hR1 : Rst S1 n K_21 := hR.vl f1 hk_21 (fun k i f z1 z2 => z1) (fun p a b => hr_21 p a b)
  have hV1 : MV S1 n K_21 mi ta tb fa fb := (hV.kfc hk_21 (fun k i f z => by unfold MVe; (try dsimp only at z); omega)).vl hri.1
  have e18 : S1 0 8 = S 0 8 := hri.1 8 (by omega)
  have e111 : S1 0 11 = S 0 11 := hri.1 11 (by omega)
  have hTR : takR S = S1 := by unfold takR; rw [htk, ← hS1]
  have n3113 : n 31 = n 2 := hR.n31
  have h11 : S1 0 8 = 1 → S1 0 11 < 2 := by have := (takR_ok hW hX (by omega)).2; rw [hTR] at this; exact this
  have hpl32 : S1 0 8 = 1 → (poseS S1).length ≤ 32 := fun z => by have a := (poseS_ok hW1 hX1).2; have b := h11 z; omega
  have hlg : l = 2 ∧ g = 0 ∨ l = 1 ∧ g ≠ 0 := by rw [← hl9]; exact hgl
  have hfr9 := takB_fr (fa := fa) (fb := fb) hpl32 hlg (hfa.trans (hri.1 15 (by omega)).symm) (fun z => (hfb (by omega)).trans (hri.1 19 (by omega)).symm)
  refine y_to (st' := []) rfl rfl rfl ?_
  refine y_aload_n hE rfl 1 rfl dX12_take_24 ?_
  refine y_callV hE (m_X12_isIdle S1 mi ta tb fa fb (hR1) (hW1) hlm (hV1)) (lw_V q817 q790 q791 q145 q792) (nA := 0) (by decide +kernel) rfl ⟨Nat.le_of_ble_eq_true rfl, Nat.le_of_ble_eq_true rfl⟩ (hdd := rfl) (hcc := rfl) (hq := rfl) (hi := hlm) (rest := []) rfl (by decide) dX12_take_25 (bc' := 1) (bs' := 5) (Nat.le_refl _) (Nat.le_refl _) (fun r_25 n_25 α_25 K_25 hx_25 hp_25 => ?_)
  obtain ⟨rfl, rfl, rfl, hr_25⟩ := hp_25
  refine y_to (st' := [.int (iI r_25)]) rfl rfl rfl ?_
  have J75 : ∀ (K4 : KS) (S4 : SS) (tc fc : Int), (KF K K4 (FT mi ta tb (n 13))) → (S4 = takB S1 l) → (MVa S4 n K4 mi tc fc) → (Rst S4 n K4) → (WFm S4 0 T) → (fc = S4 0 15) → (tc = ta ∨ tc = tb) → (0 ≤ K4 2 (mi + 1) 3 ∧ K4 2 (mi + 1) 3 ≤ 40) → (K4 36 mi i = t) → Y x n α K4 1 5 75 [(2, .ref (α 14 xo)), (0, .ref (α 12 mi)), (1, .int (iI i))] [] := by
    intro K4 S4 tc fc hk4 hS4 hV4 hR4 hX4 hfc htc hfl4 h436
    have hfr4 : S4 0 20 = 0 ∨ S4 0 20 = 1 := by have := hX4.fro; simp only [Int.zero_add] at this; omega
    have f4 : ∀ f : Nat, f ≠ 0 → S4 f = S f := fun f h => by rw [hS4, takB_f h, f1 f h]
    have hW4 : WFs S4 := hW.congr f4
    have hta4 : TkOk S4 12 T := by have := hX4.ta (by rw [f4 19 (by decide)]; exact h19); rw [Int.zero_add] at this; exact this
    unfold TkOk at hta4
    rw [show (12 : Int) + 1 = 13 by omega, show (12 : Int) + 2 = 14 by omega, show (12 : Int) + 3 = 15 by omega] at hta4
    have e419 : S4 19 = S 19 := f4 19 (by decide)
    have e418 : S4 18 = S 18 := f4 18 (by decide)
    have e417 : S4 17 = S 17 := f4 17 (by decide)
    have e420 : S4 20 = S 20 := f4 20 (by decide)
    rw [e419] at hta4
    have vc := hV4.2.1
    clear xinn xfro xmany xcuts xta xtb xfz xtaa hlr hlen htin va vb vs vl h11 hfr9
    have J104 : ∀ (sy : Int), (sy = 1 ∧ (S4 0 20 = 0 ∧ S 18 (S4 0 12) ≠ 0 ∧ S 18 (S4 0 12) = S 18 to) ∨ sy = 0 ∧ ¬ (S4 0 20 = 0 ∧ S 18 (S4 0 12) ≠ 0 ∧ S 18 (S4 0 12) = S 18 to)) → Y x n α K4 1 5 104 [(2, .ref (α 14 xo)), (0, .ref (α 12 mi)), (1, .int (iI i))] [.int (iI sy)] := by
      intro sy hsy9
      refine y_istore_n hE rfl [(3, .int (iI sy)), (2, .ref (α 14 xo)), (0, .ref (α 12 mi)), (1, .int (iI i))] (by decide) rfl dX12_take_104 ?_
      have J127 : ∀ (ph1 : Int), (ph1 = if sy ≠ 0 then S4 0 14 else S 20 (17 * t + 4) * 10000) → Y x n α K4 1 5 127 [(3, .int (iI sy)), (2, .ref (α 14 xo)), (0, .ref (α 12 mi)), (1, .int (iI i))] [.int (iI ph1)] := by
        intro ph1 hph1
        have hph2 : 0 ≤ ph1 ∧ ph1 ≤ 1000000 := by rw [hph1]; split <;> omega
        refine y_istore hE [(4, .int (iI ph1)), (3, .int (iI sy)), (2, .ref (α 14 xo)), (0, .ref (α 12 mi)), (1, .int (iI i))] (by decide) rfl dX12_take_127 ?_
        refine y_aload_n hE rfl 3 rfl dX12_take_129 ?_
        refine y_new hE 13 0 (codes := [(2, 11), (0, 0), (0, 0), (7, 0), (1, 0)]) (ci := 11) (C := RX13) (T := TX13) (N := 5) (by unfold kC; decide) rfl rfl in_X13 tyX13 tyX13_ok q693 q694 q146 rfl (by decide) dX12_take_130 (bc' := 0) (bs' := 0) (by omega) (by omega) (fun α_130 hx_130 => ?_)
        obtain ⟨K_130, hK_130⟩ : ∃ z, z = upo K4 13 (n 13) (dflG [(2, 11), (0, 0), (0, 0), (7, 0), (1, 0)] 0) := ⟨_, rfl⟩
        rw [← hK_130]
        obtain ⟨n_130, hn_130⟩ : ∃ z, z = upn n 13 := ⟨_, rfl⟩
        rw [← hn_130] at hx_130 ⊢
        obtain ⟨i_130, hi_130⟩ : ∃ z, z = n 13 := ⟨_, rfl⟩
        rw [← hi_130] at hK_130 ⊢
        have hl_130 : 0 ≤ i_130 ∧ i_130 < n_130 13 := by rw [hn_130, hi_130]; exact upn_self hn0 13
        have hkn_130 : KF K4 K_130 (fun k i f => k = 13 ∧ i = i_130) := by rw [hK_130]; exact KF.upo KF.rf (fun f => ⟨rfl, rfl⟩)
        have hv_130 : (0 : Int) ≤ xo ∧ xo < n_130 14 := ⟨hl_13.1, Int.lt_of_lt_of_le hl_13.2 (hx_130 14).1⟩
        have hv_130_2 : (0 : Int) ≤ mi ∧ mi < n_130 12 := ⟨hlm.1, Int.lt_of_lt_of_le hlm.2 (hx_130 12).1⟩
        refine y_to (lv' := [(4, .int (iI ph1)), (3, .int (iI sy)), (2, .ref (α_130 14 xo)), (0, .ref (α_130 12 mi)), (1, .int (iI i))]) (st' := [.ref (α_130 13 i_130), .ref (α_130 12 mi)]) rfl (by first | rfl | rw [ext_r hx_130 hl_13, ext_r hx_130 hlm] | simp only [ext_r hx_130 hl_13, ext_r hx_130 hlm]) (by first | rfl | rw [ext_r hx_130 hl_13, ext_r hx_130 hlm] | simp only [ext_r hx_130 hl_13, ext_r hx_130 hlm]) ?_
        refine y_dup hE rfl dX12_take_133 ?_
        refine y_aload_n hE rfl 2 rfl dX12_take_134 ?_
        refine gX12_127r (z := to) hE hv_130 ((hkn_130 14 xo 1 (by (try dsimp only); omega)).trans ((hk4 14 xo 1 (by unfold FT; omega)).trans x1)) (by omega) dX12_take_135 (fun hl_135 => ?_)
        have J164 : ∀ (pz : Int), (pz = if sy ≠ 0 then (if S4 17 to ≠ 0 then min (S4 0 14) 999999 else S4 0 14) else S4 20 (17 * t + 4) * 10000) → Y x n_130 α_130 K_130 0 0 164 [(4, .int (iI ph1)), (3, .int (iI sy)), (2, .ref (α_130 14 xo)), (0, .ref (α_130 12 mi)), (1, .int (iI i))] [.int (iI pz), .ref (α_130 11 to), .ref (α_130 13 i_130), .ref (α_130 13 i_130), .ref (α_130 12 mi)] := by
          intro pz hpz
          refine y_callI hE (m_X13_init i_130 to pz hl_130 hl_135) q697 q146 q695 q696 rfl (nA := 2) (by decide +kernel) rfl ⟨Nat.le_of_ble_eq_true rfl, Nat.le_of_ble_eq_true rfl⟩ (rest := [.ref (α_130 13 i_130), .ref (α_130 12 mi)]) rfl (by simp [refV_cat, Value.category]) dX12_take_164 (bc' := 0) (bs' := 0) (Nat.le_refl _) (Nat.le_refl _) (fun r_164 n_164 α_164 K_164 hx_164 hp_164 => ?_)
          obtain ⟨rfl, rfl, rfl, hr_164⟩ := hp_164
          refine y_to (st' := [.ref (α_130 13 i_130), .ref (α_130 12 mi)]) rfl rfl rfl ?_
          refine pX12_53r hE hv_130_2 hl_130 dX12_take_167 ?_
          refine y_aload_n hE rfl 3 rfl dX12_take_170 ?_
          refine y_aload_n hE rfl 3 rfl dX12_take_171 ?_
          refine gX12_38r (z := mi) hE hv_130_2 ((hkn_130 12 mi 11 (by (try dsimp only); omega)).trans ((hk4 12 mi 11 (by unfold FT; omega)).trans (hR.m11 (i := mi) (by omega)))) (by omega) dX12_take_172 (fun hl_172 => ?_)
          refine y_iload_n hE rfl 4 rfl dX12_take_175 ?_
          refine y_iald hE rfl hl_172 (by have hL : (up3 (up3 (up3 (up3 K_130 13 i_130 3 1) 13 i_130 0 to) 13 i_130 2 pz) 12 mi 1 i_130) 36 mi (-1) = 48 := ((hkn_130 36 mi (-1) (by (try dsimp only); omega)).trans ((hk4 36 mi (-1) (by unfold FT; omega)).trans (hR.m36 (i := mi) (by omega)))); omega) dX12_take_176 ?_
          refine y_to (st' := [.int (iI t), .ref (α_130 12 mi)]) rfl rfl (by rw [show (up3 (up3 (up3 (up3 K_130 13 i_130 3 1) 13 i_130 0 to) 13 i_130 2 pz) 12 mi 1 i_130) 36 mi i = t from ((hkn_130 36 mi i (by (try dsimp only); omega)).trans h436)]) ?_
          refine pX12_23 hE hv_130_2 dX12_take_177 ?_
          refine y_aload_n hE rfl 3 rfl dX12_take_180 ?_
          refine y_iconst hE dX12_take_181 ?_
          refine pX12_56 hE hv_130_2 dX12_take_182 ?_
          refine y_aload_n hE rfl 2 rfl dX12_take_185 ?_
          refine gX12_107 (z := (S 20 (17 * t + 2))) hE hv_130 ((hkn_130 14 xo 2 (by (try dsimp only); omega)).trans ((hk4 14 xo 2 (by unfold FT; omega)).trans x2)) dX12_take_186 ?_
          refine y_if_ne hE 196 (by decide) (by omega) dX12_take_189 (fun c_189 => ?_) (fun c_189 => ?_)
          · have hkf9 : KF K (up3 (up3 (up3 (up3 (up3 (up3 K_130 13 i_130 3 1) 13 i_130 0 to) 13 i_130 2 pz) 12 mi 1 i_130) 12 mi 2 t) 12 mi 3 0) (FT mi ta tb (n 13)) := (KF.up (KF.up (KF.up (KF.up (KF.up (KF.up (hk4.tr (KF.mono hkn_130 (fun k i f z => by rcases z with ⟨rfl, rfl⟩; (first | exact FT.m (by omega) | exact FT.v | exact FT.b (by omega) | exact FT.p0 | exact FT.p1 | exact FT.q0 (by decide) (by omega) | exact FT.q1 (by decide) (by omega) | exact FT.a (by decide) (by omega) | exact FT.t (by omega))))) (by first | exact FT.m (by omega) | exact FT.v | exact FT.b (by omega) | exact FT.p0 | exact FT.p1 | exact FT.q0 (by decide) (by omega) | exact FT.q1 (by decide) (by omega) | exact FT.a (by decide) (by omega) | exact FT.t (by omega))) (by first | exact FT.m (by omega) | exact FT.v | exact FT.b (by omega) | exact FT.p0 | exact FT.p1 | exact FT.q0 (by decide) (by omega) | exact FT.q1 (by decide) (by omega) | exact FT.a (by decide) (by omega) | exact FT.t (by omega))) (by first | exact FT.m (by omega) | exact FT.v | exact FT.b (by omega) | exact FT.p0 | exact FT.p1 | exact FT.q0 (by decide) (by omega) | exact FT.q1 (by decide) (by omega) | exact FT.a (by decide) (by omega) | exact FT.t (by omega))) (by first | exact FT.m (by omega) | exact FT.v | exact FT.b (by omega) | exact FT.p0 | exact FT.p1 | exact FT.q0 (by decide) (by omega) | exact FT.q1 (by decide) (by omega) | exact FT.a (by decide) (by omega) | exact FT.t (by omega))) (by first | exact FT.m (by omega) | exact FT.v | exact FT.b (by omega) | exact FT.p0 | exact FT.p1 | exact FT.q0 (by decide) (by omega) | exact FT.q1 (by decide) (by omega) | exact FT.a (by decide) (by omega) | exact FT.t (by omega))) (by first | exact FT.m (by omega) | exact FT.v | exact FT.b (by omega) | exact FT.p0 | exact FT.p1 | exact FT.q0 (by decide) (by omega) | exact FT.q1 (by decide) (by omega) | exact FT.a (by decide) (by omega) | exact FT.t (by omega)))
            have hn13 : n_130 13 = n 13 + 1 := by rw [hn_130]; simp [upn]
            have hn12 : n_130 12 = n 12 := by rw [hn_130]; simp [upn]
            have hnk : ∀ k, k ≠ 13 → n_130 k = n k := fun k hk => by rw [hn_130]; unfold upn; rw [if_neg hk]
            have hgv := go6_v (S := S4) (t := t) (to := to) (sy := sy) (ph := pz) (by rw [e420, eto]) (by rw [e418]; exact hsy9) (by omega) hpz
            obtain ⟨w8, w9, w10, w16, w17, w18, w19, wo⟩ := hgv
            have f6 : ∀ f : Nat, f ≠ 0 → go6 S4 t f = S4 f := fun f h => by unfold go6; funext j; rw [up2_f _ _ _ _ h, up2_f _ _ _ _ h, up2_f _ _ _ _ h, goB_f h, trkS_f h]
            have hW6 : WFs (go6 S4 t) := hW4.congr f6
            have hR6 : Rst (go6 S4 t) n_130 (up3 (up3 (up3 (up3 (up3 (up3 K_130 13 i_130 3 1) 13 i_130 0 to) 13 i_130 2 pz) 12 mi 1 i_130) 12 mi 2 t) 12 mi 3 0) := by
              have z1 : Rst S4 n_130 K_130 := by
                have z2 : Rst S4 n K_130 := by rw [hK_130]; exact hR4.kf (P := fun k i f => k = 13) (KF.upo KF.rf (fun f => rfl)) (fun k i f z => by unfold SKd; omega)
                exact z2.nk (fun k hk => hnk k (fun z => hk (by rw [z]; unfold NSk; omega)))
              have z3 : Rst S4 n_130 (up3 (up3 (up3 (up3 (up3 (up3 K_130 13 i_130 3 1) 13 i_130 0 to) 13 i_130 2 pz) 12 mi 1 i_130) 12 mi 2 t) 12 mi 3 0) := (((((z1.u (by unfold SKd; omega)).u (by unfold SKd; omega)).u (by unfold SKd; omega)).u (by unfold SKd; omega)).u (by unfold SKd; omega)).u (by unfold SKd; omega)
              exact z3.sg f6 (fun j j0 j1 => wo j (by have := hW4.par; omega))
            have hV6 : MV (go6 S4 t) n_130 (up3 (up3 (up3 (up3 (up3 (up3 K_130 13 i_130 3 1) 13 i_130 0 to) 13 i_130 2 pz) 12 mi 1 i_130) 12 mi 2 t) 12 mi 3 0) mi tc i_130 fc 1 := by
              refine hV4.go hn12 hn13 hi_130 ?_ ?_ ?_ ?_ ?_ ?_ ?_ ?_ w8 (fun j hj => wo j (by omega))
              · refine KF.up (KF.up (KF.up (KF.up (KF.up (KF.up (KF.mono hkn_130 (fun k i f z => Or.inr z)) (Or.inr ⟨rfl, rfl⟩)) (Or.inr ⟨rfl, rfl⟩)) (Or.inr ⟨rfl, rfl⟩)) (Or.inl ⟨rfl, rfl, by omega, by omega⟩)) (Or.inl ⟨rfl, rfl, by omega, by omega⟩)) (Or.inl ⟨rfl, rfl, by omega, by omega⟩)
              · simp [up3]
              · rw [w9]; simp [up3]
              · rw [w10]; simp [up3]
              · rw [w16]; simp [up3]
              · rw [w17]; simp [up3, hK_130, upo, dflG]
              · rw [w18]; simp [up3]
              · simp [up3]
            have hS9 : (takS S).2 = goS S4 t := by
              unfold takS
              rw [if_neg (by omega)]
              show goS (takB (takR S) (takl S)) (takt S) = _
              rw [hTR, hl9, htk, hS4]
            have hfl6 : 0 ≤ (up3 (up3 (up3 (up3 (up3 (up3 K_130 13 i_130 3 1) 13 i_130 0 to) 13 i_130 2 pz) 12 mi 1 i_130) 12 mi 2 t) 12 mi 3 0) 2 (mi + 1) 3 ∧ (up3 (up3 (up3 (up3 (up3 (up3 K_130 13 i_130 3 1) 13 i_130 0 to) 13 i_130 2 pz) 12 mi 1 i_130) 12 mi 2 t) 12 mi 3 0) 2 (mi + 1) 3 ≤ 40 := by rw [show (up3 (up3 (up3 (up3 (up3 (up3 K_130 13 i_130 3 1) 13 i_130 0 to) 13 i_130 2 pz) 12 mi 1 i_130) 12 mi 2 t) 12 mi 3 0) 2 (mi + 1) 3 = K4 2 (mi + 1) 3 from by simp [up3, hK_130, upo]]; exact hfl4
            have hts : TkS ta tb (n 13) tc ∧ TkS ta tb (n 13) i_130 := ⟨by unfold TkS; omega, by unfold TkS; omega⟩
            exact y_vret (r := 0) hE rfl hQ dX12_take_196 hx_130 ⟨hnk, by omega, by rw [hS9, goS_6.1 (by rw [e420]; omega)]; exact hR6, hkf9, by rw [hS9, goS_6.1 (by rw [e420]; omega)]; exact ⟨tc, i_130, fc, 1, hV6, by rw [wo 15 (by omega)]; exact hfc, fun _ => w19.symm, hts.1, hts.2⟩, hfl6.1, hfl6.2⟩
          · have hkf9 : KF K (up3 (up3 (up3 (up3 (up3 (up3 K_130 13 i_130 3 1) 13 i_130 0 to) 13 i_130 2 pz) 12 mi 1 i_130) 12 mi 2 t) 12 mi 3 0) (FT mi ta tb (n 13)) := (KF.up (KF.up (KF.up (KF.up (KF.up (KF.up (hk4.tr (KF.mono hkn_130 (fun k i f z => by rcases z with ⟨rfl, rfl⟩; (first | exact FT.m (by omega) | exact FT.v | exact FT.b (by omega) | exact FT.p0 | exact FT.p1 | exact FT.q0 (by decide) (by omega) | exact FT.q1 (by decide) (by omega) | exact FT.a (by decide) (by omega) | exact FT.t (by omega))))) (by first | exact FT.m (by omega) | exact FT.v | exact FT.b (by omega) | exact FT.p0 | exact FT.p1 | exact FT.q0 (by decide) (by omega) | exact FT.q1 (by decide) (by omega) | exact FT.a (by decide) (by omega) | exact FT.t (by omega))) (by first | exact FT.m (by omega) | exact FT.v | exact FT.b (by omega) | exact FT.p0 | exact FT.p1 | exact FT.q0 (by decide) (by omega) | exact FT.q1 (by decide) (by omega) | exact FT.a (by decide) (by omega) | exact FT.t (by omega))) (by first | exact FT.m (by omega) | exact FT.v | exact FT.b (by omega) | exact FT.p0 | exact FT.p1 | exact FT.q0 (by decide) (by omega) | exact FT.q1 (by decide) (by omega) | exact FT.a (by decide) (by omega) | exact FT.t (by omega))) (by first | exact FT.m (by omega) | exact FT.v | exact FT.b (by omega) | exact FT.p0 | exact FT.p1 | exact FT.q0 (by decide) (by omega) | exact FT.q1 (by decide) (by omega) | exact FT.a (by decide) (by omega) | exact FT.t (by omega))) (by first | exact FT.m (by omega) | exact FT.v | exact FT.b (by omega) | exact FT.p0 | exact FT.p1 | exact FT.q0 (by decide) (by omega) | exact FT.q1 (by decide) (by omega) | exact FT.a (by decide) (by omega) | exact FT.t (by omega))) (by first | exact FT.m (by omega) | exact FT.v | exact FT.b (by omega) | exact FT.p0 | exact FT.p1 | exact FT.q0 (by decide) (by omega) | exact FT.q1 (by decide) (by omega) | exact FT.a (by decide) (by omega) | exact FT.t (by omega)))
            have hn13 : n_130 13 = n 13 + 1 := by rw [hn_130]; simp [upn]
            have hn12 : n_130 12 = n 12 := by rw [hn_130]; simp [upn]
            have hnk : ∀ k, k ≠ 13 → n_130 k = n k := fun k hk => by rw [hn_130]; unfold upn; rw [if_neg hk]
            have hgv := go6_v (S := S4) (t := t) (to := to) (sy := sy) (ph := pz) (by rw [e420, eto]) (by rw [e418]; exact hsy9) (by omega) hpz
            obtain ⟨w8, w9, w10, w16, w17, w18, w19, wo⟩ := hgv
            have f6 : ∀ f : Nat, f ≠ 0 → go6 S4 t f = S4 f := fun f h => by unfold go6; funext j; rw [up2_f _ _ _ _ h, up2_f _ _ _ _ h, up2_f _ _ _ _ h, goB_f h, trkS_f h]
            have hW6 : WFs (go6 S4 t) := hW4.congr f6
            have hR6 : Rst (go6 S4 t) n_130 (up3 (up3 (up3 (up3 (up3 (up3 K_130 13 i_130 3 1) 13 i_130 0 to) 13 i_130 2 pz) 12 mi 1 i_130) 12 mi 2 t) 12 mi 3 0) := by
              have z1 : Rst S4 n_130 K_130 := by
                have z2 : Rst S4 n K_130 := by rw [hK_130]; exact hR4.kf (P := fun k i f => k = 13) (KF.upo KF.rf (fun f => rfl)) (fun k i f z => by unfold SKd; omega)
                exact z2.nk (fun k hk => hnk k (fun z => hk (by rw [z]; unfold NSk; omega)))
              have z3 : Rst S4 n_130 (up3 (up3 (up3 (up3 (up3 (up3 K_130 13 i_130 3 1) 13 i_130 0 to) 13 i_130 2 pz) 12 mi 1 i_130) 12 mi 2 t) 12 mi 3 0) := (((((z1.u (by unfold SKd; omega)).u (by unfold SKd; omega)).u (by unfold SKd; omega)).u (by unfold SKd; omega)).u (by unfold SKd; omega)).u (by unfold SKd; omega)
              exact z3.sg f6 (fun j j0 j1 => wo j (by have := hW4.par; omega))
            have hV6 : MV (go6 S4 t) n_130 (up3 (up3 (up3 (up3 (up3 (up3 K_130 13 i_130 3 1) 13 i_130 0 to) 13 i_130 2 pz) 12 mi 1 i_130) 12 mi 2 t) 12 mi 3 0) mi tc i_130 fc 1 := by
              refine hV4.go hn12 hn13 hi_130 ?_ ?_ ?_ ?_ ?_ ?_ ?_ ?_ w8 (fun j hj => wo j (by omega))
              · refine KF.up (KF.up (KF.up (KF.up (KF.up (KF.up (KF.mono hkn_130 (fun k i f z => Or.inr z)) (Or.inr ⟨rfl, rfl⟩)) (Or.inr ⟨rfl, rfl⟩)) (Or.inr ⟨rfl, rfl⟩)) (Or.inl ⟨rfl, rfl, by omega, by omega⟩)) (Or.inl ⟨rfl, rfl, by omega, by omega⟩)) (Or.inl ⟨rfl, rfl, by omega, by omega⟩)
              · simp [up3]
              · rw [w9]; simp [up3]
              · rw [w10]; simp [up3]
              · rw [w16]; simp [up3]
              · rw [w17]; simp [up3, hK_130, upo, dflG]
              · rw [w18]; simp [up3]
              · simp [up3]
            have hS9 : (takS S).2 = goS S4 t := by
              unfold takS
              rw [if_neg (by omega)]
              show goS (takB (takR S) (takl S)) (takt S) = _
              rw [hTR, hl9, htk, hS4]
            have hfl6 : 0 ≤ (up3 (up3 (up3 (up3 (up3 (up3 K_130 13 i_130 3 1) 13 i_130 0 to) 13 i_130 2 pz) 12 mi 1 i_130) 12 mi 2 t) 12 mi 3 0) 2 (mi + 1) 3 ∧ (up3 (up3 (up3 (up3 (up3 (up3 K_130 13 i_130 3 1) 13 i_130 0 to) 13 i_130 2 pz) 12 mi 1 i_130) 12 mi 2 t) 12 mi 3 0) 2 (mi + 1) 3 ≤ 40 := by rw [show (up3 (up3 (up3 (up3 (up3 (up3 K_130 13 i_130 3 1) 13 i_130 0 to) 13 i_130 2 pz) 12 mi 1 i_130) 12 mi 2 t) 12 mi 3 0) 2 (mi + 1) 3 = K4 2 (mi + 1) 3 from by simp [up3, hK_130, upo]]; exact hfl4
            have hts : TkS ta tb (n 13) tc ∧ TkS ta tb (n 13) i_130 := ⟨by unfold TkS; omega, by unfold TkS; omega⟩
            refine y_aload_n hE rfl 3 rfl dX12_take_192 ?_
            refine y_callV hE (m_X12_end (go6 S4 t) mi tc i_130 fc 1 (hR6) (hW6) hv_130_2 (hV6) (w8)) (lw_V q2398 q2400 qs37 q145 q2401) (nA := 0) (by decide +kernel) rfl ⟨Nat.le_of_ble_eq_true rfl, Nat.le_of_ble_eq_true rfl⟩ (hdd := rfl) (hcc := rfl) (hq := rfl) (hi := hv_130_2) (rest := []) rfl (by decide) dX12_take_193 (bc' := 0) (bs' := 0) (Nat.le_refl _) (Nat.le_refl _) (fun r_193 n_193 α_193 K_193 hx_193 hp_193 => ?_)
            obtain ⟨rfl, rfl, hk_193, hr_193⟩ := hp_193
            refine y_to (st' := []) rfl rfl rfl ?_
            refine y_vret (r := 0) hE rfl hQ dX12_take_196 hx_130 ?_
            have g9 := (goS_6 (S := S4) (t := t)).2 (by rw [e420]; omega)
            have z9 := endS_0 (go6 S4 t)
            have y9 := endS_i (S := go6 S4 t) (j := 3) (by omega)
            rw [show (12 : Int) + 3 = 15 by omega, show (16 : Int) + 3 = 19 by omega, w19] at y9
            refine ⟨hnk, by omega, ?_, ((KF.up (KF.up (KF.up (KF.up (KF.up (KF.up (hk4.tr (KF.mono hkn_130 (fun k i f z => by rcases z with ⟨rfl, rfl⟩; (first | exact FT.m (by omega) | exact FT.v | exact FT.b (by omega) | exact FT.p0 | exact FT.p1 | exact FT.q0 (by decide) (by omega) | exact FT.q1 (by decide) (by omega) | exact FT.a (by decide) (by omega) | exact FT.t (by omega))))) (by first | exact FT.m (by omega) | exact FT.v | exact FT.b (by omega) | exact FT.p0 | exact FT.p1 | exact FT.q0 (by decide) (by omega) | exact FT.q1 (by decide) (by omega) | exact FT.a (by decide) (by omega) | exact FT.t (by omega))) (by first | exact FT.m (by omega) | exact FT.v | exact FT.b (by omega) | exact FT.p0 | exact FT.p1 | exact FT.q0 (by decide) (by omega) | exact FT.q1 (by decide) (by omega) | exact FT.a (by decide) (by omega) | exact FT.t (by omega))) (by first | exact FT.m (by omega) | exact FT.v | exact FT.b (by omega) | exact FT.p0 | exact FT.p1 | exact FT.q0 (by decide) (by omega) | exact FT.q1 (by decide) (by omega) | exact FT.a (by decide) (by omega) | exact FT.t (by omega))) (by first | exact FT.m (by omega) | exact FT.v | exact FT.b (by omega) | exact FT.p0 | exact FT.p1 | exact FT.q0 (by decide) (by omega) | exact FT.q1 (by decide) (by omega) | exact FT.a (by decide) (by omega) | exact FT.t (by omega))) (by first | exact FT.m (by omega) | exact FT.v | exact FT.b (by omega) | exact FT.p0 | exact FT.p1 | exact FT.q0 (by decide) (by omega) | exact FT.q1 (by decide) (by omega) | exact FT.a (by decide) (by omega) | exact FT.t (by omega))) (by first | exact FT.m (by omega) | exact FT.v | exact FT.b (by omega) | exact FT.p0 | exact FT.p1 | exact FT.q0 (by decide) (by omega) | exact FT.q1 (by decide) (by omega) | exact FT.a (by decide) (by omega) | exact FT.t (by omega))).tr (KF.mono hk_193 (fun k i f z => by (try dsimp only at z); rcases z with ⟨rfl, rfl, rfl⟩ | ⟨rfl, rfl, rfl⟩ | ⟨rfl, rfl, rfl⟩ | ⟨rfl, rfl, rfl⟩ | ⟨rfl, rfl, rfl⟩ | ⟨rfl, rfl, rfl⟩ <;> (first | exact FT.m (by omega) | exact FT.v | exact FT.b (by omega) | exact FT.p0 | exact FT.p1 | exact FT.q0 (by decide) (by omega) | exact FT.q1 (by decide) (by omega) | exact FT.a (by decide) (by omega) | exact FT.t (by omega))))), ?_, by rw [hk_193 2 (mi + 1) 3 (by (try dsimp only); omega)]; exact hfl6⟩
            · rw [hS9]
              exact (hR6.kf hk_193 (fun k i f z => by unfold SKd; (try dsimp only at z); omega)).sg (fun f h => by rw [goS_f h, f6 f h]) (fun j j0 j1 => by rw [g9 j (by have := hW6.par; omega) (by have := hW6.par; omega), endS_o (by have := hW6.par; omega)])
            · rw [hS9]
              refine ⟨i_130, -1, 1, 1, hr_193.i90 z9.1 z9.2.2.1 (fun j hj => g9 j (by omega) (by omega)), by rw [g9 15 (by omega) (by omega), y9], fun z => ?_, hts.2, by unfold TkS; omega⟩
              rw [g9 8 (by omega) (by omega), z9.1] at z
              omega
        refine y_iload_n hE rfl 1 rfl dX12_take_138 ?_
        refine y_if_eq hE 162 (by decide) (by omega) dX12_take_139 (fun c_139 => ?_) (fun c_139 => ?_)
        · refine y_iload hE 0 rfl dX12_take_162 ?_
          exact J164 ph1 (by first | (rw [if_neg (show ¬ (sy ≠ 0) by omega), hph1, if_neg (show ¬ (sy ≠ 0) by omega), e420]) | (rw [if_pos (show sy ≠ 0 by omega), if_neg (show ¬ (S4 17 to ≠ 0) by rw [e417]; omega), hph1, if_pos (show sy ≠ 0 by omega)]) | (rw [if_pos (show sy ≠ 0 by omega), if_pos (show S4 17 to ≠ 0 by rw [e417]; omega), hph1, if_pos (show sy ≠ 0 by omega)]))
        · refine y_aload_n hE rfl 2 rfl dX12_take_142 ?_
          refine gX12_127r (z := to) hE hv_130 ((hkn_130 14 xo 1 (by (try dsimp only); omega)).trans ((hk4 14 xo 1 (by unfold FT; omega)).trans x1)) (by omega) dX12_take_143 (fun hl_143 => ?_)
          refine gX12_193 (z := (S 17 to)) hE hl_143 ((hkn_130 11 to 3 (by (try dsimp only); omega)).trans ((hk4 11 to 3 (by unfold FT; omega)).trans (hR.s3 (i := to) (by omega)))) dX12_take_146 ?_
          refine y_if_eq hE 162 (by decide) (by omega) dX12_take_149 (fun c_149 => ?_) (fun c_149 => ?_)
          · refine y_iload hE 0 rfl dX12_take_162 ?_
            exact J164 ph1 (by first | (rw [if_neg (show ¬ (sy ≠ 0) by omega), hph1, if_neg (show ¬ (sy ≠ 0) by omega), e420]) | (rw [if_pos (show sy ≠ 0 by omega), if_neg (show ¬ (S4 17 to ≠ 0) by rw [e417]; omega), hph1, if_pos (show sy ≠ 0 by omega)]) | (rw [if_pos (show sy ≠ 0 by omega), if_pos (show S4 17 to ≠ 0 by rw [e417]; omega), hph1, if_pos (show sy ≠ 0 by omega)]))
          · refine y_iload hE 0 rfl dX12_take_152 ?_
            refine y_ldc hE 999999 (v := 999999) (by decide) q2396 dX12_take_154 ?_
            refine y_mmin hE q2397 (by omega) (by omega) (Nat.le_of_ble_eq_true rfl) (Nat.le_of_ble_eq_true rfl) dX12_take_156 ?_
            refine y_goto hE 164 (by decide) dX12_take_159 ?_
            exact J164 (min ph1 999999) (by first | (rw [if_neg (show ¬ (sy ≠ 0) by omega), hph1, if_neg (show ¬ (sy ≠ 0) by omega), e420]) | (rw [if_pos (show sy ≠ 0 by omega), if_neg (show ¬ (S4 17 to ≠ 0) by rw [e417]; omega), hph1, if_pos (show sy ≠ 0 by omega)]) | (rw [if_pos (show sy ≠ 0 by omega), if_pos (show S4 17 to ≠ 0 by rw [e417]; omega), hph1, if_pos (show sy ≠ 0 by omega)]))
      refine y_iload_n hE rfl 0 rfl dX12_take_105 ?_
      refine y_if_eq hE 119 (by decide) (by omega) dX12_take_106 (fun c_106 => ?_) (fun c_106 => ?_)
      · refine y_aload_n hE rfl 1 rfl dX12_take_119 ?_
        refine gX12_190 (z := (S 20 (17 * t + 4))) hE hl_13 ((hk4 14 xo 4 (by unfold FT; omega)).trans x4) dX12_take_120 ?_
        refine y_sipush hE (by decide) dX12_take_123 ?_
        refine y_imul hE dX12_take_126 ?_
        exact J127 ((S 20 (17 * t + 4)) * 10000) (by first | rw [if_pos (by omega)] | rw [if_neg (by omega)])
      · refine y_aload_n hE rfl 2 rfl dX12_take_109 ?_
        refine gX12_45r (z := tc) hE hlm vc.1 (by omega) dX12_take_110 (fun hl_110 => ?_)
        refine gX12_187 (z := (S4 0 14)) hE hl_110 vc.2.2.2.2.2.1 dX12_take_113 ?_
        refine y_goto hE 127 (by decide) dX12_take_116 ?_
        exact J127 (S4 0 14) (by first | rw [if_pos (by omega)] | rw [if_neg (by omega)])
    refine y_aload_n hE rfl 1 rfl dX12_take_75 ?_
    refine gX12_62 (z := (S4 0 20)) hE hlm hV4.2.2.1.2 dX12_take_76 ?_
    refine y_if_ne hE 103 (by decide) (by omega) dX12_take_79 (fun c_79 => ?_) (fun c_79 => ?_)
    · refine y_iconst hE dX12_take_103 ?_
      exact J104 0 (by omega)
    · refine y_aload_n hE rfl 1 rfl dX12_take_82 ?_
      refine gX12_45r (z := tc) hE hlm vc.1 (by omega) dX12_take_83 (fun hl_83 => ?_)
      refine gX12_89r (z := (S4 0 12)) hE hl_83 vc.2.2.2.1 (by omega) dX12_take_86 (fun hl_86 => ?_)
      refine y_aload_n hE rfl 0 rfl dX12_take_89 ?_
      refine gX12_127r (z := to) hE hl_13 ((hk4 14 xo 1 (by unfold FT; omega)).trans x1) (by omega) dX12_take_90 (fun hl_90 => ?_)
      refine y_callV hE (m_X11_isInGroupOf S4 (S4 0 12) to (hR4) (hW4) (by rw [e419]; omega) (by rw [e419]; omega) hl_86 hl_90) (lw_V q2392 q2393 q2394 q144 q2395) (nA := 1) (by decide +kernel) rfl ⟨Nat.le_of_ble_eq_true rfl, Nat.le_of_ble_eq_true rfl⟩ (hdd := rfl) (hcc := rfl) (hq := rfl) (hi := hl_86) (rest := []) rfl (by decide) dX12_take_93 (bc' := 1) (bs' := 5) (Nat.le_refl _) (Nat.le_refl _) (fun r_93 n_93 α_93 K_93 hx_93 hp_93 => ?_)
      obtain ⟨rfl, rfl, rfl, hr_93⟩ := hp_93
      rw [e418] at hr_93
      refine y_to (st' := [.int (iI r_93)]) rfl rfl rfl ?_
      refine y_if_eq hE 103 (by decide) (by omega) dX12_take_96 (fun c_96 => ?_) (fun c_96 => ?_)
      · refine y_iconst hE dX12_take_103 ?_
        exact J104 0 (by omega)
      · refine y_iconst hE dX12_take_99 ?_
        refine y_goto hE 104 (by decide) dX12_take_100 ?_
        exact J104 1 (by omega)
  refine y_if_ne hE 75 (by decide) (by omega) dX12_take_28 (fun c_28 => ?_) (fun c_28 => ?_)
  · exact J75 K_21 (takB S1 l) ta fa ((KF.mono hk_21 (fun k i f z => by (try dsimp only at z); rcases z with ⟨rfl, rfl⟩ <;> (first | exact FT.m (by omega) | exact FT.v | exact FT.b (by omega) | exact FT.p0 | exact FT.p1 | exact FT.q0 (by decide) (by omega) | exact FT.q1 (by decide) (by omega) | exact FT.a (by decide) (by omega) | exact FT.t (by omega))))) (rfl) (by
  first
  | exact MVa.idle hV1 (by omega)
  | exact MVa.frz hV1 (by omega) (by omega) hlg hr_33.1 rfl (fun i f => by rw [up3_k _ _ _ _ _ _ (by decide), up3_k _ _ _ _ _ _ (by decide), up3_k _ _ _ _ _ _ (by decide)]; exact (hk_52 13 i f (by (try dsimp only); omega)).trans (hk_38 13 i f (by (try dsimp only); omega))) (fun f => by rw [up3_k _ _ _ _ _ _ (by decide), up3_k _ _ _ _ _ _ (by decide), up3_k _ _ _ _ _ _ (by decide)]; exact (hk_52 35 mi f (by (try dsimp only); omega)).trans (hk_38 35 mi f (by (try dsimp only); omega)))
      (by rw [up3_f _ _ _ _ _ _ (by omega), up3_f _ _ _ _ _ _ (by omega), up3_f _ _ _ _ _ _ (by omega)]; exact (hk_52 12 mi 8 (by (try dsimp only); omega)).trans (hk_38 12 mi 8 (by (try dsimp only); omega))) (by rw [up3_f _ _ _ _ _ _ (by omega), up3_f _ _ _ _ _ _ (by omega), up3_f _ _ _ _ _ _ (by omega)]; exact (hk_52 12 mi 9 (by (try dsimp only); omega)).trans (hk_38 12 mi 9 (by (try dsimp only); omega)))
      (up3_s _ _ _ _ _) (by rw [up3_f _ _ _ _ _ _ (by omega), up3_s, e111]) (by rw [up3_f _ _ _ _ _ _ (by omega), up3_f _ _ _ _ _ _ (by omega), up3_s]) (hr_52.congr (by simp [up3]) (fun j _ _ => by simp [up3]))) (by first | exact hR1.sg (fun f h => takB_f h) (fun j j0 j1 => takB_lo hpl32 (by have := hW.par; rw [e33] at j1; omega)) | exact (((hR52.u (by unfold SKd; omega)).u (by unfold SKd; omega)).u (by unfold SKd; omega)).sg (fun f h => takB_f h) (fun j j0 j1 => takB_lo hpl32 (by have := hW.par; rw [e33] at j1; omega))) (takB_ok hW1 hX1 h11) (by first | exact hfr9.1 (by omega) | exact hfr9.2 (by omega)) (by first | exact Or.inl rfl | (rw [hr_33.1]; split <;> omega)) (by first | (rw [hk_21 2 (mi + 1) 3 (by (try dsimp only); omega)]; exact hfl) | (have q := hr_52.1; have q2 := hpl32 (by omega); simp only [up3]; (repeat rw [if_neg (by omega)]); omega)) (by first | exact (hk_21 36 mi i (by (try dsimp only); omega)).trans h36 | exact (by rw [up3_k _ _ _ _ _ _ (by decide), up3_k _ _ _ _ _ _ (by decide), up3_k _ _ _ _ _ _ (by decide)]; exact (hk_52 36 mi i (by (try dsimp only); omega)).trans ((hk_38 36 mi i (by (try dsimp only); omega)).trans ((hk_21 36 mi i (by (try dsimp only); omega)).trans h36))))
  · have h81 : S 0 8 = 1 := by omega
    obtain ⟨-, ⟨vt0, vt1, vt2, vt3, vt4, vt5⟩, vt6, vt7, vt8, vt9⟩ := vs.resolve_left (by omega)
    have h137 : K_21 37 mi i = g := (hk_21 37 mi i (by (try dsimp only); omega)).trans h37
    have hpl := (poseS_ok hW1 hX1).2
    have h112 := h11 (by omega)
    refine y_aload_n hE rfl 1 rfl dX12_take_31 ?_
    refine y_iload_n hE rfl 2 rfl dX12_take_32 ?_
    refine y_callV hE (m_X12_trackOf S1 mi ta tb fa fb i (hR1) (hW1) hlm (hV1) (by omega) (by rw [h137]; omega) (fun z => vt0)) (lw_V q2356 q2358 qs35 q145 q2359) (nA := 1) (by decide +kernel) rfl ⟨Nat.le_of_ble_eq_true rfl, Nat.le_of_ble_eq_true rfl⟩ (hdd := rfl) (hcc := rfl) (hq := rfl) (hi := hlm) (rest := []) rfl (by decide) dX12_take_33 (bc' := 1) (bs' := 5) (Nat.le_refl _) (Nat.le_refl _) (fun r_33 n_33 α_33 K_33 hx_33 hp_33 => ?_)
    obtain ⟨rfl, rfl, rfl, hr_33⟩ := hp_33
    rw [h137] at hr_33
    refine y_to (st' := [refV α 13 r_33]) rfl rfl rfl ?_
    have hl_33 : (0 : Int) ≤ r_33 ∧ r_33 < n 13 := hr_33.2
    refine y_ref hl_33.1 ?_
    refine y_astore_n hE rfl [(3, .ref (α 13 r_33)), (2, .ref (α 14 xo)), (0, .ref (α 12 mi)), (1, .int (iI i))] (by decide) rfl dX12_take_36 ?_
    refine y_aload_n hE rfl 2 rfl dX12_take_37 ?_
    refine y_callV hE (m_X12_poseNow S1 mi ta tb fa fb T (hR1) (hW1) hlm (hV1) (hv1) (hX1) (by rw [e319]; exact h19)) (lw_V q2386 q814 q815 q145 q816) (nA := 0) (by decide +kernel) rfl ⟨Nat.le_of_ble_eq_true rfl, Nat.le_of_ble_eq_true rfl⟩ (hdd := rfl) (hcc := rfl) (hq := rfl) (hi := hlm) (rest := []) rfl (by decide) dX12_take_38 (bc' := 1) (bs' := 5) (Nat.le_refl _) (Nat.le_refl _) (fun r_38 n_38 α_38 K_38 hx_38 hp_38 => ?_)
    obtain ⟨rfl, rfl, hk_38, hr_38⟩ := hp_38
    have hR38 : Rst S1 n K_38 := hR1.kf hk_38 (fun k i f z => by unfold SKd; (try dsimp only at z); omega)
    refine y_to (st' := []) rfl rfl rfl ?_
    refine y_aload_n hE rfl 2 rfl dX12_take_41 ?_
    refine gX12_14r (z := 0) hE hlm ((hk_38 12 mi 14 (by (try dsimp only); omega)).trans ((hk_21 12 mi 14 (by (try dsimp only); omega)).trans (hR.m14 (i := mi) (by omega)))) (by omega) dX12_take_42 (fun hl_42 => ?_)
    refine gX12_178r (z := 0) hE hl_42 ((hk_38 1 0 7 (by (try dsimp only); omega)).trans ((hk_21 1 0 7 (by (try dsimp only); omega)).trans (hR.c7))) (by omega) dX12_take_45 (fun hl_45 => ?_)
    refine y_aload_n hE rfl 2 rfl dX12_take_48 ?_
    refine gX12_30r (z := (mi + 1)) hE hlm ((hk_38 12 mi 6 (by (try dsimp only); omega)).trans ((hk_21 12 mi 6 (by (try dsimp only); omega)).trans (hR.m6 (i := mi) (by omega)))) (by omega) dX12_take_49 (fun hl_49 => ?_)
    refine y_callV hE (m_X2_copyToF S1 (poseS S1) 0 (mi + 1) (hR38) hl_45 hl_49 (by omega) (hr_38) (by omega)) (lw_V q2387 q2388 q2389 q128 q2390) (nA := 1) (by decide +kernel) rfl ⟨Nat.le_of_ble_eq_true rfl, Nat.le_of_ble_eq_true rfl⟩ (hdd := rfl) (hcc := rfl) (hq := rfl) (hi := hl_45) (rest := []) rfl (by decide) dX12_take_52 (bc' := 1) (bs' := 5) (Nat.le_refl _) (Nat.le_refl _) (fun r_52 n_52 α_52 K_52 hx_52 hp_52 => ?_)
    obtain ⟨rfl, rfl, hk_52, hr_52⟩ := hp_52
    have hR52 : Rst S1 n K_52 := hR38.kf hk_52 (fun k i f z => by unfold SKd; (try dsimp only at z); omega)
    refine y_to (st' := []) rfl rfl rfl ?_
    refine y_aload_n hE rfl 2 rfl dX12_take_55 ?_
    refine y_iconst hE dX12_take_56 ?_
    refine pX12_62 hE hlm (by omega) dX12_take_57 ?_
    refine y_aload_n hE rfl 2 rfl dX12_take_60 ?_
    refine y_dup hE rfl dX12_take_61 ?_
    refine gX12_59 (z := (S 0 11)) hE hlm ((hk_52 12 mi 4 (by (try dsimp only); omega)).trans ((hk_38 12 mi 4 (by (try dsimp only); omega)).trans ((hk_21 12 mi 4 (by (try dsimp only); omega)).trans vt8))) dX12_take_62 ?_
    refine y_iconst hE dX12_take_65 ?_
    refine y_iadd hE dX12_take_66 ?_
    refine pX12_59 hE hlm dX12_take_67 ?_
    refine y_aload_n hE rfl 2 rfl dX12_take_70 ?_
    refine y_aload_n hE rfl 0 rfl dX12_take_71 ?_
    refine pX12_45r hE hlm hl_33 dX12_take_72 ?_
    refine y_lv [1, 2, 3] [(2, .ref (α 14 xo)), (0, .ref (α 12 mi)), (1, .int (iI i))] rfl ?_
    exact J75 (up3 (up3 (up3 K_52 12 mi 5 1) 12 mi 4 ((S 0 11) + 1)) 12 mi 0 r_33) (takB S1 l) r_33 (if g = 0 then fb else fa) ((KF.up (KF.up (KF.up (((KF.mono hk_21 (fun k i f z => by (try dsimp only at z); rcases z with ⟨rfl, rfl⟩ <;> (first | exact FT.m (by omega) | exact FT.v | exact FT.b (by omega) | exact FT.p0 | exact FT.p1 | exact FT.q0 (by decide) (by omega) | exact FT.q1 (by decide) (by omega) | exact FT.a (by decide) (by omega) | exact FT.t (by omega)))).tr (KF.mono hk_38 (fun k i f z => by (try dsimp only at z); rcases z with ⟨rfl, rfl, zz⟩ | ⟨rfl, rfl, rfl⟩ | ⟨rfl, rfl, zz⟩ | ⟨rfl, rfl, zz⟩ | ⟨rfl, rfl, zz⟩ <;> (first | exact FT.m (by omega) | exact FT.v | exact FT.b (by omega) | exact FT.p0 | exact FT.p1 | exact FT.q0 (by decide) (by omega) | exact FT.q1 (by decide) (by omega) | exact FT.a (by decide) (by omega) | exact FT.t (by omega))))).tr (KF.mono hk_52 (fun k i f z => by (try dsimp only at z); rcases z with ⟨rfl, rfl, rfl⟩ | ⟨rfl, rfl, zz⟩ | ⟨rfl, rfl, zz⟩ | ⟨rfl, rfl, zz⟩ <;> (first | exact FT.m (by omega) | exact FT.v | exact FT.b (by omega) | exact FT.p0 | exact FT.p1 | exact FT.q0 (by decide) (by omega) | exact FT.q1 (by decide) (by omega) | exact FT.a (by decide) (by omega) | exact FT.t (by omega))))) (by first | exact FT.m (by omega) | exact FT.v | exact FT.b (by omega) | exact FT.p0 | exact FT.p1 | exact FT.q0 (by decide) (by omega) | exact FT.q1 (by decide) (by omega) | exact FT.a (by decide) (by omega) | exact FT.t (by omega))) (by first | exact FT.m (by omega) | exact FT.v | exact FT.b (by omega) | exact FT.p0 | exact FT.p1 | exact FT.q0 (by decide) (by omega) | exact FT.q1 (by decide) (by omega) | exact FT.a (by decide) (by omega) | exact FT.t (by omega))) (by first | exact FT.m (by omega) | exact FT.v | exact FT.b (by omega) | exact FT.p0 | exact FT.p1 | exact FT.q0 (by decide) (by omega) | exact FT.q1 (by decide) (by omega) | exact FT.a (by decide) (by omega) | exact FT.t (by omega)))) (rfl) (by
  first
  | exact MVa.idle hV1 (by omega)
  | exact MVa.frz hV1 (by omega) (by omega) hlg hr_33.1 rfl (fun i f => by rw [up3_k _ _ _ _ _ _ (by decide), up3_k _ _ _ _ _ _ (by decide), up3_k _ _ _ _ _ _ (by decide)]; exact (hk_52 13 i f (by (try dsimp only); omega)).trans (hk_38 13 i f (by (try dsimp only); omega))) (fun f => by rw [up3_k _ _ _ _ _ _ (by decide), up3_k _ _ _ _ _ _ (by decide), up3_k _ _ _ _ _ _ (by decide)]; exact (hk_52 35 mi f (by (try dsimp only); omega)).trans (hk_38 35 mi f (by (try dsimp only); omega)))
      (by rw [up3_f _ _ _ _ _ _ (by omega), up3_f _ _ _ _ _ _ (by omega), up3_f _ _ _ _ _ _ (by omega)]; exact (hk_52 12 mi 8 (by (try dsimp only); omega)).trans (hk_38 12 mi 8 (by (try dsimp only); omega))) (by rw [up3_f _ _ _ _ _ _ (by omega), up3_f _ _ _ _ _ _ (by omega), up3_f _ _ _ _ _ _ (by omega)]; exact (hk_52 12 mi 9 (by (try dsimp only); omega)).trans (hk_38 12 mi 9 (by (try dsimp only); omega)))
      (up3_s _ _ _ _ _) (by rw [up3_f _ _ _ _ _ _ (by omega), up3_s, e111]) (by rw [up3_f _ _ _ _ _ _ (by omega), up3_f _ _ _ _ _ _ (by omega), up3_s]) (hr_52.congr (by simp [up3]) (fun j _ _ => by simp [up3]))) (by first | exact hR1.sg (fun f h => takB_f h) (fun j j0 j1 => takB_lo hpl32 (by have := hW.par; rw [e33] at j1; omega)) | exact (((hR52.u (by unfold SKd; omega)).u (by unfold SKd; omega)).u (by unfold SKd; omega)).sg (fun f h => takB_f h) (fun j j0 j1 => takB_lo hpl32 (by have := hW.par; rw [e33] at j1; omega))) (takB_ok hW1 hX1 h11) (by first | exact hfr9.1 (by omega) | exact hfr9.2 (by omega)) (by first | exact Or.inl rfl | (rw [hr_33.1]; split <;> omega)) (by first | (rw [hk_21 2 (mi + 1) 3 (by (try dsimp only); omega)]; exact hfl) | (have q := hr_52.1; have q2 := hpl32 (by omega); simp only [up3]; (repeat rw [if_neg (by omega)]); omega)) (by first | exact (hk_21 36 mi i (by (try dsimp only); omega)).trans h36 | exact (by rw [up3_k _ _ _ _ _ _ (by decide), up3_k _ _ _ _ _ _ (by decide), up3_k _ _ _ _ _ _ (by decide)]; exact (hk_52 36 mi i (by (try dsimp only); omega)).trans ((hk_38 36 mi i (by (try dsimp only); omega)).trans ((hk_21 36 mi i (by (try dsimp only); omega)).trans h36))))
