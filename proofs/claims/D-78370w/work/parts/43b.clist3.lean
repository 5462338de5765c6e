set_option linter.unusedVariables false
set_option maxHeartbeats 4000000 in
set_option maxRecDepth 100000 in
theorem m_X12_list {w : KW} {n : KN} {α : KA} {K : KS} (S : SS) (mi ta tb fa fb : Int) (T st b : Int) (L : List (Int × Int)) (hR : Rst S n K) (hW : WFs S) (hlm : 0 ≤ mi ∧ mi < n 12) (hV : MV S n K mi ta tb fa fb) (hX : WFm S 0 T) (h19 : 0 < S 19 0) (hb : b = 0 ∨ b = 1) (hst : 0 ≤ st ∧ st < n 11) (hC : COk S L) (hL : CA L (K 12 mi 13) (K 36 mi) (K 37 mi)) : KM w yX12_list cX12_list 8 none { frames := 3, cells := 0, slots := 0, locals := 64 } (3, 0) [.ref (α 12 mi), .ref (α 11 st), .int (iI b)] n α K (fun r n' α' K' => n = n' ∧ α = α' ∧ KF K K' (fun k i f => k = 12 ∧ i = (mi) ∧ f = 13 ∨ k = 36 ∧ i = (mi) ∧ 0 ≤ f ∨ k = 37 ∧ i = (mi) ∧ 0 ≤ f) ∧ (CA (cnL S st b L) (K' 12 mi 13) (K' 36 mi) (K' 37 mi))) := by
  refine y_start (by decide) (Nat.le_of_ble_eq_true rfl) (fun x hE hQ => ?_)
  have hw := hQ.2
  subst hw
  have hE : YE x cX12_list RX12 none "list" 8 { frames := 3, cells := 0, slots := 0, locals := 64 } := hE
  refine y_wk (fun hWK => ?_)
  have hn0 := hWK.1
  refine y_bud (bc' := 0) (bs' := 0) (Nat.le_refl _) (Nat.le_refl _) ?_
  refine y_to (lv' := [(0, .ref (α 12 mi)), (1, .ref (α 11 st)), (2, .int (iI b))]) (st' := []) rfl rfl rfl ?_
  have hfoot : ∀ (k : Nat) (i f : Int), (fun k i f => k = 12 ∧ i = (mi) ∧ f = 13 ∨ k = 36 ∧ i = (mi) ∧ 0 ≤ f ∨ k = 37 ∧ i = (mi) ∧ 0 ≤ f) k i f → ¬ SKd k f := fun k i f z => by unfold SKd; (try dsimp only at z); omega
  have wcl := hW.clips
  have n1 := hR.n1
  have n3 := hR.n3
  have n34 := hR.n34
  have n6 := hR.n6
  have n21 := hR.n21
  have n51 := hR.n51
  have n8 := hR.n8
  have n11 := hR.n11
  have wsts := hW.sts
  have wnodes := hW.nodes
  have va := hV.a
  have vb := hV.b
  have vs := hV.st
  have vl := hV.lg
  have hfe : ∀ (k : Nat) (i f : Int), (fun k i f => k = 12 ∧ i = (mi) ∧ f = 13 ∨ k = 36 ∧ i = (mi) ∧ 0 ≤ f ∨ k = 37 ∧ i = (mi) ∧ 0 ≤ f) k i f → ¬ MVe mi k i f := fun k i f z => by unfold MVe; (try dsimp only at z); omega
  have xinn := hX.inn
  have xfro := hX.fro
  have xmany := hX.many
  have xcuts := hX.cuts
  have xta := hX.ta
  have xtb := hX.tb
  have xfz := hX.fz
  simp only [Int.zero_add] at xinn xfro xmany xcuts xta xtb xfz
  unfold TkOk at xta xtb
  have xtaa := xta h19
  have hsa1 : 0 ≤ S 0 12 ∧ S 0 12 < S 19 0 := ⟨xtaa.1, xtaa.2.1⟩
  have hsb1 : S 0 8 = 1 → 0 ≤ S 0 16 ∧ S 0 16 < S 19 0 := fun h => ⟨(xtb h).1.1, (xtb h).1.2.1⟩
  have hx9 : S 0 8 = 1 → 0 ≤ S 0 9 ∧ S 0 9 < S 21 0 := fun h => ⟨(xtb h).2.1, (xtb h).2.2.1⟩
  clear xta xtb xfz
  obtain ⟨tn, htn⟩ : ∃ z, z = (if S 0 8 = 0 then -1 else S 0 9) := ⟨_, rfl⟩
  have htn0 : K 12 mi 2 = tn := by
    rw [htn]
    rcases vs with h | h
    · rw [if_pos h.1]; exact h.2.2.1
    · rw [if_neg (by omega)]; exact h.2.2.1
  obtain ⟨dd, hdd⟩ : ∃ z, z = (if S 0 8 = 0 then S 0 12 else S 0 16) := ⟨_, rfl⟩
  have htr : -1 ≤ tn ∧ tn < 24 := by
    have := hW.trs
    rw [htn]
    split
    · omega
    · have := hx9 (by omega); omega
  have n24 := hR.n24
  have n54 := hR.n54
  have n40 := hR.n40
  have n36 := hR.n36
  have n37 := hR.n37
  have n11 := hR.n11
  have wtrs := hW.trs
  have J39 : ∀ (bd : Int), (bd = if b ≠ 0 ∧ S 0 8 = 1 ∧ S 20 (17 * S 0 9 + 6) ≠ 0 then 1 else 0) → Y x n α K 0 0 39 [(0, .ref (α 12 mi)), (1, .ref (α 11 st)), (2, .int (iI b))] [.int (iI bd)] := by
    intro bd hbd
    have hbd1 : bd = 0 ∨ bd = 1 := by rw [hbd]; split <;> omega
    refine y_istore_n hE rfl [(3, .int (iI bd)), (0, .ref (α 12 mi)), (1, .ref (α 11 st)), (2, .int (iI b))] (by decide) rfl dX12_list_39 ?_
    refine y_iconst hE dX12_list_40 ?_
    refine y_istore hE [(4, .int (iI 1)), (3, .int (iI bd)), (0, .ref (α 12 mi)), (1, .ref (α 11 st)), (2, .int (iI b))] (by decide) rfl dX12_list_41 ?_
    have L43 : ∀ (fuel : Nat) (K2 : KS) (ps : Int), (KF K K2 (fun k i f => k = 12 ∧ i = (mi) ∧ f = 13 ∨ k = 36 ∧ i = (mi) ∧ 0 ≤ f ∨ k = 37 ∧ i = (mi) ∧ 0 ≤ f)) → (-1 ≤ ps ∧ ps ≤ 1) → (CA (cnQ S st b L ps) (K2 12 mi 13) (K2 36 mi) (K2 37 mi)) → (ps + 1).toNat < fuel → Y x n α K2 0 0 43 [(4, .int (iI ps)), (3, .int (iI bd)), (0, .ref (α 12 mi)), (1, .ref (α 11 st)), (2, .int (iI b))] [] := by
      intro fuel43
      induction fuel43 with
      | zero => intro K2 ps hk2 hps hL2 hfu43; exact absurd hfu43 (Nat.not_lt_zero _)
      | succ fuel43 ih43 =>
        intro K2 ps hk2 hps hL2 hfu43
        refine y_iload hE 0 rfl dX12_list_43 ?_
        refine y_if_lt hE 212 (by decide) (by omega) dX12_list_45 (fun c_45 => ?_) (fun c_45 => ?_)
        · exact y_vret (r := 0) hE rfl hQ dX12_list_212 Ext.rf ⟨rfl, rfl, hk2, by have q := hL2; unfold cnQ at q; rw [if_neg (by omega), if_neg (by omega)] at q; exact q⟩
        · refine y_iconst hE dX12_list_48 ?_
          refine y_istore hE [(5, .int (iI 0)), (4, .int (iI ps)), (3, .int (iI bd)), (0, .ref (α 12 mi)), (1, .ref (α 11 st)), (2, .int (iI b))] (by decide) rfl dX12_list_49 ?_
          have L51 : ∀ (fuel : Nat) (K3 : KS) (t : Int), (KF K K3 (fun k i f => k = 12 ∧ i = (mi) ∧ f = 13 ∨ k = 36 ∧ i = (mi) ∧ 0 ≤ f ∨ k = 37 ∧ i = (mi) ∧ 0 ≤ f)) → (0 ≤ t ∧ t ≤ S 21 0) → (CA (cnP S st b ps (cnQ S st b L ps) t.toNat) (K3 12 mi 13) (K3 36 mi) (K3 37 mi)) → (S 21 0 - t).toNat < fuel → Y x n α K3 0 0 51 [(5, .int (iI t)), (4, .int (iI ps)), (3, .int (iI bd)), (0, .ref (α 12 mi)), (1, .ref (α 11 st)), (2, .int (iI b))] [] := by
            intro fuel51
            induction fuel51 with
            | zero => intro K3 t hk3 ht hL3 hfu51; exact absurd hfu51 (Nat.not_lt_zero _)
            | succ fuel51 ih51 =>
              intro K3 t hk3 ht hL3 hfu51
              have hV3 := hV.kfc hk3 hfe
              have hC3 : COk S (cnP S st b ps (cnQ S st b L ps) t.toNat) := (hC.q hW hb).p hb (by omega)
              have hlen3 := hC3.len hW
              obtain ⟨mc, hmc3⟩ : ∃ z, K3 12 mi 13 = z := ⟨_, rfl⟩
              rw [hmc3] at hL3
              have hmc4 : 0 ≤ mc ∧ mc ≤ 24 := by have := hL3.1; omega
              refine y_iload hE 0 rfl dX12_list_51 ?_
              refine y_aload_n hE rfl 3 rfl dX12_list_53 ?_
              refine gX12_14r (z := 0) hE hlm ((hk3 12 mi 14 (by (try dsimp only); omega)).trans (hR.m14 (i := mi) (by omega))) (by omega) dX12_list_54 (fun hl_54 => ?_)
              refine gX12_95r (z := 0) hE hl_54 ((hk3 1 0 4 (by (try dsimp only); omega)).trans (hR.c4)) (by omega) dX12_list_57 (fun hl_57 => ?_)
              refine y_callV hE (m_J2_size 0 rfl hl_57) (lw_V q871 q669 q670 q111 q671) (nA := 0) (by decide +kernel) rfl ⟨Nat.le_of_ble_eq_true rfl, Nat.le_of_ble_eq_true rfl⟩ (hdd := rfl) (hcc := rfl) (hq := rfl) (hi := hl_57) (rest := [.int (iI t)]) rfl (by simp [refV_cat, Value.category]) dX12_list_60 (bc' := 0) (bs' := 0) (Nat.le_refl _) (Nat.le_refl _) (fun r_60 n_60 α_60 K_60 hx_60 hp_60 => ?_)
              obtain ⟨rfl, rfl, rfl, hr_60⟩ := hp_60
              have e_60 : (S 21 0) = r_60 := Eq.symm (by rw [hr_60]; exact ((hk3 24 0 2 (by (try dsimp only); omega)).trans (hR.z24)))
              subst e_60
              refine y_to (st' := [.int (iI (S 21 0)), .int (iI t)]) rfl rfl rfl ?_
              refine y_icmp_ge hE 206 (by decide) (by omega) (by omega) dX12_list_63 (fun c_63 => ?_) (fun c_63 => ?_)
              · refine y_iinc hE 1 rfl [(4, .int (iI (ps + (-1)))), (5, .int (iI t)), (3, .int (iI bd)), (0, .ref (α 12 mi)), (1, .ref (α 11 st)), (2, .int (iI b))] (by decide) rfl dX12_list_206 ?_
                refine y_goto hE 43 (by decide) dX12_list_209 ?_
                refine y_lv [0, 2, 3, 4, 5] [(4, .int (iI (ps + (-1)))), (3, .int (iI bd)), (0, .ref (α 12 mi)), (1, .ref (α 11 st)), (2, .int (iI b))] rfl ?_
                exact ih43 K3 (ps + (-1)) (hk3) (by omega) (by rw [← cnQ_s (by omega), show S 21 0 = t by omega, hmc3]; exact hL3) (by omega)
              · have wt := hW.tr t (by omega) (by omega)
                have h54t := hR.t54 (i := t) (by omega)
                refine y_aload_n hE rfl 3 rfl dX12_list_66 ?_
                refine gX12_14r (z := 0) hE hlm ((hk3 12 mi 14 (by (try dsimp only); omega)).trans (hR.m14 (i := mi) (by omega))) (by omega) dX12_list_67 (fun hl_67 => ?_)
                refine gX12_95r (z := 0) hE hl_67 ((hk3 1 0 4 (by (try dsimp only); omega)).trans (hR.c4)) (by omega) dX12_list_70 (fun hl_70 => ?_)
                refine y_iload hE 0 rfl dX12_list_73 ?_
                refine y_callV hE (m_J2_get 24 54 14 0 t rfl rfl hl_70 (by have e1 : K3 24 0 1 = 0 := ((hk3 24 0 1 (by (try dsimp only); omega)).trans (hR.l24)); omega) (by have e1 : K3 24 0 1 = 0 := ((hk3 24 0 1 (by (try dsimp only); omega)).trans (hR.l24)); have e2 : K3 24 0 2 = (S 21 0) := ((hk3 24 0 2 (by (try dsimp only); omega)).trans (hR.z24)); have e3 : K3 54 0 (-1) = 24 := ((hk3 54 0 (-1) (by (try dsimp only); omega)).trans (hR.m24)); rw [e1, e2, e3]; omega) (by have e2 : K3 24 0 2 = (S 21 0) := ((hk3 24 0 2 (by (try dsimp only); omega)).trans (hR.z24)); rw [e2]; omega) (by have e1 : K3 24 0 1 = 0 := ((hk3 24 0 1 (by (try dsimp only); omega)).trans (hR.l24)); have e4 : K3 54 0 t = K 54 0 t := ((hk3 54 0 t (by (try dsimp only); omega)).trans rfl); rw [e1, e4]; omega)) (lw_V q823 q673 q674 q111 q675) (nA := 1) (by decide +kernel) rfl ⟨Nat.le_of_ble_eq_true rfl, Nat.le_of_ble_eq_true rfl⟩ (hdd := rfl) (hcc := rfl) (hq := rfl) (hi := hl_70) (rest := []) rfl (by decide) dX12_list_75 (bc' := 0) (bs' := 0) (Nat.le_refl _) (Nat.le_refl _) (fun r_75 n_75 α_75 K_75 hx_75 hp_75 => ?_)
                obtain ⟨rfl, rfl, rfl, hr_75⟩ := hp_75
                have e_75 : K 54 0 t = r_75 := Eq.symm (by have e1 : K3 24 0 1 = 0 := ((hk3 24 0 1 (by (try dsimp only); omega)).trans (hR.l24)); have e4 : K3 54 0 t = K 54 0 t := ((hk3 54 0 t (by (try dsimp only); omega)).trans rfl); rw [hr_75.1, e1, e4])
                subst e_75
                refine y_to (st' := [refV α 14 (K 54 0 t)]) rfl rfl rfl ?_
                have hl_75 : (0 : Int) ≤ K 54 0 t ∧ K 54 0 t < n 14 := hr_75.2
                refine y_ref hl_75.1 ?_
                refine y_castE hE rfl rfl hl_75 q824 rfl dX12_list_78 ?_
                refine y_astore hE [(6, .ref (α 14 (K 54 0 t))), (5, .int (iI t)), (4, .int (iI ps)), (3, .int (iI bd)), (0, .ref (α 12 mi)), (1, .ref (α 11 st)), (2, .int (iI b))] (by decide) rfl dX12_list_81 ?_
                have J131 : ∀ (c1 : Int), (c1 = 1 ∧ (ps = 1 ∧ S 20 (17 * t) = -1 ∧ S 20 (17 * t + 1) ≠ dd ∨ ps = 0 ∧ S 20 (17 * t) = st) ∨ c1 = 0 ∧ ¬ (ps = 1 ∧ S 20 (17 * t) = -1 ∧ S 20 (17 * t + 1) ≠ dd ∨ ps = 0 ∧ S 20 (17 * t) = st)) → Y x n α K3 0 0 131 [(6, .ref (α 14 (K 54 0 t))), (5, .int (iI t)), (4, .int (iI ps)), (3, .int (iI bd)), (0, .ref (α 12 mi)), (1, .ref (α 11 st)), (2, .int (iI b))] [.int (iI c1)] := by
                  intro c1 hc1
                  have hcn := cnI_1 (t := t) (show ps = 1 ∨ ps = 0 by omega) hdd htn hbd hc1
                  have hc01 : c1 = 0 ∨ c1 = 1 := by omega
                  clear hdd htn hbd hc1
                  refine y_istore hE [(7, .int (iI c1)), (6, .ref (α 14 (K 54 0 t))), (5, .int (iI t)), (4, .int (iI ps)), (3, .int (iI bd)), (0, .ref (α 12 mi)), (1, .ref (α 11 st)), (2, .int (iI b))] (by decide) rfl dX12_list_131 ?_
                  refine y_iload hE 0 rfl dX12_list_133 ?_
                  refine y_if_eq hE 200 (by decide) (by omega) dX12_list_135 (fun c_135 => ?_) (fun c_135 => ?_)
                  · refine y_iinc hE 2 rfl [(5, .int (iI (t + 1))), (7, .int (iI c1)), (6, .ref (α 14 (K 54 0 t))), (4, .int (iI ps)), (3, .int (iI bd)), (0, .ref (α 12 mi)), (1, .ref (α 11 st)), (2, .int (iI b))] (by decide) rfl dX12_list_200 ?_
                    refine y_goto hE 51 (by decide) dX12_list_203 ?_
                    refine y_lv [0, 3, 4, 5, 6, 7] [(5, .int (iI (t + 1))), (4, .int (iI ps)), (3, .int (iI bd)), (0, .ref (α 12 mi)), (1, .ref (α 11 st)), (2, .int (iI b))] rfl ?_
                    exact ih51 K3 (t + 1) (hk3) (by omega) (by
  first
  | (rw [hmc3, cnP_s (by omega), if_neg (fun z => by have := hcn.mp z.1; omega)]; exact hL3)
  | (rw [hmc3, cnP_s (by omega), if_neg (fun z => by obtain ⟨e, he, h2⟩ := (hic ()).mp (by omega); exact z.2 e he h2)]; exact hL3)
  | (rw [cnP_s (by omega), if_pos ⟨hcn.mpr ⟨c_135, c_144, hbt⟩, fun e he h2 => absurd ((hic ()).mpr ⟨e, he, h2⟩) (by rw [c_166]; decide)⟩, up3_s]
     exact hL3.app ⟨by rw [up3_k _ _ _ _ _ _ (by decide), up3_k _ _ _ _ _ _ (by decide), up3_s], by rw [up3_k _ _ _ _ _ _ (by decide), up3_s]⟩ (fun k k0 k1 => ⟨by rw [up3_k _ _ _ _ _ _ (by decide), up3_k _ _ _ _ _ _ (by decide), up3_f _ _ _ _ _ _ (Int.ne_of_lt k1)], by rw [up3_k _ _ _ _ _ _ (by decide), up3_f _ _ _ _ _ _ (Int.ne_of_lt k1), up3_k _ _ _ _ _ _ (by decide)]⟩))) (by omega)
                  · refine y_iload hE 2 rfl dX12_list_138 ?_
                    refine y_aload_n hE rfl 5 rfl dX12_list_140 ?_
                    refine gX12_23 (z := tn) hE hlm ((hk3 12 mi 2 (by (try dsimp only); omega)).trans htn0) dX12_list_141 ?_
                    refine y_icmp_eq hE 200 (by decide) (by omega) (by omega) dX12_list_144 (fun c_144 => ?_) (fun c_144 => ?_)
                    · refine y_iinc hE 2 rfl [(5, .int (iI (t + 1))), (7, .int (iI c1)), (6, .ref (α 14 (K 54 0 t))), (4, .int (iI ps)), (3, .int (iI bd)), (0, .ref (α 12 mi)), (1, .ref (α 11 st)), (2, .int (iI b))] (by decide) rfl dX12_list_200 ?_
                      refine y_goto hE 51 (by decide) dX12_list_203 ?_
                      refine y_lv [0, 3, 4, 5, 6, 7] [(5, .int (iI (t + 1))), (4, .int (iI ps)), (3, .int (iI bd)), (0, .ref (α 12 mi)), (1, .ref (α 11 st)), (2, .int (iI b))] rfl ?_
                      exact ih51 K3 (t + 1) (hk3) (by omega) (by
  first
  | (rw [hmc3, cnP_s (by omega), if_neg (fun z => by have := hcn.mp z.1; omega)]; exact hL3)
  | (rw [hmc3, cnP_s (by omega), if_neg (fun z => by obtain ⟨e, he, h2⟩ := (hic ()).mp (by omega); exact z.2 e he h2)]; exact hL3)
  | (rw [cnP_s (by omega), if_pos ⟨hcn.mpr ⟨c_135, c_144, hbt⟩, fun e he h2 => absurd ((hic ()).mpr ⟨e, he, h2⟩) (by rw [c_166]; decide)⟩, up3_s]
     exact hL3.app ⟨by rw [up3_k _ _ _ _ _ _ (by decide), up3_k _ _ _ _ _ _ (by decide), up3_s], by rw [up3_k _ _ _ _ _ _ (by decide), up3_s]⟩ (fun k k0 k1 => ⟨by rw [up3_k _ _ _ _ _ _ (by decide), up3_k _ _ _ _ _ _ (by decide), up3_f _ _ _ _ _ _ (Int.ne_of_lt k1)], by rw [up3_k _ _ _ _ _ _ (by decide), up3_f _ _ _ _ _ _ (Int.ne_of_lt k1), up3_k _ _ _ _ _ _ (by decide)]⟩))) (by omega)
                    · have J160 : (bd ≠ 0 → t ≤ tn) → Y x n α K3 0 0 160 [(7, .int (iI c1)), (6, .ref (α 14 (K 54 0 t))), (5, .int (iI t)), (4, .int (iI ps)), (3, .int (iI bd)), (0, .ref (α 12 mi)), (1, .ref (α 11 st)), (2, .int (iI b))] [] := by
                        intro hbt
                        refine y_aload_n hE rfl 5 rfl dX12_list_160 ?_
                        refine y_iload hE 2 rfl dX12_list_161 ?_
                        refine y_callV hE (m_X12_isCandidate S mi ta tb fa fb t mc (hR.kf (P := fun k i f => k = 12 ∧ i = (mi) ∧ f = 13 ∨ k = 36 ∧ i = (mi) ∧ 0 ≤ f ∨ k = 37 ∧ i = (mi) ∧ 0 ≤ f) hk3 hfoot) (by assumption) hlm hV3 (hmc3) (by omega) (by omega) (fun k k0 k1 => by have := hL3.rng hC3 (k := k) ⟨k0, k1⟩; omega)) (lw_V q2348 q2350 qs34 q145 q2351) (nA := 1) (by decide +kernel) rfl ⟨Nat.le_of_ble_eq_true rfl, Nat.le_of_ble_eq_true rfl⟩ (hdd := rfl) (hcc := rfl) (hq := rfl) (hi := hlm) (rest := []) rfl (by decide) dX12_list_163 (bc' := 0) (bs' := 0) (Nat.le_refl _) (Nat.le_refl _) (fun r_163 n_163 α_163 K_163 hx_163 hp_163 => ?_)
                        obtain ⟨rfl, rfl, rfl, hr_163⟩ := hp_163
                        have hic0 := hL3.inC (t := t)
                        rw [← hr_163] at hic0
                        have hic := fun (_ : Unit) => hic0
                        clear hic0
                        have h01 := inC_01 (K3 36 mi) t mc.toNat
                        rw [← hr_163] at h01
                        refine y_to (st' := [.int (iI r_163)]) rfl rfl rfl ?_
                        refine y_if_ne hE 200 (by decide) (by omega) dX12_list_166 (fun c_166 => ?_) (fun c_166 => ?_)
                        · refine y_iinc hE 2 rfl [(5, .int (iI (t + 1))), (7, .int (iI c1)), (6, .ref (α 14 (K 54 0 t))), (4, .int (iI ps)), (3, .int (iI bd)), (0, .ref (α 12 mi)), (1, .ref (α 11 st)), (2, .int (iI b))] (by decide) rfl dX12_list_200 ?_
                          refine y_goto hE 51 (by decide) dX12_list_203 ?_
                          refine y_lv [0, 3, 4, 5, 6, 7] [(5, .int (iI (t + 1))), (4, .int (iI ps)), (3, .int (iI bd)), (0, .ref (α 12 mi)), (1, .ref (α 11 st)), (2, .int (iI b))] rfl ?_
                          exact ih51 K3 (t + 1) (hk3) (by omega) (by
  first
  | (rw [hmc3, cnP_s (by omega), if_neg (fun z => by have := hcn.mp z.1; omega)]; exact hL3)
  | (rw [hmc3, cnP_s (by omega), if_neg (fun z => by obtain ⟨e, he, h2⟩ := (hic ()).mp (by omega); exact z.2 e he h2)]; exact hL3)
  | (rw [cnP_s (by omega), if_pos ⟨hcn.mpr ⟨c_135, c_144, hbt⟩, fun e he h2 => absurd ((hic ()).mpr ⟨e, he, h2⟩) (by rw [c_166]; decide)⟩, up3_s]
     exact hL3.app ⟨by rw [up3_k _ _ _ _ _ _ (by decide), up3_k _ _ _ _ _ _ (by decide), up3_s], by rw [up3_k _ _ _ _ _ _ (by decide), up3_s]⟩ (fun k k0 k1 => ⟨by rw [up3_k _ _ _ _ _ _ (by decide), up3_k _ _ _ _ _ _ (by decide), up3_f _ _ _ _ _ _ (Int.ne_of_lt k1)], by rw [up3_k _ _ _ _ _ _ (by decide), up3_f _ _ _ _ _ _ (Int.ne_of_lt k1), up3_k _ _ _ _ _ _ (by decide)]⟩))) (by omega)
                        · refine y_aload_n hE rfl 5 rfl dX12_list_169 ?_
                          refine gX12_38r (z := mi) hE hlm ((hk3 12 mi 11 (by (try dsimp only); omega)).trans (hR.m11 (i := mi) (by omega))) (by omega) dX12_list_170 (fun hl_170 => ?_)
                          refine y_aload_n hE rfl 5 rfl dX12_list_173 ?_
                          refine gX12_114 (z := mc) hE hlm hmc3 dX12_list_174 ?_
                          refine y_iload hE 2 rfl dX12_list_177 ?_
                          refine y_iast hE (by unfold kC; decide) rfl (by simp [kTag]) hl_170 (by have hL : K3 36 mi (-1) = 48 := ((hk3 36 mi (-1) (by (try dsimp only); omega)).trans (hR.m36 (i := mi) (by omega))); omega) dX12_list_179 ?_
                          refine y_aload_n hE rfl 5 rfl dX12_list_180 ?_
                          refine gX12_41r (z := mi) hE hlm ((hk3 12 mi 12 (by (try dsimp only); omega)).trans (hR.m12 (i := mi) (by omega))) (by omega) dX12_list_181 (fun hl_181 => ?_)
                          refine y_aload_n hE rfl 5 rfl dX12_list_184 ?_
                          refine gX12_114 (z := mc) hE hlm hmc3 dX12_list_185 ?_
                          refine y_iload_n hE rfl 7 rfl dX12_list_188 ?_
                          refine y_zast hE (by unfold kC; decide) rfl (by simp [kTag]) hl_181 (by have hL : (up3 K3 36 mi mc t) 37 mi (-1) = 48 := ((hk3 37 mi (-1) (by (try dsimp only); omega)).trans (hR.m37 (i := mi) (by omega))); omega) (by rcases (by omega : b = 0 ∨ b = 1) with h | h <;> rw [h] <;> rfl) dX12_list_189 ?_
                          refine y_aload_n hE rfl 5 rfl dX12_list_190 ?_
                          refine y_dup hE rfl dX12_list_191 ?_
                          refine gX12_114 (z := mc) hE hlm hmc3 dX12_list_192 ?_
                          refine y_iconst hE dX12_list_195 ?_
                          refine y_iadd hE dX12_list_196 ?_
                          refine pX12_114 hE hlm dX12_list_197 ?_
                          refine y_iinc hE 2 rfl [(5, .int (iI (t + 1))), (7, .int (iI c1)), (6, .ref (α 14 (K 54 0 t))), (4, .int (iI ps)), (3, .int (iI bd)), (0, .ref (α 12 mi)), (1, .ref (α 11 st)), (2, .int (iI b))] (by decide) rfl dX12_list_200 ?_
                          refine y_goto hE 51 (by decide) dX12_list_203 ?_
                          refine y_lv [0, 3, 4, 5, 6, 7] [(5, .int (iI (t + 1))), (4, .int (iI ps)), (3, .int (iI bd)), (0, .ref (α 12 mi)), (1, .ref (α 11 st)), (2, .int (iI b))] rfl ?_
                          exact ih51 (up3 (up3 (up3 K3 36 mi mc t) 37 mi mc b) 12 mi 13 (mc + 1)) (t + 1) ((KF.up (KF.up (KF.up hk3 (by (try dsimp only); omega)) (by (try dsimp only); omega)) (by (try dsimp only); omega))) (by omega) (by
  first
  | (rw [hmc3, cnP_s (by omega), if_neg (fun z => by have := hcn.mp z.1; omega)]; exact hL3)
  | (rw [hmc3, cnP_s (by omega), if_neg (fun z => by obtain ⟨e, he, h2⟩ := (hic ()).mp (by omega); exact z.2 e he h2)]; exact hL3)
  | (rw [cnP_s (by omega), if_pos ⟨hcn.mpr ⟨c_135, c_144, hbt⟩, fun e he h2 => absurd ((hic ()).mpr ⟨e, he, h2⟩) (by rw [c_166]; decide)⟩, up3_s]
     exact hL3.app ⟨by rw [up3_k _ _ _ _ _ _ (by decide), up3_k _ _ _ _ _ _ (by decide), up3_s], by rw [up3_k _ _ _ _ _ _ (by decide), up3_s]⟩ (fun k k0 k1 => ⟨by rw [up3_k _ _ _ _ _ _ (by decide), up3_k _ _ _ _ _ _ (by decide), up3_f _ _ _ _ _ _ (Int.ne_of_lt k1)], by rw [up3_k _ _ _ _ _ _ (by decide), up3_f _ _ _ _ _ _ (Int.ne_of_lt k1), up3_k _ _ _ _ _ _ (by decide)]⟩))) (by omega)
                      refine y_iload_n hE rfl 4 rfl dX12_list_147 ?_
                      refine y_if_eq hE 160 (by decide) (by omega) dX12_list_148 (fun c_148 => ?_) (fun c_148 => ?_)
                      · exact J160  (by omega)
                      · refine y_iload hE 2 rfl dX12_list_151 ?_
                        refine y_aload_n hE rfl 5 rfl dX12_list_153 ?_
                        refine gX12_23 (z := tn) hE hlm ((hk3 12 mi 2 (by (try dsimp only); omega)).trans htn0) dX12_list_154 ?_
                        refine y_icmp_gt hE 200 (by decide) (by omega) (by omega) dX12_list_157 (fun c_157 => ?_) (fun c_157 => ?_)
                        · refine y_iinc hE 2 rfl [(5, .int (iI (t + 1))), (7, .int (iI c1)), (6, .ref (α 14 (K 54 0 t))), (4, .int (iI ps)), (3, .int (iI bd)), (0, .ref (α 12 mi)), (1, .ref (α 11 st)), (2, .int (iI b))] (by decide) rfl dX12_list_200 ?_
                          refine y_goto hE 51 (by decide) dX12_list_203 ?_
                          refine y_lv [0, 3, 4, 5, 6, 7] [(5, .int (iI (t + 1))), (4, .int (iI ps)), (3, .int (iI bd)), (0, .ref (α 12 mi)), (1, .ref (α 11 st)), (2, .int (iI b))] rfl ?_
                          exact ih51 K3 (t + 1) (hk3) (by omega) (by
  first
  | (rw [hmc3, cnP_s (by omega), if_neg (fun z => by have := hcn.mp z.1; omega)]; exact hL3)
  | (rw [hmc3, cnP_s (by omega), if_neg (fun z => by obtain ⟨e, he, h2⟩ := (hic ()).mp (by omega); exact z.2 e he h2)]; exact hL3)
  | (rw [cnP_s (by omega), if_pos ⟨hcn.mpr ⟨c_135, c_144, hbt⟩, fun e he h2 => absurd ((hic ()).mpr ⟨e, he, h2⟩) (by rw [c_166]; decide)⟩, up3_s]
     exact hL3.app ⟨by rw [up3_k _ _ _ _ _ _ (by decide), up3_k _ _ _ _ _ _ (by decide), up3_s], by rw [up3_k _ _ _ _ _ _ (by decide), up3_s]⟩ (fun k k0 k1 => ⟨by rw [up3_k _ _ _ _ _ _ (by decide), up3_k _ _ _ _ _ _ (by decide), up3_f _ _ _ _ _ _ (Int.ne_of_lt k1)], by rw [up3_k _ _ _ _ _ _ (by decide), up3_f _ _ _ _ _ _ (Int.ne_of_lt k1), up3_k _ _ _ _ _ _ (by decide)]⟩))) (by omega)
                        · exact J160  (by omega)
                refine y_iload hE 2 rfl dX12_list_83 ?_
                refine y_iconst hE dX12_list_85 ?_
                refine y_icmp_ne hE 117 (by decide) (by omega) (by omega) dX12_list_86 (fun c_86 => ?_) (fun c_86 => ?_)
                · refine y_aload hE 0 rfl dX12_list_117 ?_
                  refine gX12_124 (z := (S 20 (17 * t))) hE hl_75 ((hk3 14 (K 54 0 t) 0 (by (try dsimp only); omega)).trans (hR.t0 (i := t) (by omega))) dX12_list_119 (fun hb_119 => ?_)
                  refine y_aload_n hE rfl 5 rfl dX12_list_122 ?_
                  refine y_to (st' := [refV α 11 st, refV α 11 (S 20 (17 * t))]) rfl rfl (by first | rfl | rw [refV_s (α := α) (j := 11) (z := st) hst.1] | (rw [refV_s (α := α) (j := 11) (z := st) hst.1]; rfl)) ?_
                  refine y_acmpN (a := (S 20 (17 * t))) (b := st) hE (by unfold kC; decide) hb_119 hst.2 130 (by decide) dX12_list_123 (fun c_123 => ?_) (fun c_123 => ?_)
                  · refine y_iconst hE dX12_list_130 ?_
                    exact J131 0 (by omega)
                  · refine y_iconst hE dX12_list_126 ?_
                    refine y_goto hE 131 (by decide) dX12_list_127 ?_
                    exact J131 1 (by omega)
                · refine y_aload hE 0 rfl dX12_list_89 ?_
                  refine gX12_124 (z := (S 20 (17 * t))) hE hl_75 ((hk3 14 (K 54 0 t) 0 (by (try dsimp only); omega)).trans (hR.t0 (i := t) (by omega))) dX12_list_91 (fun hb_91 => ?_)
                  refine y_ifnonnull hE 113 (by decide) dX12_list_94 (fun c_94 => ?_) (fun c_94 => ?_)
                  · refine y_iconst hE dX12_list_113 ?_
                    refine y_goto hE 131 (by decide) dX12_list_114 ?_
                    exact J131 0 (by omega)
                  · refine y_aload hE 0 rfl dX12_list_97 ?_
                    refine gX12_127r (z := (S 20 (17 * t + 1))) hE hl_75 ((hk3 14 (K 54 0 t) 1 (by (try dsimp only); omega)).trans (hR.t1 (i := t) (by omega))) (by omega) dX12_list_99 (fun hl_99 => ?_)
                    refine y_aload_n hE rfl 4 rfl dX12_list_102 ?_
                    refine y_callV hE (m_X12_destination S mi ta tb fa fb (hR.kf (P := fun k i f => k = 12 ∧ i = (mi) ∧ f = 13 ∨ k = 36 ∧ i = (mi) ∧ 0 ≤ f ∨ k = 37 ∧ i = (mi) ∧ 0 ≤ f) hk3 hfoot) (by assumption) hlm hV3 (by omega) (by omega)) (lw_V q2344 q2345 q2346 q145 q2347) (nA := 0) (by decide +kernel) rfl ⟨Nat.le_of_ble_eq_true rfl, Nat.le_of_ble_eq_true rfl⟩ (hdd := rfl) (hcc := rfl) (hq := rfl) (hi := hlm) (rest := [.ref (α 11 (S 20 (17 * t + 1)))]) rfl (by simp [refV_cat, Value.category]) dX12_list_103 (bc' := 0) (bs' := 0) (Nat.le_refl _) (Nat.le_refl _) (fun r_103 n_103 α_103 K_103 hx_103 hp_103 => ?_)
                    obtain ⟨rfl, rfl, rfl, hr_103⟩ := hp_103
                    have hd103 : r_103 = dd := hr_103.1.trans hdd.symm
                    clear hdd htn hbd
                    refine y_to (st' := [refV α 11 r_103, .ref (α 11 (S 20 (17 * t + 1)))]) rfl rfl rfl ?_
                    have hl_103 : (0 : Int) ≤ r_103 ∧ r_103 < n 11 := hr_103.2
                    refine y_ref hl_103.1 ?_
                    refine y_to (st' := [refV α 11 r_103, refV α 11 (S 20 (17 * t + 1))]) rfl rfl (by first | rfl | rw [refV_s (α := α) (j := 11) (z := r_103) hl_103.1, refV_s (α := α) (j := 11) (z := (S 20 (17 * t + 1))) hl_99.1] | (rw [refV_s (α := α) (j := 11) (z := r_103) hl_103.1, refV_s (α := α) (j := 11) (z := (S 20 (17 * t + 1))) hl_99.1]; rfl)) ?_
                    refine y_acmpE (a := (S 20 (17 * t + 1))) (b := r_103) hE (by unfold kC; decide) hl_99.2 hl_103.2 113 (by decide) dX12_list_106 (fun c_106 => ?_) (fun c_106 => ?_)
                    · refine y_iconst hE dX12_list_113 ?_
                      refine y_goto hE 131 (by decide) dX12_list_114 ?_
                      exact J131 0 (by omega)
                    · refine y_iconst hE dX12_list_109 ?_
                      refine y_goto hE 131 (by decide) dX12_list_110 ?_
                      exact J131 1 (by omega)
          exact L51 _ K2 0 (hk2) (by omega) (hL2) (Nat.lt_succ_self _)
    exact L43 _ K 1 (KF.rf) (by omega) (hL) (Nat.lt_succ_self _)
  refine y_iload_n hE rfl 2 rfl dX12_list_0 ?_
  refine y_if_eq hE 38 (by decide) (by omega) dX12_list_1 (fun c_1 => ?_) (fun c_1 => ?_)
  · refine y_iconst hE dX12_list_38 ?_
    exact J39 0 (by first | rw [if_pos (by omega)] | rw [if_neg (by omega)])
  · refine y_aload_n hE rfl 0 rfl dX12_list_4 ?_
    refine y_callV hE (m_X12_isIdle S mi ta tb fa fb hR hW hlm hV) (lw_V q817 q790 q791 q145 q792) (nA := 0) (by decide +kernel) rfl ⟨Nat.le_of_ble_eq_true rfl, Nat.le_of_ble_eq_true rfl⟩ (hdd := rfl) (hcc := rfl) (hq := rfl) (hi := hlm) (rest := []) rfl (by decide) dX12_list_5 (bc' := 0) (bs' := 0) (Nat.le_refl _) (Nat.le_refl _) (fun r_5 n_5 α_5 K_5 hx_5 hp_5 => ?_)
    obtain ⟨rfl, rfl, rfl, hr_5⟩ := hp_5
    refine y_to (st' := [.int (iI r_5)]) rfl rfl rfl ?_
    refine y_if_ne hE 38 (by decide) (by omega) dX12_list_8 (fun c_8 => ?_) (fun c_8 => ?_)
    · refine y_iconst hE dX12_list_38 ?_
      exact J39 0 (by first | rw [if_pos (by omega)] | rw [if_neg (by omega)])
    · have h81 : S 0 8 = 1 := by omega
      have hxx := hx9 h81
      have htn1 : tn = S 0 9 := by rw [htn, if_neg (by omega)]
      have e_tn : S 20 (17 * tn + 6) = S 20 (17 * S 0 9 + 6) := by rw [htn1]
      have wx := hW.tr (S 0 9) hxx.1 hxx.2
      have h54n := hR.t54 (i := tn) (by omega)
      refine y_aload_n hE rfl 0 rfl dX12_list_11 ?_
      refine gX12_14r (z := 0) hE hlm (hR.m14 (i := mi) (by omega)) (by omega) dX12_list_12 (fun hl_12 => ?_)
      refine gX12_95r (z := 0) hE hl_12 (hR.c4) (by omega) dX12_list_15 (fun hl_15 => ?_)
      refine y_aload_n hE rfl 0 rfl dX12_list_18 ?_
      refine gX12_23 (z := tn) hE hlm htn0 dX12_list_19 ?_
      refine y_callV hE (m_J2_get 24 54 14 0 tn rfl rfl hl_15 (by have e1 : K 24 0 1 = 0 := (hR.l24); omega) (by have e1 : K 24 0 1 = 0 := (hR.l24); have e2 : K 24 0 2 = (S 21 0) := (hR.z24); have e3 : K 54 0 (-1) = 24 := (hR.m24); rw [e1, e2, e3]; omega) (by have e2 : K 24 0 2 = (S 21 0) := (hR.z24); rw [e2]; omega) (by have e1 : K 24 0 1 = 0 := (hR.l24); have e4 : K 54 0 tn = K 54 0 tn := rfl; rw [e1, e4]; omega)) (lw_V q823 q673 q674 q111 q675) (nA := 1) (by decide +kernel) rfl ⟨Nat.le_of_ble_eq_true rfl, Nat.le_of_ble_eq_true rfl⟩ (hdd := rfl) (hcc := rfl) (hq := rfl) (hi := hl_15) (rest := []) rfl (by decide) dX12_list_22 (bc' := 0) (bs' := 0) (Nat.le_refl _) (Nat.le_refl _) (fun r_22 n_22 α_22 K_22 hx_22 hp_22 => ?_)
      obtain ⟨rfl, rfl, rfl, hr_22⟩ := hp_22
      have e_22 : K 54 0 tn = r_22 := Eq.symm (by have e1 : K 24 0 1 = 0 := (hR.l24); have e4 : K 54 0 tn = K 54 0 tn := rfl; rw [hr_22.1, e1, e4])
      subst e_22
      refine y_to (st' := [refV α 14 (K 54 0 tn)]) rfl rfl rfl ?_
      have hl_22 : (0 : Int) ≤ K 54 0 tn ∧ K 54 0 tn < n 14 := hr_22.2
      refine y_ref hl_22.1 ?_
      refine y_castE hE rfl rfl hl_22 q824 rfl dX12_list_25 ?_
      refine gX12_117 (z := (S 20 (17 * tn + 6))) hE hl_22 (hR.t6 (i := tn) (by omega)) dX12_list_28 ?_
      refine y_if_eq hE 38 (by decide) (by omega) dX12_list_31 (fun c_31 => ?_) (fun c_31 => ?_)
      · refine y_iconst hE dX12_list_38 ?_
        exact J39 0 (by first | rw [if_pos (by omega)] | rw [if_neg (by omega)])
      · refine y_iconst hE dX12_list_34 ?_
        refine y_goto hE 39 (by decide) dX12_list_35 ?_
        exact J39 1 (by first | rw [if_pos (by omega)] | rw [if_neg (by omega)])
