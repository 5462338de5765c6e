set_option linter.unusedVariables false
theorem trkP_lt {S : SS} (hW : WFs S) {i ph w x : Int} {P : SP} (hi : NdOk S i) (hp : 0 ≤ ph) (hP : PoseB S P x) {k : Int} (hk : 0 ≤ k ∧ k < S 8 0) (h : 0 < wt S 4 i w k) : (trkP S i ph w P k.toNat).length ≤ P.length + 7 := by
  have h2 := (trkP_ok hW (w := w) hi hp hP k.toNat (by omega)).2
  have hcl := hW.clips
  have b := cntP_mono (g := wt S 4 i w) (k := k.toNat + 1) (12 - (k.toNat + 1))
  rw [show k.toNat + 1 + (12 - (k.toNat + 1)) = 12 by omega, cntP, if_pos (by rw [show ((k.toNat : Nat) : Int) = k by omega]; exact h)] at b
  have d := wt_cnt (S := S) 4 i w
  have e : e2 4 = 8 := by decide
  omega
set_option maxHeartbeats 4000000 in
set_option maxRecDepth 100000 in
theorem m_X12_addPose {w : KW} {n : KN} {α : KA} {K : KS} (S : SS) (P : SP) (mi t s ph wg : Int) (hR : Rst S n K) (hW : WFs S) (hv0 : WFv S) (hlm : 0 ≤ mi ∧ mi < n 12) (ht : 0 ≤ t ∧ t < n 13) (e0 : K 13 t 0 = s) (e2 : K 13 t 2 = ph) (hs : 0 ≤ s ∧ s < S 19 0) (hph : 0 ≤ ph ∧ ph ≤ 1000000) (hwg : 0 ≤ wg ∧ wg ≤ 1000000) (hB : PoseB S P (1000000 - wg)) (hl : P.length ≤ 32) (hP : PA P (K 2 0 3) (K 31 0) (K 32 0) (K 33 0)) : KM w yX12_addPose cX12_addPose 4 none { frames := 7, cells := 0, slots := 0, locals := 187 } (3, 0) [.ref (α 12 mi), .ref (α 13 t), .int (iI wg)] n α K (fun r n' α' K' => n = n' ∧ α = α' ∧ KF K K' (fun k i f => k = 34 ∧ i = 0 ∧ 0 ≤ f ∨ k = 2 ∧ i = 0 ∧ f = 3 ∨ k = 31 ∧ i = 0 ∧ 0 ≤ f ∨ k = 32 ∧ i = 0 ∧ 0 ≤ f ∨ k = 33 ∧ i = 0 ∧ 0 ≤ f) ∧ (PA (trkP S (S 15 s) ph wg P (S 8 0).toNat) (K' 2 0 3) (K' 31 0) (K' 32 0) (K' 33 0))) := by
  refine y_start (by decide) (Nat.le_of_ble_eq_true rfl) (fun x hE hQ => ?_)
  have hw := hQ.2
  subst hw
  have hE : YE x cX12_addPose RX12 none "addPose" 4 { frames := 7, cells := 0, slots := 0, locals := 187 } := hE
  refine y_wk (fun hWK => ?_)
  have hn0 := hWK.1
  refine y_bud (bc' := 0) (bs' := 0) (Nat.le_refl _) (Nat.le_refl _) ?_
  refine y_to (lv' := [(0, .ref (α 12 mi)), (1, .ref (α 13 t)), (2, .int (iI wg))]) (st' := []) rfl rfl rfl ?_
  have hfoot : ∀ (k : Nat) (i f : Int), (fun k i f => k = 34 ∧ i = 0 ∧ 0 ≤ f ∨ k = 2 ∧ i = 0 ∧ f = 3 ∨ k = 31 ∧ i = 0 ∧ 0 ≤ f ∨ k = 32 ∧ i = 0 ∧ 0 ≤ f ∨ k = 33 ∧ i = 0 ∧ 0 ≤ f) k i f → ¬ SKd k f := fun k i f z => by unfold SKd; (try dsimp only at z); omega
  have wcl := hW.clips
  have n1 := hR.n1
  have n3 := hR.n3
  have n34 := hR.n34
  have n6 := hR.n6
  have n21 := hR.n21
  have n51 := hR.n51
  have n8 := hR.n8
  have n11 := hR.n11
  have wsts := hW.sts
  have wnodes := hW.nodes
  have n2 := hR.n2
  have hnd := st_nd2 hW hs
  have ws := hW.st s hs.1 hs.2
  obtain ⟨D, hD⟩ : ∃ D, DOk S D := hW.dep
  refine y_aload_n hE rfl 0 rfl dX12_addPose_0 ?_
  refine gX12_14r (z := 0) hE hlm (hR.m14 (i := mi) (by omega)) (by omega) dX12_addPose_1 (fun hl_1 => ?_)
  refine y_aload_n hE rfl 0 rfl dX12_addPose_4 ?_
  refine gX12_14r (z := 0) hE hlm (hR.m14 (i := mi) (by omega)) (by omega) dX12_addPose_5 (fun hl_5 => ?_)
  refine gX12_299r (z := 0) hE hl_5 (hR.c8) (by omega) dX12_addPose_8 (fun hl_8 => ?_)
  refine y_aload_n hE rfl 1 rfl dX12_addPose_11 ?_
  refine gX12_89r (z := s) hE ht e0 (by omega) dX12_addPose_12 (fun hl_12 => ?_)
  refine gX12_248r (z := (S 15 s)) hE hl_12 (hR.s1 (i := s) (by omega)) (by omega) dX12_addPose_15 (fun hl_15 => ?_)
  refine y_iload_n hE rfl 2 rfl dX12_addPose_18 ?_
  refine y_callVN hE (m_X1_blend S 0 (S 15 s) wg hR hl_1 hW hv0 (hnd) (by omega) hl_8 hl_15 hwg) q848 q850 qs6 q108 q851 (nA := 3) (by decide +kernel) rfl ⟨Nat.le_of_ble_eq_true rfl, Nat.le_of_ble_eq_true rfl⟩ (hdd := rfl) (hcc := rfl) (hq := rfl) (hi := hl_1) (rest := []) rfl (by decide) dX12_addPose_19 (bc' := 0) (bs' := 0) (Nat.le_refl _) (Nat.le_refl _) (fun r_19 n_19 α_19 K_19 hx_19 hp_19 => ?_)
  obtain ⟨rfl, rfl, hk_19, hr_19⟩ := hp_19
  refine y_to (st' := []) rfl rfl rfl ?_
  refine y_iconst hE dX12_addPose_22 ?_
  refine y_istore_n hE rfl [(3, .int (iI 0)), (0, .ref (α 12 mi)), (1, .ref (α 13 t)), (2, .int (iI wg))] (by decide) rfl dX12_addPose_23 ?_
  have L24 : ∀ (fuel : Nat) (K2 : KS) (c : Int), (KF K K2 (fun k i f => k = 34 ∧ i = 0 ∧ 0 ≤ f ∨ k = 2 ∧ i = 0 ∧ f = 3 ∨ k = 31 ∧ i = 0 ∧ 0 ≤ f ∨ k = 32 ∧ i = 0 ∧ 0 ≤ f ∨ k = 33 ∧ i = 0 ∧ 0 ≤ f)) → (0 ≤ c ∧ c ≤ S 8 0) → (PA (trkP S (S 15 s) ph wg P c.toNat) (K2 2 0 3) (K2 31 0) (K2 32 0) (K2 33 0)) → (∀ c : Int, 0 ≤ c → c < 12 → K2 34 0 c = wt S 4 (S 15 s) wg c) → (S 8 0 - c).toNat < fuel → Y x n α K2 0 0 24 [(3, .int (iI c)), (0, .ref (α 12 mi)), (1, .ref (α 13 t)), (2, .int (iI wg))] [] := by
    intro fuel24
    induction fuel24 with
    | zero => intro K2 c hk2 hk hR2 hwt hfu24; exact absurd hfu24 (Nat.not_lt_zero _)
    | succ fuel24 ih24 =>
      intro K2 c hk2 hk hR2 hwt hfu24
      refine y_iload_n hE rfl 0 rfl dX12_addPose_24 ?_
      refine y_aload_n hE rfl 1 rfl dX12_addPose_25 ?_
      refine gX12_14r (z := 0) hE hlm ((hk2 12 mi 14 (by (try dsimp only); omega)).trans (hR.m14 (i := mi) (by omega))) (by omega) dX12_addPose_26 (fun hl_26 => ?_)
      refine gX12_256r (z := 0) hE hl_26 ((hk2 1 0 1 (by (try dsimp only); omega)).trans (hR.c1)) (by omega) dX12_addPose_29 (fun hl_29 => ?_)
      refine y_callV hE (m_J2_size 0 rfl hl_29) (lw_V q871 q669 q670 q111 q671) (nA := 0) (by decide +kernel) rfl ⟨Nat.le_of_ble_eq_true rfl, Nat.le_of_ble_eq_true rfl⟩ (hdd := rfl) (hcc := rfl) (hq := rfl) (hi := hl_29) (rest := [.int (iI c)]) rfl (by simp [refV_cat, Value.category]) dX12_addPose_32 (bc' := 0) (bs' := 0) (Nat.le_refl _) (Nat.le_refl _) (fun r_32 n_32 α_32 K_32 hx_32 hp_32 => ?_)
      obtain ⟨rfl, rfl, rfl, hr_32⟩ := hp_32
      have e_32 : (S 8 0) = r_32 := Eq.symm (by rw [hr_32]; exact ((hk2 21 0 2 (by (try dsimp only); omega)).trans (hR.z21)))
      subst e_32
      refine y_to (st' := [.int (iI (S 8 0)), .int (iI c)]) rfl rfl rfl ?_
      refine y_icmp_ge hE 103 (by decide) (by omega) (by omega) dX12_addPose_35 (fun c_35 => ?_) (fun c_35 => ?_)
      · exact y_vret (r := 0) hE rfl hQ dX12_addPose_103 Ext.rf ⟨rfl, rfl, hk2, by rw [show S 8 0 = c by omega]; exact hR2⟩
      · have wl := hW.len c (by omega) (by omega)
        have hwc := hwt c (by omega) (by omega)
        have hwn := wt_nn hW hD 4 (S 15 s) wg c hnd
        have hwn2 := hwn.2 hwg.1
        have htk := trkP_fin hW (k := c) hnd hph.1 hwg.1 hB (by omega)
        have hti := time_in hW (c := c) (by omega) hph.1
        refine y_aload_n hE rfl 1 rfl dX12_addPose_38 ?_
        refine gX12_14r (z := 0) hE hlm ((hk2 12 mi 14 (by (try dsimp only); omega)).trans (hR.m14 (i := mi) (by omega))) (by omega) dX12_addPose_39 (fun hl_39 => ?_)
        refine gX12_299r (z := 0) hE hl_39 ((hk2 1 0 8 (by (try dsimp only); omega)).trans (hR.c8)) (by omega) dX12_addPose_42 (fun hl_42 => ?_)
        refine gX12_259r (z := 0) hE hl_42 ((hk2 3 0 0 (by (try dsimp only); omega)).trans (hR.b0 (i := 0) (by omega))) (by omega) dX12_addPose_45 (fun hl_45 => ?_)
        refine y_iload_n hE rfl 0 rfl dX12_addPose_48 ?_
        refine y_iald hE rfl hl_45 (by have hL : K2 34 0 (-1) = 12 := ((hk2 34 0 (-1) (by (try dsimp only); omega)).trans (hR.b34 (i := 0) (by omega))); omega) dX12_addPose_49 ?_
        refine y_to (st' := [.int (iI (wt S 4 (S 15 s) wg c))]) rfl rfl (by rw [show K2 34 0 c = (wt S 4 (S 15 s) wg c) from hwc]) ?_
        refine y_if_le hE 97 (by decide) (by omega) dX12_addPose_50 (fun c_50 => ?_) (fun c_50 => ?_)
        · refine y_iinc hE 0 rfl [(3, .int (iI (c + 1))), (0, .ref (α 12 mi)), (1, .ref (α 13 t)), (2, .int (iI wg))] (by decide) rfl dX12_addPose_97 ?_
          refine y_goto hE 24 (by decide) dX12_addPose_100 ?_
          exact ih24 K2 (c + 1) (hk2) (by omega) (by rw [trkP_s (by omega)]; first | (rw [if_neg (by omega)]; exact hR2) | (rw [if_pos (by omega)]; exact hr_94)) (by first | exact hwt | exact fun c c0 c1 => (hk_94 34 0 c (by (try dsimp only); omega)).trans (hwt c c0 c1)) (by omega)
        · refine y_aload_n hE rfl 1 rfl dX12_addPose_53 ?_
          refine gX12_14r (z := 0) hE hlm ((hk2 12 mi 14 (by (try dsimp only); omega)).trans (hR.m14 (i := mi) (by omega))) (by omega) dX12_addPose_54 (fun hl_54 => ?_)
          refine gX12_178r (z := 0) hE hl_54 ((hk2 1 0 7 (by (try dsimp only); omega)).trans (hR.c7)) (by omega) dX12_addPose_57 (fun hl_57 => ?_)
          refine y_iload_n hE rfl 0 rfl dX12_addPose_60 ?_
          refine y_aload_n hE rfl 1 rfl dX12_addPose_61 ?_
          refine gX12_14r (z := 0) hE hlm ((hk2 12 mi 14 (by (try dsimp only); omega)).trans (hR.m14 (i := mi) (by omega))) (by omega) dX12_addPose_62 (fun hl_62 => ?_)
          refine gX12_256r (z := 0) hE hl_62 ((hk2 1 0 1 (by (try dsimp only); omega)).trans (hR.c1)) (by omega) dX12_addPose_65 (fun hl_65 => ?_)
          refine y_iload_n hE rfl 0 rfl dX12_addPose_68 ?_
          refine y_callV hE (m_J2_get 21 51 6 0 c rfl rfl hl_65 (by have e1 : K2 21 0 1 = 0 := ((hk2 21 0 1 (by (try dsimp only); omega)).trans (hR.l21)); omega) (by have e1 : K2 21 0 1 = 0 := ((hk2 21 0 1 (by (try dsimp only); omega)).trans (hR.l21)); have e2 : K2 21 0 2 = (S 8 0) := ((hk2 21 0 2 (by (try dsimp only); omega)).trans (hR.z21)); have e3 : K2 51 0 (-1) = 12 := ((hk2 51 0 (-1) (by (try dsimp only); omega)).trans (hR.m21)); rw [e1, e2, e3]; omega) (by have e2 : K2 21 0 2 = (S 8 0) := ((hk2 21 0 2 (by (try dsimp only); omega)).trans (hR.z21)); rw [e2]; omega) (by have e1 : K2 21 0 1 = 0 := ((hk2 21 0 1 (by (try dsimp only); omega)).trans (hR.l21)); have e4 : K2 51 0 c = c := ((hk2 51 0 c (by (try dsimp only); omega)).trans (hR.c51 (i := c) (by omega))); rw [e1, e4]; omega)) (lw_V q823 q673 q674 q111 q675) (nA := 1) (by decide +kernel) rfl ⟨Nat.le_of_ble_eq_true rfl, Nat.le_of_ble_eq_true rfl⟩ (hdd := rfl) (hcc := rfl) (hq := rfl) (hi := hl_65) (rest := [.int (iI c), .ref (α 2 0)]) rfl (by simp [refV_cat, Value.category]) dX12_addPose_69 (bc' := 0) (bs' := 0) (Nat.le_refl _) (Nat.le_refl _) (fun r_69 n_69 α_69 K_69 hx_69 hp_69 => ?_)
          obtain ⟨rfl, rfl, rfl, hr_69⟩ := hp_69
          have e_69 : c = r_69 := Eq.symm (by have e1 : K2 21 0 1 = 0 := ((hk2 21 0 1 (by (try dsimp only); omega)).trans (hR.l21)); have e4 : K2 51 0 c = c := ((hk2 51 0 c (by (try dsimp only); omega)).trans (hR.c51 (i := c) (by omega))); rw [hr_69.1, e1, e4])
          subst e_69
          refine y_to (st' := [refV α 6 c, .int (iI c), .ref (α 2 0)]) rfl rfl rfl ?_
          have hl_69 : (0 : Int) ≤ c ∧ c < n 6 := hr_69.2
          refine y_ref hl_69.1 ?_
          refine y_castE hE rfl rfl hl_69 q872 rfl dX12_addPose_72 ?_
          refine y_aload_n hE rfl 2 rfl dX12_addPose_75 ?_
          refine gX12_187 (z := ph) hE ht ((hk2 13 t 2 (by (try dsimp only); omega)).trans e2) dX12_addPose_76 ?_
          refine y_callV hE (m_X6_timeAt S c ph (hR.kf (P := fun k i f => k = 34 ∧ i = 0 ∧ 0 ≤ f ∨ k = 2 ∧ i = 0 ∧ f = 3 ∨ k = 31 ∧ i = 0 ∧ 0 ≤ f ∨ k = 32 ∧ i = 0 ∧ 0 ≤ f ∨ k = 33 ∧ i = 0 ∧ 0 ≤ f) hk2 hfoot) (by assumption) (by omega) hl_69 (by omega)) (lw_V q873 q874 q875 q139 q876) (nA := 1) (by decide +kernel) rfl ⟨Nat.le_of_ble_eq_true rfl, Nat.le_of_ble_eq_true rfl⟩ (hdd := rfl) (hcc := rfl) (hq := rfl) (hi := hl_69) (rest := [.int (iI c), .ref (α 2 0)]) rfl (by simp [refV_cat, Value.category]) dX12_addPose_79 (bc' := 0) (bs' := 0) (Nat.le_refl _) (Nat.le_refl _) (fun r_79 n_79 α_79 K_79 hx_79 hp_79 => ?_)
          obtain ⟨rfl, rfl, rfl, hr_79⟩ := hp_79
          have e_79 : (min (S 4 c - 1) (ph * S 4 c / 1000000)) = r_79 := Eq.symm (hr_79)
          subst e_79
          refine y_to (st' := [.int (iI (min (S 4 c - 1) (ph * S 4 c / 1000000))), .int (iI c), .ref (α 2 0)]) rfl rfl rfl ?_
          refine y_aload_n hE rfl 1 rfl dX12_addPose_82 ?_
          refine gX12_14r (z := 0) hE hlm ((hk2 12 mi 14 (by (try dsimp only); omega)).trans (hR.m14 (i := mi) (by omega))) (by omega) dX12_addPose_83 (fun hl_83 => ?_)
          refine gX12_299r (z := 0) hE hl_83 ((hk2 1 0 8 (by (try dsimp only); omega)).trans (hR.c8)) (by omega) dX12_addPose_86 (fun hl_86 => ?_)
          refine gX12_259r (z := 0) hE hl_86 ((hk2 3 0 0 (by (try dsimp only); omega)).trans (hR.b0 (i := 0) (by omega))) (by omega) dX12_addPose_89 (fun hl_89 => ?_)
          refine y_iload_n hE rfl 0 rfl dX12_addPose_92 ?_
          refine y_iald hE rfl hl_89 (by have hL : K2 34 0 (-1) = 12 := ((hk2 34 0 (-1) (by (try dsimp only); omega)).trans (hR.b34 (i := 0) (by omega))); omega) dX12_addPose_93 ?_
          refine y_to (st' := [.int (iI (wt S 4 (S 15 s) wg c)), .int (iI (min (S 4 c - 1) (ph * S 4 c / 1000000))), .int (iI c), .ref (α 2 0)]) rfl rfl (by rw [show K2 34 0 c = (wt S 4 (S 15 s) wg c) from hwc]) ?_
          refine y_callV hE (m_X2_add S (trkP S (S 15 s) ph wg P c.toNat) 0 c (min (S 4 c - 1) (ph * S 4 c / 1000000)) (wt S 4 (S 15 s) wg c) (hR.kf (P := fun k i f => k = 34 ∧ i = 0 ∧ 0 ≤ f ∨ k = 2 ∧ i = 0 ∧ f = 3 ∨ k = 31 ∧ i = 0 ∧ 0 ≤ f ∨ k = 32 ∧ i = 0 ∧ 0 ≤ f ∨ k = 33 ∧ i = 0 ∧ 0 ≤ f) hk2 hfoot) hl_57 (hR2) (htk.1.1) (htk.1.eok hW (by omega)) (by have := trkP_lt hW (w := wg) hnd hph.1 hB (k := c) (by omega) (by omega); omega) (by omega) (by omega) (by omega)) (lw_V q833 q834 q835 q128 q836) (nA := 3) (by decide +kernel) rfl ⟨Nat.le_of_ble_eq_true rfl, Nat.le_of_ble_eq_true rfl⟩ (hdd := rfl) (hcc := rfl) (hq := rfl) (hi := hl_57) (rest := []) rfl (by decide) dX12_addPose_94 (bc' := 0) (bs' := 0) (Nat.le_refl _) (Nat.le_refl _) (fun r_94 n_94 α_94 K_94 hx_94 hp_94 => ?_)
          obtain ⟨rfl, rfl, hk_94, hr_94⟩ := hp_94
          refine y_to (st' := []) rfl rfl rfl ?_
          refine y_iinc hE 0 rfl [(3, .int (iI (c + 1))), (0, .ref (α 12 mi)), (1, .ref (α 13 t)), (2, .int (iI wg))] (by decide) rfl dX12_addPose_97 ?_
          refine y_goto hE 24 (by decide) dX12_addPose_100 ?_
          exact ih24 K_94 (c + 1) ((hk2.tr (KF.mono hk_94 (fun k i f z => by (try dsimp only at z ⊢); omega)))) (by omega) (by rw [trkP_s (by omega)]; first | (rw [if_neg (by omega)]; exact hR2) | (rw [if_pos (by omega)]; exact hr_94)) (by first | exact hwt | exact fun c c0 c1 => (hk_94 34 0 c (by (try dsimp only); omega)).trans (hwt c c0 c1)) (by omega)
  exact L24 _ K_19 0 ((KF.mono hk_19 (fun k i f z => by (try dsimp only at z ⊢); omega))) (by omega) (hP.congr (hk_19 2 0 3 (by (try dsimp only); omega)) (fun j _ _ => ⟨hk_19 31 0 j (by (try dsimp only); omega), hk_19 32 0 j (by (try dsimp only); omega), hk_19 33 0 j (by (try dsimp only); omega)⟩)) (hr_19) (Nat.lt_succ_self _)
set_option maxHeartbeats 4000000 in
set_option maxRecDepth 100000 in
theorem m_X12_addFrozen {w : KW} {n : KN} {α : KA} {K : KS} (S : SS) (mi sh : Int) (hR : Rst S n K) (hW : WFs S) (hlm : 0 ≤ mi ∧ mi < n 12) (hfz : PA (frS S 0) (K 2 (mi + 1) 3) (K 31 (mi + 1)) (K 32 (mi + 1)) (K 33 (mi + 1))) (hF : FrOk S) (hmn : 0 ≤ S 0 21 ∧ S 0 21 ≤ 24) (hsh : 0 ≤ sh ∧ sh ≤ 1000000) (hP : PA [] (K 2 0 3) (K 31 0) (K 32 0) (K 33 0)) : KM w yX12_addFrozen cX12_addFrozen 5 none { frames := 3, cells := 0, slots := 0, locals := 69 } (3, 0) [.ref (α 12 mi), .int (iI sh)] n α K (fun r n' α' K' => n = n' ∧ α = α' ∧ KF K K' (fun k i f => k = 34 ∧ i = 0 ∧ 0 ≤ f ∨ k = 2 ∧ i = 0 ∧ f = 3 ∨ k = 31 ∧ i = 0 ∧ 0 ≤ f ∨ k = 32 ∧ i = 0 ∧ 0 ≤ f ∨ k = 33 ∧ i = 0 ∧ 0 ≤ f) ∧ (PA (frP S sh (S 0 21).toNat) (K' 2 0 3) (K' 31 0) (K' 32 0) (K' 33 0))) := by
  refine y_start (by decide) (Nat.le_of_ble_eq_true rfl) (fun x hE hQ => ?_)
  have hw := hQ.2
  subst hw
  have hE : YE x cX12_addFrozen RX12 none "addFrozen" 5 { frames := 3, cells := 0, slots := 0, locals := 69 } := hE
  refine y_wk (fun hWK => ?_)
  have hn0 := hWK.1
  refine y_bud (bc' := 0) (bs' := 0) (Nat.le_refl _) (Nat.le_refl _) ?_
  refine y_to (lv' := [(0, .ref (α 12 mi)), (1, .int (iI sh))]) (st' := []) rfl rfl rfl ?_
  have hfoot : ∀ (k : Nat) (i f : Int), (fun k i f => k = 34 ∧ i = 0 ∧ 0 ≤ f ∨ k = 2 ∧ i = 0 ∧ f = 3 ∨ k = 31 ∧ i = 0 ∧ 0 ≤ f ∨ k = 32 ∧ i = 0 ∧ 0 ≤ f ∨ k = 33 ∧ i = 0 ∧ 0 ≤ f) k i f → ¬ SKd k f := fun k i f z => by unfold SKd; (try dsimp only at z); omega
  have wcl := hW.clips
  have n1 := hR.n1
  have n3 := hR.n3
  have n34 := hR.n34
  have n6 := hR.n6
  have n21 := hR.n21
  have n51 := hR.n51
  have n8 := hR.n8
  have n11 := hR.n11
  have wsts := hW.sts
  have wnodes := hW.nodes
  have n2 := hR.n2
  have n2m := hR.n2m
  have n31 := hR.n31
  have n32 := hR.n32
  have n33 := hR.n33
  have hfa := frS_arr hmn.1 hfz
  refine y_iload_n hE rfl 1 rfl dX12_addFrozen_0 ?_
  refine y_istore_n hE rfl [(2, .int (iI sh)), (0, .ref (α 12 mi)), (1, .int (iI sh))] (by decide) rfl dX12_addFrozen_1 ?_
  refine y_iconst hE dX12_addFrozen_2 ?_
  refine y_istore_n hE rfl [(3, .int (iI 0)), (2, .int (iI sh)), (0, .ref (α 12 mi)), (1, .int (iI sh))] (by decide) rfl dX12_addFrozen_3 ?_
  have L4 : ∀ (fuel : Nat) (k ms : Int), (0 ≤ k ∧ k ≤ S 0 21) → (ms = frM S sh k.toNat) → (S 0 21 - k).toNat < fuel → Y x n α K 0 0 4 [(3, .int (iI k)), (2, .int (iI ms)), (0, .ref (α 12 mi)), (1, .int (iI sh))] [] := by
    intro fuel4
    induction fuel4 with
    | zero => intro k ms hk hms hfu4; exact absurd hfu4 (Nat.not_lt_zero _)
    | succ fuel4 ih4 =>
      intro k ms hk hms hfu4
      have hmi := frM_in hF hsh hk
      rw [← hms] at hmi
      refine y_iload_n hE rfl 0 rfl dX12_addFrozen_4 ?_
      refine y_aload_n hE rfl 2 rfl dX12_addFrozen_5 ?_
      refine gX12_30r (z := (mi + 1)) hE hlm (hR.m6 (i := mi) (by omega)) (by omega) dX12_addFrozen_6 (fun hl_6 => ?_)
      refine gX12_308 (z := (S 0 21)) hE hl_6 hfa.1 dX12_addFrozen_9 ?_
      refine y_icmp_ge hE 42 (by decide) (by omega) (by omega) dX12_addFrozen_12 (fun c_12 => ?_) (fun c_12 => ?_)
      · have hms0 : ms = frM S sh (S 0 21).toNat := by rw [hms, show k = S 0 21 by omega]
        refine y_iconst hE dX12_addFrozen_42 ?_
        refine y_istore_n hE rfl [(3, .int (iI 0)), (2, .int (iI ms)), (0, .ref (α 12 mi)), (1, .int (iI sh))] (by decide) rfl dX12_addFrozen_43 ?_
        have L44 : ∀ (fuel : Nat) (K2 : KS) (k : Int), (KF K K2 (fun k i f => k = 34 ∧ i = 0 ∧ 0 ≤ f ∨ k = 2 ∧ i = 0 ∧ f = 3 ∨ k = 31 ∧ i = 0 ∧ 0 ≤ f ∨ k = 32 ∧ i = 0 ∧ 0 ≤ f ∨ k = 33 ∧ i = 0 ∧ 0 ≤ f)) → (0 ≤ k ∧ k ≤ S 0 21) → (PA (frP S sh k.toNat) (K2 2 0 3) (K2 31 0) (K2 32 0) (K2 33 0)) → (S 0 21 - k).toNat < fuel → Y x n α K2 0 0 44 [(3, .int (iI k)), (2, .int (iI ms)), (0, .ref (α 12 mi)), (1, .int (iI sh))] [] := by
          intro fuel44
          induction fuel44 with
          | zero => intro K2 k hk2 hk hR2 hfu44; exact absurd hfu44 (Nat.not_lt_zero _)
          | succ fuel44 ih44 =>
            intro K2 k hk2 hk hR2 hfu44
            refine y_iload_n hE rfl 0 rfl dX12_addFrozen_44 ?_
            refine y_aload_n hE rfl 2 rfl dX12_addFrozen_45 ?_
            refine gX12_30r (z := (mi + 1)) hE hlm ((hk2 12 mi 6 (by (try dsimp only); omega)).trans (hR.m6 (i := mi) (by omega))) (by omega) dX12_addFrozen_46 (fun hl_46 => ?_)
            refine gX12_308 (z := (S 0 21)) hE hl_46 ((hk2 2 (mi + 1) 3 (by (try dsimp only); omega)).trans hfa.1) dX12_addFrozen_49 ?_
            refine y_icmp_ge hE 126 (by decide) (by omega) (by omega) dX12_addFrozen_52 (fun c_52 => ?_) (fun c_52 => ?_)
            · exact y_vret (r := 0) hE rfl hQ dX12_addFrozen_126 Ext.rf ⟨rfl, rfl, hk2, by rw [show S 0 21 = k by omega]; exact hR2⟩
            · have hfl := fr_fl hF hsh (k := k) (by omega)
              have hfe := hF.1 k (by omega) (by omega)
              have hfp := frP_fin hF hsh (k := k) (by omega)
              have hfw := frW_in hF hsh (k := k) (by omega)
              have hfp1 := frP_fin hF hsh (k := k + 1) (by omega)
              have hfs := frP_s (S := S) (sh := sh) (k := k) (by omega)
              refine y_aload_n hE rfl 2 rfl dX12_addFrozen_55 ?_
              refine gX12_30r (z := (mi + 1)) hE hlm ((hk2 12 mi 6 (by (try dsimp only); omega)).trans (hR.m6 (i := mi) (by omega))) (by omega) dX12_addFrozen_56 (fun hl_56 => ?_)
              refine gX12_311r (z := (mi + 1)) hE hl_56 ((hk2 2 (mi + 1) 2 (by (try dsimp only); omega)).trans (hR.o2 (i := (mi + 1)) (by omega))) (by omega) dX12_addFrozen_59 (fun hl_59 => ?_)
              refine y_iload_n hE rfl 0 rfl dX12_addFrozen_62 ?_
              refine y_iald hE rfl hl_59 (by have hL : K2 33 (mi + 1) (-1) = 40 := ((hk2 33 (mi + 1) (-1) (by (try dsimp only); omega)).trans (hR.o33 (i := (mi + 1)) (by omega))); omega) dX12_addFrozen_63 ?_
              refine y_to (st' := [.int (iI (S 0 (22 + 3 * k + 2)))]) rfl rfl (by rw [show K2 33 (mi + 1) k = (S 0 (22 + 3 * k + 2)) from ((hk2 33 (mi + 1) k (by (try dsimp only); omega)).trans (hfa.2 k (by omega) (by omega)).2.2)]) ?_
              refine y_i2l hE (by omega) dX12_addFrozen_64 ?_
              refine y_iload_n hE rfl 3 rfl dX12_addFrozen_65 ?_
              refine y_i2l hE (by omega) dX12_addFrozen_66 ?_
              refine y_ldc2 hE 1000000 (v := 1000000) (by decide) q822 dX12_addFrozen_67 ?_
              refine y_callSN hE (m_X1_share (S 0 (22 + 3 * k + 2)) sh 1000000 (by omega) (by omega)) q825 q826 q108 q827 (nA := 3) (by decide +kernel) rfl ⟨Nat.le_of_ble_eq_true rfl, Nat.le_of_ble_eq_true rfl⟩ (rest := []) rfl (by decide) dX12_addFrozen_70 (bc' := 0) (bs' := 0) (Nat.le_refl _) (Nat.le_refl _) (fun r_70 n_70 α_70 K_70 hx_70 hp_70 => ?_)
              obtain ⟨rfl, rfl, rfl, hr_70⟩ := hp_70
              refine y_to (st' := [.int (iI r_70)]) rfl rfl rfl ?_
              have J82 : ∀ (xm : Int), (xm = if k = 0 then frM S sh (S 0 21).toNat else 0) → Y x n α K2 0 0 82 [(3, .int (iI k)), (2, .int (iI ms)), (0, .ref (α 12 mi)), (1, .int (iI sh))] [.int (iI xm), .int (iI r_70)] := by
                intro xm hxm
                have hwz : r_70 + xm = frW S sh k := by rw [hxm, hr_70, frW]
                have hwb : frW S sh k ≤ 1000000 := by have a := hfp1.1; rw [hfs] at a; by_cases e : frW S sh k > 0; (rw [if_pos e] at a; have q := insP_sum (c := S 0 (22 + 3 * k)) (t := S 0 (22 + 3 * k + 1)) (w := frW S sh k) (frP S sh k.toNat); have z := a.2.2; have y := (sumW_le (frP S sh k.toNat) (fun y hy => (hfp.1.2.1 y hy).2.2.2.2)).1; omega); omega
                refine y_iadd hE dX12_addFrozen_82 ?_
                refine y_istore hE [(4, .int (iI (r_70 + xm))), (3, .int (iI k)), (2, .int (iI ms)), (0, .ref (α 12 mi)), (1, .int (iI sh))] (by decide) rfl dX12_addFrozen_83 ?_
                refine y_iload hE 0 rfl dX12_addFrozen_85 ?_
                refine y_if_le hE 120 (by decide) (by omega) dX12_addFrozen_87 (fun c_87 => ?_) (fun c_87 => ?_)
                · refine y_iinc hE 1 rfl [(3, .int (iI (k + 1))), (4, .int (iI (r_70 + xm))), (2, .int (iI ms)), (0, .ref (α 12 mi)), (1, .int (iI sh))] (by decide) rfl dX12_addFrozen_120 ?_
                  refine y_goto hE 44 (by decide) dX12_addFrozen_123 ?_
                  refine y_lv [0, 2, 3, 4] [(3, .int (iI (k + 1))), (2, .int (iI ms)), (0, .ref (α 12 mi)), (1, .int (iI sh))] rfl ?_
                  exact ih44 K2 (k + 1) (hk2) (by omega) (by rw [hfs]; first | (rw [if_neg (by omega)]; exact hR2) | (rw [if_pos (by omega), ← hwz]; exact hr_117)) (by omega)
                · refine y_aload_n hE rfl 3 rfl dX12_addFrozen_90 ?_
                  refine gX12_14r (z := 0) hE hlm ((hk2 12 mi 14 (by (try dsimp only); omega)).trans (hR.m14 (i := mi) (by omega))) (by omega) dX12_addFrozen_91 (fun hl_91 => ?_)
                  refine gX12_178r (z := 0) hE hl_91 ((hk2 1 0 7 (by (try dsimp only); omega)).trans (hR.c7)) (by omega) dX12_addFrozen_94 (fun hl_94 => ?_)
                  refine y_aload_n hE rfl 3 rfl dX12_addFrozen_97 ?_
                  refine gX12_30r (z := (mi + 1)) hE hlm ((hk2 12 mi 6 (by (try dsimp only); omega)).trans (hR.m6 (i := mi) (by omega))) (by omega) dX12_addFrozen_98 (fun hl_98 => ?_)
                  refine gX12_312r (z := (mi + 1)) hE hl_98 ((hk2 2 (mi + 1) 0 (by (try dsimp only); omega)).trans (hR.o0 (i := (mi + 1)) (by omega))) (by omega) dX12_addFrozen_101 (fun hl_101 => ?_)
                  refine y_iload_n hE rfl 1 rfl dX12_addFrozen_104 ?_
                  refine y_iald hE rfl hl_101 (by have hL : K2 31 (mi + 1) (-1) = 40 := ((hk2 31 (mi + 1) (-1) (by (try dsimp only); omega)).trans (hR.o31 (i := (mi + 1)) (by omega))); omega) dX12_addFrozen_105 ?_
                  refine y_to (st' := [.int (iI (S 0 (22 + 3 * k))), .ref (α 2 0)]) rfl rfl (by rw [show K2 31 (mi + 1) k = (S 0 (22 + 3 * k)) from ((hk2 31 (mi + 1) k (by (try dsimp only); omega)).trans (hfa.2 k (by omega) (by omega)).1)]) ?_
                  refine y_aload_n hE rfl 3 rfl dX12_addFrozen_106 ?_
                  refine gX12_30r (z := (mi + 1)) hE hlm ((hk2 12 mi 6 (by (try dsimp only); omega)).trans (hR.m6 (i := mi) (by omega))) (by omega) dX12_addFrozen_107 (fun hl_107 => ?_)
                  refine gX12_315r (z := (mi + 1)) hE hl_107 ((hk2 2 (mi + 1) 1 (by (try dsimp only); omega)).trans (hR.o1 (i := (mi + 1)) (by omega))) (by omega) dX12_addFrozen_110 (fun hl_110 => ?_)
                  refine y_iload_n hE rfl 1 rfl dX12_addFrozen_113 ?_
                  refine y_iald hE rfl hl_110 (by have hL : K2 32 (mi + 1) (-1) = 40 := ((hk2 32 (mi + 1) (-1) (by (try dsimp only); omega)).trans (hR.o32 (i := (mi + 1)) (by omega))); omega) dX12_addFrozen_114 ?_
                  refine y_to (st' := [.int (iI (S 0 (22 + 3 * k + 1))), .int (iI (S 0 (22 + 3 * k))), .ref (α 2 0)]) rfl rfl (by rw [show K2 32 (mi + 1) k = (S 0 (22 + 3 * k + 1)) from ((hk2 32 (mi + 1) k (by (try dsimp only); omega)).trans (hfa.2 k (by omega) (by omega)).2.1)]) ?_
                  refine y_iload hE 0 rfl dX12_addFrozen_115 ?_
                  refine y_callV hE (m_X2_add S (frP S sh k.toNat) 0 (S 0 (22 + 3 * k)) (S 0 (22 + 3 * k + 1)) (r_70 + xm) (hR.kf (P := fun k i f => k = 34 ∧ i = 0 ∧ 0 ≤ f ∨ k = 2 ∧ i = 0 ∧ f = 3 ∨ k = 31 ∧ i = 0 ∧ 0 ≤ f ∨ k = 32 ∧ i = 0 ∧ 0 ≤ f ∨ k = 33 ∧ i = 0 ∧ 0 ≤ f) hk2 hfoot) hl_94 (hR2) (hfp.1.1) (hfp.1.eok hW (by omega)) (by have := hfp.2; omega) (by omega) (by omega) (by omega)) (lw_V q833 q834 q835 q128 q836) (nA := 3) (by decide +kernel) rfl ⟨Nat.le_of_ble_eq_true rfl, Nat.le_of_ble_eq_true rfl⟩ (hdd := rfl) (hcc := rfl) (hq := rfl) (hi := hl_94) (rest := []) rfl (by decide) dX12_addFrozen_117 (bc' := 0) (bs' := 0) (Nat.le_refl _) (Nat.le_refl _) (fun r_117 n_117 α_117 K_117 hx_117 hp_117 => ?_)
                  obtain ⟨rfl, rfl, hk_117, hr_117⟩ := hp_117
                  refine y_to (st' := []) rfl rfl rfl ?_
                  refine y_iinc hE 1 rfl [(3, .int (iI (k + 1))), (4, .int (iI (r_70 + xm))), (2, .int (iI ms)), (0, .ref (α 12 mi)), (1, .int (iI sh))] (by decide) rfl dX12_addFrozen_120 ?_
                  refine y_goto hE 44 (by decide) dX12_addFrozen_123 ?_
                  refine y_lv [0, 2, 3, 4] [(3, .int (iI (k + 1))), (2, .int (iI ms)), (0, .ref (α 12 mi)), (1, .int (iI sh))] rfl ?_
                  exact ih44 K_117 (k + 1) ((hk2.tr (KF.mono hk_117 (fun k i f z => by (try dsimp only at z ⊢); omega)))) (by omega) (by rw [hfs]; first | (rw [if_neg (by omega)]; exact hR2) | (rw [if_pos (by omega), ← hwz]; exact hr_117)) (by omega)
              refine y_iload_n hE rfl 0 rfl dX12_addFrozen_73 ?_
              refine y_if_ne hE 81 (by decide) (by omega) dX12_addFrozen_74 (fun c_74 => ?_) (fun c_74 => ?_)
              · refine y_iconst hE dX12_addFrozen_81 ?_
                exact J82 0 (by first | (rw [if_pos (by omega)]; exact hms0) | rw [if_neg (by omega)])
              · refine y_iload_n hE rfl 1 rfl dX12_addFrozen_77 ?_
                refine y_goto hE 82 (by decide) dX12_addFrozen_78 ?_
                exact J82 ms (by first | (rw [if_pos (by omega)]; exact hms0) | rw [if_neg (by omega)])
        exact L44 _ K 0 (KF.rf) (by omega) (hP) (Nat.lt_succ_self _)
      · have hfl := fr_fl hF hsh (k := k) (by omega)
        have hfe := hF.1 k (by omega) (by omega)
        refine y_iload_n hE rfl 1 rfl dX12_addFrozen_15 ?_
        refine y_aload_n hE rfl 2 rfl dX12_addFrozen_16 ?_
        refine gX12_30r (z := (mi + 1)) hE hlm (hR.m6 (i := mi) (by omega)) (by omega) dX12_addFrozen_17 (fun hl_17 => ?_)
        refine gX12_311r (z := (mi + 1)) hE hl_17 (hR.o2 (i := (mi + 1)) (by omega)) (by omega) dX12_addFrozen_20 (fun hl_20 => ?_)
        refine y_iload_n hE rfl 0 rfl dX12_addFrozen_23 ?_
        refine y_iald hE rfl hl_20 (by have hL : K 33 (mi + 1) (-1) = 40 := (hR.o33 (i := (mi + 1)) (by omega)); omega) dX12_addFrozen_24 ?_
        refine y_to (st' := [.int (iI (S 0 (22 + 3 * k + 2))), .int (iI ms)]) rfl rfl (by rw [show K 33 (mi + 1) k = (S 0 (22 + 3 * k + 2)) from (hfa.2 k (by omega) (by omega)).2.2]) ?_
        refine y_i2l hE (by omega) dX12_addFrozen_25 ?_
        refine y_iload_n hE rfl 3 rfl dX12_addFrozen_26 ?_
        refine y_i2l hE (by omega) dX12_addFrozen_27 ?_
        refine y_ldc2 hE 1000000 (v := 1000000) (by decide) q822 dX12_addFrozen_28 ?_
        refine y_callSN hE (m_X1_share (S 0 (22 + 3 * k + 2)) sh 1000000 (by omega) (by omega)) q825 q826 q108 q827 (nA := 3) (by decide +kernel) rfl ⟨Nat.le_of_ble_eq_true rfl, Nat.le_of_ble_eq_true rfl⟩ (rest := [.int (iI ms)]) rfl (by simp [refV_cat, Value.category]) dX12_addFrozen_31 (bc' := 0) (bs' := 0) (Nat.le_refl _) (Nat.le_refl _) (fun r_31 n_31 α_31 K_31 hx_31 hp_31 => ?_)
        obtain ⟨rfl, rfl, rfl, hr_31⟩ := hp_31
        refine y_to (st' := [.int (iI r_31), .int (iI ms)]) rfl rfl rfl ?_
        refine y_isub hE dX12_addFrozen_34 ?_
        refine y_istore_n hE rfl [(2, .int (iI (ms - r_31))), (3, .int (iI k)), (0, .ref (α 12 mi)), (1, .int (iI sh))] (by decide) rfl dX12_addFrozen_35 ?_
        refine y_iinc hE 1 rfl [(3, .int (iI (k + 1))), (2, .int (iI (ms - r_31))), (0, .ref (α 12 mi)), (1, .int (iI sh))] (by decide) rfl dX12_addFrozen_36 ?_
        refine y_goto hE 4 (by decide) dX12_addFrozen_39 ?_
        exact ih4 (k + 1) (ms - r_31) (by omega) (by rw [frM_s (by omega), ← hms, hr_31]) (by omega)
  exact L4 _ 0 sh (by omega) (rfl) (Nat.lt_succ_self _)
