set_option linter.unusedVariables false
/-- the places that a machine's view speaks of -/
abbrev MVd (mi : Int) (k : Nat) (i : Int) : Prop := (k = 12 ∧ i = mi) ∨ k = 13 ∨ ((k = 2 ∨ 31 ≤ k ∧ k ≤ 33) ∧ i = mi + 1) ∨ (k = 35 ∧ i = mi)
theorem MV.kf {S : SS} {n : KN} {K K' : KS} {mi ta tb fa fb : Int} {P : Nat → Int → Int → Prop} (h : MV S n K mi ta tb fa fb) (hk : KF K K' P) (hp : ∀ k i f, P k i f → ¬ MVd mi k i) : MV S n K' mi ta tb fa fb := by
  have e12 : ∀ f, K' 12 mi f = K 12 mi f := fun f => hk 12 mi f (fun z => hp _ _ _ z (Or.inl ⟨rfl, rfl⟩))
  have e13 : ∀ i f, K' 13 i f = K 13 i f := fun i f => hk 13 i f (fun z => hp _ _ _ z (Or.inr (Or.inl rfl)))
  have eo : ∀ k : Nat, (k = 2 ∨ 31 ≤ k ∧ k ≤ 33) → ∀ f, K' k (mi + 1) f = K k (mi + 1) f := fun k hq f => hk k _ f (fun z => hp _ _ _ z (Or.inr (Or.inr (Or.inl ⟨hq, rfl⟩))))
  have e35 : ∀ f, K' 35 mi f = K 35 mi f := fun f => hk 35 mi f (fun z => hp _ _ _ z (Or.inr (Or.inr (Or.inr ⟨rfl, rfl⟩))))
  obtain ⟨a1, a2, a3, a4, a5, a6⟩ := h
  unfold MV
  simp only [e12, e13, e35]
  exact ⟨a1, a2, a3, a4, fun z => (a5 z).congr (eo 2 (by omega) 3) (fun j _ _ => ⟨eo 31 (by omega) j, eo 32 (by omega) j, eo 33 (by omega) j⟩), a6⟩
set_option maxHeartbeats 4000000 in
set_option maxRecDepth 100000 in
theorem m_X12_poseNow {w : KW} {n : KN} {α : KA} {K : KS} (S : SS) (mi ta tb fa fb : Int) (T : Int) (hR : Rst S n K) (hW : WFs S) (hlm : 0 ≤ mi ∧ mi < n 12) (hV : MV S n K mi ta tb fa fb) (hv0 : WFv S) (hX : WFm S 0 T) (h19 : 0 < S 19 0) : KM w yX12_poseNow cX12_poseNow 2 none { frames := 8, cells := 0, slots := 0, locals := 210 } (3, 0) [.ref (α 12 mi)] n α K (fun r n' α' K' => n = n' ∧ α = α' ∧ KF K K' (fun k i f => k = 34 ∧ i = 0 ∧ 0 ≤ f ∨ k = 2 ∧ i = 0 ∧ f = 3 ∨ k = 31 ∧ i = 0 ∧ 0 ≤ f ∨ k = 32 ∧ i = 0 ∧ 0 ≤ f ∨ k = 33 ∧ i = 0 ∧ 0 ≤ f) ∧ (PA (poseS S) (K' 2 0 3) (K' 31 0) (K' 32 0) (K' 33 0))) := by
  refine y_start (by decide) (Nat.le_of_ble_eq_true rfl) (fun x hE hQ => ?_)
  have hw := hQ.2
  subst hw
  have hE : YE x cX12_poseNow RX12 none "poseNow" 2 { frames := 8, cells := 0, slots := 0, locals := 210 } := hE
  refine y_wk (fun hWK => ?_)
  have hn0 := hWK.1
  refine y_bud (bc' := 0) (bs' := 0) (Nat.le_refl _) (Nat.le_refl _) ?_
  refine y_to (lv' := [(0, .ref (α 12 mi))]) (st' := []) rfl rfl rfl ?_
  have hfoot : ∀ (k : Nat) (i f : Int), (fun k i f => k = 34 ∧ i = 0 ∧ 0 ≤ f ∨ k = 2 ∧ i = 0 ∧ f = 3 ∨ k = 31 ∧ i = 0 ∧ 0 ≤ f ∨ k = 32 ∧ i = 0 ∧ 0 ≤ f ∨ k = 33 ∧ i = 0 ∧ 0 ≤ f) k i f → ¬ SKd k f := fun k i f z => by unfold SKd; (try dsimp only at z); omega
  have wcl := hW.clips
  have n1 := hR.n1
  have n3 := hR.n3
  have n34 := hR.n34
  have n6 := hR.n6
  have n21 := hR.n21
  have n51 := hR.n51
  have n8 := hR.n8
  have n11 := hR.n11
  have wsts := hW.sts
  have wnodes := hW.nodes
  have va := hV.a
  have vb := hV.b
  have vs := hV.st
  have vl := hV.lg
  have hfmv : ∀ (k : Nat) (i f : Int), (fun k i f => k = 34 ∧ i = 0 ∧ 0 ≤ f ∨ k = 2 ∧ i = 0 ∧ f = 3 ∨ k = 31 ∧ i = 0 ∧ 0 ≤ f ∨ k = 32 ∧ i = 0 ∧ 0 ≤ f ∨ k = 33 ∧ i = 0 ∧ 0 ≤ f) k i f → ¬ MVd mi k i := fun k i f z => by unfold MVd; (try dsimp only at z); omega
  have xinn := hX.inn
  have xfro := hX.fro
  have xmany := hX.many
  have xcuts := hX.cuts
  have xta := hX.ta
  have xtb := hX.tb
  have xfz := hX.fz
  simp only [Int.zero_add] at xinn xfro xmany xcuts xta xtb xfz
  unfold TkOk at xta xtb
  have n2 := hR.n2
  have xtaa := xta h19
  have hf5 : K 12 mi 5 = S 0 20 := by rcases vs with h | h; (have := h.2.2.2.2.2; omega); exact h.2.2.2.2.2
  refine y_aload_n hE rfl 0 rfl dX12_poseNow_0 ?_
  refine gX12_14r (z := 0) hE hlm (hR.m14 (i := mi) (by omega)) (by omega) dX12_poseNow_1 (fun hl_1 => ?_)
  refine gX12_178r (z := 0) hE hl_1 (hR.c7) (by omega) dX12_poseNow_4 (fun hl_4 => ?_)
  refine y_iconst hE dX12_poseNow_7 ?_
  refine pX12_308 hE hl_4 dX12_poseNow_8 ?_
  have J26 : ∀ (sh : Int), (S 0 8 = 0 ∧ sh = 0 ∨ S 0 8 = 1 ∧ sh = shS S ∧ 0 ≤ sh ∧ sh ≤ 1000000) → Y x n α (up3 K 2 0 3 0) 0 0 26 [(0, .ref (α 12 mi))] [.int (iI sh)] := by
    intro sh hsh
    have hP0 : PA [] ((up3 K 2 0 3 0) 2 0 3) ((up3 K 2 0 3 0) 31 0) ((up3 K 2 0 3 0) 32 0) ((up3 K 2 0 3 0) 33 0) := (PA.congr (fc := K 31 0) (ft := K 32 0) (fw := K 33 0) (m := 0) ⟨rfl, fun k e he => by simp at he⟩ (by simp [up3]) (fun j j0 j1 => by omega))
    refine y_istore_n hE rfl [(1, .int (iI sh)), (0, .ref (α 12 mi))] (by decide) rfl dX12_poseNow_26 ?_
    have J57 : ∀ (K2 : KS), (KF K K2 (fun k i f => k = 34 ∧ i = 0 ∧ 0 ≤ f ∨ k = 2 ∧ i = 0 ∧ f = 3 ∨ k = 31 ∧ i = 0 ∧ 0 ≤ f ∨ k = 32 ∧ i = 0 ∧ 0 ≤ f ∨ k = 33 ∧ i = 0 ∧ 0 ≤ f)) → (PA (if S 0 8 = 0 then trkP S (S 15 (S 0 12)) (S 0 (12 + 2)) 1000000 [] (S 8 0).toNat else if S 0 20 = 1 then frP S (1000000 - shS S) (S 0 21).toNat else trkP S (S 15 (S 0 12)) (S 0 (12 + 2)) (1000000 - shS S) [] (S 8 0).toNat) (K2 2 0 3) (K2 31 0) (K2 32 0) (K2 33 0)) → Y x n α K2 0 0 57 [(1, .int (iI sh)), (0, .ref (α 12 mi))] [] := by
      intro K2 hk2 hP2
      refine y_aload_n hE rfl 1 rfl dX12_poseNow_57 ?_
      refine y_callV hE (m_X12_isIdle S mi ta tb fa fb (hR.kf (P := fun k i f => k = 34 ∧ i = 0 ∧ 0 ≤ f ∨ k = 2 ∧ i = 0 ∧ f = 3 ∨ k = 31 ∧ i = 0 ∧ 0 ≤ f ∨ k = 32 ∧ i = 0 ∧ 0 ≤ f ∨ k = 33 ∧ i = 0 ∧ 0 ≤ f) hk2 hfoot) (by assumption) hlm (hV.kf (P := fun k i f => k = 34 ∧ i = 0 ∧ 0 ≤ f ∨ k = 2 ∧ i = 0 ∧ f = 3 ∨ k = 31 ∧ i = 0 ∧ 0 ≤ f ∨ k = 32 ∧ i = 0 ∧ 0 ≤ f ∨ k = 33 ∧ i = 0 ∧ 0 ≤ f) hk2 hfmv)) (lw_V q817 q790 q791 q145 q792) (nA := 0) (by decide +kernel) rfl ⟨Nat.le_of_ble_eq_true rfl, Nat.le_of_ble_eq_true rfl⟩ (hdd := rfl) (hcc := rfl) (hq := rfl) (hi := hlm) (rest := []) rfl (by decide) dX12_poseNow_58 (bc' := 0) (bs' := 0) (Nat.le_refl _) (Nat.le_refl _) (fun r_58 n_58 α_58 K_58 hx_58 hp_58 => ?_)
      obtain ⟨rfl, rfl, rfl, hr_58⟩ := hp_58
      refine y_to (st' := [.int (iI r_58)]) rfl rfl rfl ?_
      refine y_if_ne hE 73 (by decide) (by omega) dX12_poseNow_61 (fun c_61 => ?_) (fun c_61 => ?_)
      · exact y_vret (r := 0) hE rfl hQ dX12_poseNow_73 Ext.rf ⟨rfl, rfl, hk2, by unfold poseS; rw [if_neg (by omega)]; first | (rw [if_pos (by omega)]; rw [if_pos (by omega)] at hP2; exact hP2) | (rw [if_neg (by omega)]; have q := hr_70; rw [hsh2] at q; exact q)⟩
      · have h8 : S 0 8 = 1 := by omega
        obtain ⟨hz1, hz2⟩ := poseS_1 hW hX h19 (by omega)
        obtain ⟨hb1, hb2, hb3, hb4, hb5⟩ := xtb h8
        have hmv := hV.kf (P := fun k i f => k = 34 ∧ i = 0 ∧ 0 ≤ f ∨ k = 2 ∧ i = 0 ∧ f = 3 ∨ k = 31 ∧ i = 0 ∧ 0 ≤ f ∨ k = 32 ∧ i = 0 ∧ 0 ≤ f ∨ k = 33 ∧ i = 0 ∧ 0 ≤ f) hk2 hfmv
        have hsb := (hmv.st.resolve_left (by omega)).2.1
        have hb20 := hsb.2.2.1
        have hb22 : K2 13 tb 2 = S 0 (16 + 2) := hsb.2.2.2.2.1
        have hP2b := hP2
        rw [if_neg (by omega)] at hP2b
        have hsh2 : sh = shS S := by omega
        refine y_aload_n hE rfl 1 rfl dX12_poseNow_64 ?_
        refine y_aload_n hE rfl 1 rfl dX12_poseNow_65 ?_
        refine gX12_53r (z := tb) hE hlm ((hk2 12 mi 1 (by (try dsimp only); omega)).trans vb.1) (by omega) dX12_poseNow_66 (fun hl_66 => ?_)
        refine y_iload_n hE rfl 0 rfl dX12_poseNow_69 ?_
        refine y_callV hE (m_X12_addPose S (if S 0 20 = 1 then frP S (1000000 - shS S) (S 0 21).toNat else trkP S (S 15 (S 0 12)) (S 0 (12 + 2)) (1000000 - shS S) [] (S 8 0).toNat) mi tb (S 0 16) (S 0 (16 + 2)) sh (hR.kf (P := fun k i f => k = 34 ∧ i = 0 ∧ 0 ≤ f ∨ k = 2 ∧ i = 0 ∧ f = 3 ∨ k = 31 ∧ i = 0 ∧ 0 ≤ f ∨ k = 32 ∧ i = 0 ∧ 0 ≤ f ∨ k = 33 ∧ i = 0 ∧ 0 ≤ f) hk2 hfoot) (by assumption) (by assumption) hlm hl_66 (hb20) (hb22) (by omega) (by omega) (by omega) (by rw [hsh2]; exact hz1) (by omega) (hP2b)) (lw_V q844 q846 qs5 q145 q847) (nA := 2) (by decide +kernel) rfl ⟨Nat.le_of_ble_eq_true rfl, Nat.le_of_ble_eq_true rfl⟩ (hdd := rfl) (hcc := rfl) (hq := rfl) (hi := hlm) (rest := []) rfl (by decide) dX12_poseNow_70 (bc' := 0) (bs' := 0) (Nat.le_refl _) (Nat.le_refl _) (fun r_70 n_70 α_70 K_70 hx_70 hp_70 => ?_)
        obtain ⟨rfl, rfl, hk_70, hr_70⟩ := hp_70
        refine y_to (st' := []) rfl rfl rfl ?_
        exact y_vret (r := 0) hE rfl hQ dX12_poseNow_73 Ext.rf ⟨rfl, rfl, (hk2.tr (KF.mono hk_70 (fun k i f z => by (try dsimp only at z ⊢); omega))), by unfold poseS; rw [if_neg (by omega)]; first | (rw [if_pos (by omega)]; rw [if_pos (by omega)] at hP2; exact hP2) | (rw [if_neg (by omega)]; have q := hr_70; rw [hsh2] at q; exact q)⟩
    refine y_aload_n hE rfl 1 rfl dX12_poseNow_27 ?_
    refine gX12_62 (z := (S 0 20)) hE hlm hf5 dX12_poseNow_28 ?_
    refine y_if_eq hE 45 (by decide) (by omega) dX12_poseNow_31 (fun c_31 => ?_) (fun c_31 => ?_)
    · refine y_aload_n hE rfl 1 rfl dX12_poseNow_45 ?_
      refine y_aload_n hE rfl 1 rfl dX12_poseNow_46 ?_
      refine gX12_45r (z := ta) hE hlm va.1 (by omega) dX12_poseNow_47 (fun hl_47 => ?_)
      refine y_ldc hE 1000000 (v := 1000000) (by decide) q828 dX12_poseNow_50 ?_
      refine y_iload_n hE rfl 0 rfl dX12_poseNow_52 ?_
      refine y_isub hE dX12_poseNow_53 ?_
      refine y_callV hE (m_X12_addPose S ([]) mi ta (S 0 12) (S 0 (12 + 2)) (1000000 - sh) (hR.kf (P := fun k i f => k = 34 ∧ i = 0 ∧ 0 ≤ f ∨ k = 2 ∧ i = 0 ∧ f = 3 ∨ k = 31 ∧ i = 0 ∧ 0 ≤ f ∨ k = 32 ∧ i = 0 ∧ 0 ≤ f ∨ k = 33 ∧ i = 0 ∧ 0 ≤ f) (KF.up KF.rf (by (try dsimp only); omega)) hfoot) (by assumption) (by assumption) hlm hl_47 ((hV.kf (P := fun k i f => k = 34 ∧ i = 0 ∧ 0 ≤ f ∨ k = 2 ∧ i = 0 ∧ f = 3 ∨ k = 31 ∧ i = 0 ∧ 0 ≤ f ∨ k = 32 ∧ i = 0 ∧ 0 ≤ f ∨ k = 33 ∧ i = 0 ∧ 0 ≤ f) (KF.up KF.rf (by (try dsimp only); omega)) hfmv).a.2.2.2.1) ((hV.kf (P := fun k i f => k = 34 ∧ i = 0 ∧ 0 ≤ f ∨ k = 2 ∧ i = 0 ∧ f = 3 ∨ k = 31 ∧ i = 0 ∧ 0 ≤ f ∨ k = 32 ∧ i = 0 ∧ 0 ≤ f ∨ k = 33 ∧ i = 0 ∧ 0 ≤ f) (KF.up KF.rf (by (try dsimp only); omega)) hfmv).a.2.2.2.2.2.1) (by omega) (by omega) (by omega) (PoseB.nil (by omega)) (Nat.zero_le _) (hP0)) (lw_V q844 q846 qs5 q145 q847) (nA := 2) (by decide +kernel) rfl ⟨Nat.le_of_ble_eq_true rfl, Nat.le_of_ble_eq_true rfl⟩ (hdd := rfl) (hcc := rfl) (hq := rfl) (hi := hlm) (rest := []) rfl (by decide) dX12_poseNow_54 (bc' := 0) (bs' := 0) (Nat.le_refl _) (Nat.le_refl _) (fun r_54 n_54 α_54 K_54 hx_54 hp_54 => ?_)
      obtain ⟨rfl, rfl, hk_54, hr_54⟩ := hp_54
      refine y_to (st' := []) rfl rfl rfl ?_
      exact J57 K_54 (((KF.up KF.rf (by (try dsimp only); omega)).tr (KF.mono hk_54 (fun k i f z => by (try dsimp only at z ⊢); omega)))) (by first | (rw [if_neg (by omega), if_pos (by omega), show shS S = sh by omega]; exact hr_39) | (rcases hsh with h | h; (rw [if_pos h.1, show (1000000 : Int) = 1000000 - sh by omega]; exact hr_54); (rw [if_neg (by omega), if_neg (by omega), ← h.2.1]; exact hr_54)))
    · refine y_aload_n hE rfl 1 rfl dX12_poseNow_34 ?_
      refine y_ldc hE 1000000 (v := 1000000) (by decide) q828 dX12_poseNow_35 ?_
      refine y_iload_n hE rfl 0 rfl dX12_poseNow_37 ?_
      refine y_isub hE dX12_poseNow_38 ?_
      refine y_callV hE (m_X12_addFrozen S mi (1000000 - sh) (hR.kf (P := fun k i f => k = 34 ∧ i = 0 ∧ 0 ≤ f ∨ k = 2 ∧ i = 0 ∧ f = 3 ∨ k = 31 ∧ i = 0 ∧ 0 ≤ f ∨ k = 32 ∧ i = 0 ∧ 0 ≤ f ∨ k = 33 ∧ i = 0 ∧ 0 ≤ f) (KF.up KF.rf (by (try dsimp only); omega)) hfoot) (by assumption) hlm ((hV.kf (P := fun k i f => k = 34 ∧ i = 0 ∧ 0 ≤ f ∨ k = 2 ∧ i = 0 ∧ f = 3 ∨ k = 31 ∧ i = 0 ∧ 0 ≤ f ∨ k = 32 ∧ i = 0 ∧ 0 ≤ f ∨ k = 33 ∧ i = 0 ∧ 0 ≤ f) (KF.up KF.rf (by (try dsimp only); omega)) hfmv).fz (by omega)) (frS_ok (xfz (by omega))) (by omega) (by omega) (hP0)) (lw_V q829 q831 qs3 q145 q832) (nA := 1) (by decide +kernel) rfl ⟨Nat.le_of_ble_eq_true rfl, Nat.le_of_ble_eq_true rfl⟩ (hdd := rfl) (hcc := rfl) (hq := rfl) (hi := hlm) (rest := []) rfl (by decide) dX12_poseNow_39 (bc' := 0) (bs' := 0) (Nat.le_refl _) (Nat.le_refl _) (fun r_39 n_39 α_39 K_39 hx_39 hp_39 => ?_)
      obtain ⟨rfl, rfl, hk_39, hr_39⟩ := hp_39
      refine y_to (st' := []) rfl rfl rfl ?_
      refine y_goto hE 57 (by decide) dX12_poseNow_42 ?_
      exact J57 K_39 (((KF.up KF.rf (by (try dsimp only); omega)).tr (KF.mono hk_39 (fun k i f z => by (try dsimp only at z ⊢); omega)))) (by first | (rw [if_neg (by omega), if_pos (by omega), show shS S = sh by omega]; exact hr_39) | (rcases hsh with h | h; (rw [if_pos h.1, show (1000000 : Int) = 1000000 - sh by omega]; exact hr_54); (rw [if_neg (by omega), if_neg (by omega), ← h.2.1]; exact hr_54)))
  refine y_aload_n hE rfl 0 rfl dX12_poseNow_11 ?_
  refine y_callV hE (m_X12_isIdle S mi ta tb fa fb (hR.kf (P := fun k i f => k = 34 ∧ i = 0 ∧ 0 ≤ f ∨ k = 2 ∧ i = 0 ∧ f = 3 ∨ k = 31 ∧ i = 0 ∧ 0 ≤ f ∨ k = 32 ∧ i = 0 ∧ 0 ≤ f ∨ k = 33 ∧ i = 0 ∧ 0 ≤ f) (KF.up KF.rf (by (try dsimp only); omega)) hfoot) (by assumption) hlm (hV.kf (P := fun k i f => k = 34 ∧ i = 0 ∧ 0 ≤ f ∨ k = 2 ∧ i = 0 ∧ f = 3 ∨ k = 31 ∧ i = 0 ∧ 0 ≤ f ∨ k = 32 ∧ i = 0 ∧ 0 ≤ f ∨ k = 33 ∧ i = 0 ∧ 0 ≤ f) (KF.up KF.rf (by (try dsimp only); omega)) hfmv)) (lw_V q817 q790 q791 q145 q792) (nA := 0) (by decide +kernel) rfl ⟨Nat.le_of_ble_eq_true rfl, Nat.le_of_ble_eq_true rfl⟩ (hdd := rfl) (hcc := rfl) (hq := rfl) (hi := hlm) (rest := []) rfl (by decide) dX12_poseNow_12 (bc' := 0) (bs' := 0) (Nat.le_refl _) (Nat.le_refl _) (fun r_12 n_12 α_12 K_12 hx_12 hp_12 => ?_)
  obtain ⟨rfl, rfl, rfl, hr_12⟩ := hp_12
  refine y_to (st' := [.int (iI r_12)]) rfl rfl rfl ?_
  refine y_if_eq hE 22 (by decide) (by omega) dX12_poseNow_15 (fun c_15 => ?_) (fun c_15 => ?_)
  · obtain ⟨-, hx1, hx2, hx3, hx4⟩ := xtb (by omega)
    have wx9 := hW.tr (S 0 9) hx1 hx2
    have hsx := shS_in (S := S) (by omega)
    refine y_aload_n hE rfl 0 rfl dX12_poseNow_22 ?_
    refine y_callV hE (m_X12_targetShare S mi ta tb fa fb (hR.kf (P := fun k i f => k = 34 ∧ i = 0 ∧ 0 ≤ f ∨ k = 2 ∧ i = 0 ∧ f = 3 ∨ k = 31 ∧ i = 0 ∧ 0 ≤ f ∨ k = 32 ∧ i = 0 ∧ 0 ≤ f ∨ k = 33 ∧ i = 0 ∧ 0 ≤ f) (KF.up KF.rf (by (try dsimp only); omega)) hfoot) (by assumption) hlm (hV.kf (P := fun k i f => k = 34 ∧ i = 0 ∧ 0 ≤ f ∨ k = 2 ∧ i = 0 ∧ f = 3 ∨ k = 31 ∧ i = 0 ∧ 0 ≤ f ∨ k = 32 ∧ i = 0 ∧ 0 ≤ f ∨ k = 33 ∧ i = 0 ∧ 0 ≤ f) (KF.up KF.rf (by (try dsimp only); omega)) hfmv) (by omega) (by omega) (by omega)) (lw_V q818 q819 q820 q145 q821) (nA := 0) (by decide +kernel) rfl ⟨Nat.le_of_ble_eq_true rfl, Nat.le_of_ble_eq_true rfl⟩ (hdd := rfl) (hcc := rfl) (hq := rfl) (hi := hlm) (rest := []) rfl (by decide) dX12_poseNow_23 (bc' := 0) (bs' := 0) (Nat.le_refl _) (Nat.le_refl _) (fun r_23 n_23 α_23 K_23 hx_23 hp_23 => ?_)
    obtain ⟨rfl, rfl, rfl, hr_23⟩ := hp_23
    have e_23 : shS S = r_23 := Eq.symm (by rw [hr_23.1])
    subst e_23
    refine y_to (st' := [.int (iI (shS S))]) rfl rfl rfl ?_
    exact J26 (shS S) (by omega)
  · refine y_iconst hE dX12_poseNow_18 ?_
    refine y_goto hE 26 (by decide) dX12_poseNow_19 ?_
    exact J26 0 (by omega)
