set_option linter.unusedVariables false
/-- the present pose -/
def poseS (S : SS) : SP := if S 19 0 = 0 then [] else if S 0 8 = 0 then trkP S (S 15 (S 0 12)) (S 0 (12 + 2)) 1000000 [] (S 8 0).toNat else
  trkP S (S 15 (S 0 16)) (S 0 (16 + 2)) (shS S) (if S 0 20 = 1 then frP S (1000000 - shS S) (S 0 21).toNat else trkP S (S 15 (S 0 12)) (S 0 (12 + 2)) (1000000 - shS S) [] (S 8 0).toNat) (S 8 0).toNat
theorem poseS_1 {S : SS} (hW : WFs S) {T : Int} (hX : WFm S 0 T) (h0 : 0 < S 19 0) (h8 : S 0 8 ≠ 0) : PoseB S (if S 0 20 = 1 then frP S (1000000 - shS S) (S 0 21).toNat else trkP S (S 15 (S 0 12)) (S 0 (12 + 2)) (1000000 - shS S) [] (S 8 0).toNat) (1000000 - shS S) ∧
    (if S 0 20 = 1 then frP S (1000000 - shS S) (S 0 21).toNat else trkP S (S 15 (S 0 12)) (S 0 (12 + 2)) (1000000 - shS S) [] (S 8 0).toNat).length ≤ 8 + 8 * S 0 11 := by
  have x1 := hX.inn; have x2 := hX.many; have x3 := hX.cuts; have x4 := hX.tb; have x5 := hX.ta; have x6 := hX.fz
  simp only [Int.zero_add] at x1 x2 x3 x4 x5 x6
  obtain ⟨y1, y2, y3, y4, y5⟩ := x4 (by omega)
  have y6 := x5 h0
  have hcl := hW.clips
  have hsh := shS_in (S := S) (by omega)
  by_cases e : S 0 20 = 1
  · rw [if_pos e]
    have h := frP_fin (frS_ok (x6 e)) (sh := 1000000 - shS S) (k := S 0 21) (by omega) (by omega)
    exact ⟨h.1, by have := h.2; omega⟩
  · rw [if_neg e]
    have h := trkP_fin hW (i := S 15 (S 0 12)) (ph := S 0 (12 + 2)) (w := 1000000 - shS S) (x := 0) (P := []) (st_nd hW ⟨y6.1, y6.2.1⟩) y6.2.2.2.2.1 (by omega) (PoseB.nil (by omega)) (k := S 8 0) (by omega)
    exact ⟨h.1.mono (by omega), by have := h.2; simp only [List.length_nil] at this; omega⟩
theorem poseS_ok {S : SS} (hW : WFs S) {T : Int} (hX : WFm S 0 T) : PoseOk S (poseS S) ∧ (poseS S).length ≤ 16 + 8 * S 0 11 := by
  have x1 := hX.inn; have x3 := hX.cuts; have x4 := hX.tb; have x5 := hX.ta
  simp only [Int.zero_add] at x1 x3 x4 x5
  have hcl := hW.clips
  have hst := hW.sts
  unfold poseS
  by_cases e : S 19 0 = 0
  · rw [if_pos e]; exact ⟨PoseB.nil (by omega), by simp only [List.length_nil]; omega⟩
  · rw [if_neg e]
    have y6 := x5 (by omega)
    by_cases e8 : S 0 8 = 0
    · rw [if_pos e8]
      have h := trkP_fin hW (i := S 15 (S 0 12)) (ph := S 0 (12 + 2)) (w := 1000000) (x := 0) (P := []) (st_nd hW ⟨y6.1, y6.2.1⟩) y6.2.2.2.2.1 (by omega) (PoseB.nil (by omega)) (k := S 8 0) (by omega)
      exact ⟨h.1.mono (by omega), by have := h.2; simp only [List.length_nil] at this; omega⟩
    · rw [if_neg e8]
      obtain ⟨y1, y2, y3, y4, y5⟩ := x4 (by omega)
      have hsh := shS_in (S := S) (by omega)
      obtain ⟨z1, z2⟩ := poseS_1 hW hX (by omega) e8
      have h := trkP_fin hW (i := S 15 (S 0 16)) (ph := S 0 (16 + 2)) (w := shS S) (st_nd hW ⟨y1.1, y1.2.1⟩) y1.2.2.2.2.1 hsh.1 z1 (k := S 8 0) (by omega)
      exact ⟨h.1.mono (by omega), by have := h.2; omega⟩
set_option maxHeartbeats 4000000 in
set_option maxRecDepth 100000 in
theorem m_X4_poses {w : KW} {n : KN} {α : KA} {K : KS} (S : SS) (T : Int) (h40 : (0 : Int) ≤ 0 ∧ 0 < n 4) (hM : MRep S n K) (hW : WFs S) (hv0 : WFv S) (hX : WFm S 0 T) : KM w yX4_poses cX4_poses 3 none { frames := 3, cells := 0, slots := 0, locals := 82 } (3, 0) [.ref (α 4 0)] n α K (fun r n' α' K' => n = n' ∧ α = α' ∧ MRep (S) n K' ∧ KO K K' (fun k i => k = 127 ∨ k = 128 ∨ k = 129 ∨ k = 137 ∨ k = 138 ∨ k = 139 ∨ k = 4) ∧ (RPm (poseS S) K' ∧ K' 4 0 25 = K 4 0 25)) := by
  refine y_start (by decide) (Nat.le_of_ble_eq_true rfl) (fun x hE hQ => ?_)
  have hw := hQ.2
  subst hw
  have hE : YE x cX4_poses RX4 none "poses" 3 { frames := 3, cells := 0, slots := 0, locals := 82 } := hE
  refine y_wk (fun hWK => ?_)
  have hn0 := hWK.1
  refine y_bud (bc' := 0) (bs' := 0) (Nat.le_refl _) (Nat.le_refl _) ?_
  refine y_to (lv' := [(0, .ref (α 4 0))]) (st' := []) rfl rfl rfl ?_
  have wpar := hW.par
  have wclips := hW.clips
  have wnodes := hW.nodes
  have wsts := hW.sts
  have wtrs := hW.trs
  have wthr := hW.thr
  have wtxt := hW.txt
  have xinn := hX.inn
  have xcuts := hX.cuts
  have xfro := hX.fro
  have xmany := hX.many
  have xevn := hX.evn
  have xtks := hX.tks
  simp only [Int.zero_add] at xinn xcuts xfro xmany xevn xtks
  have xta := hX.ta
  have xtb := hX.tb
  simp only [Int.zero_add] at xta xtb
  unfold TkOk at xta xtb
  refine y_aload_n hE rfl 0 rfl dX4_poses_0 ?_
  refine y_iconst hE dX4_poses_1 ?_
  refine pX4_265 hE h40 dX4_poses_2 ?_
  have hR0 : RPm [] ((up3 K 4 0 40 0)) := PA.congr (fc := K 137 0) (ft := K 138 0) (fw := K 139 0) (m := 0) ⟨rfl, fun k e he => by simp at he⟩ (by simp [up3]) (fun j j0 j1 => by omega)
  have h250 : ((up3 K 4 0 40 0)) 4 0 25 = K 4 0 25 := by simp [up3]
  refine y_aload_n hE rfl 0 rfl dX4_poses_5 ?_
  refine gX4_145 (z := S 19 0) hE h40 (hM.2.2.2.2.2.1) dX4_poses_6 ?_
  refine y_if_ne hE 13 (by decide) (by omega) dX4_poses_9 (fun c_9 => ?_) (fun c_9 => ?_)
  · refine y_aload_n hE rfl 0 rfl dX4_poses_13 ?_
    refine gX4_7r (z := 0) hE h40 (MObj.r hM.1 0 (by decide)) (by omega) dX4_poses_14 (fun hl_14 => ?_)
    refine y_bipush hE (by decide) dX4_poses_17 ?_
    refine y_iald hE rfl hl_14 (by have hL : (up3 K 4 0 40 0) 100 0 (-1) = 1160 := (MObj.l hM.1 0 (by decide)); omega) dX4_poses_19 ?_
    refine y_to (st' := [.int (iI (S 0 8))]) rfl rfl (by rw [show (up3 K 4 0 40 0) 100 0 8 = S 0 8 from (MRep.ra hM 0 rfl (by omega) (by first | omega | (show _ < (1160 : Int); omega)))]) ?_
    refine y_if_ne hE 33 (by decide) (by omega) dX4_poses_20 (fun c_20 => ?_) (fun c_20 => ?_)
    · have hfo : S 0 20 = 1 → FrOk S := fun z => frS_ok (by have q := hX.fz; simp only [Int.zero_add] at q; exact q z)
      obtain ⟨hz1, hz2⟩ := poseS_1 hW hX (by omega) (by omega)
      refine y_aload_n hE rfl 0 rfl dX4_poses_33 ?_
      refine y_callV hE (m_X4_shareOfTarget S h40 (MRep.t hM 40 (by decide) 0) (by assumption) (by omega) (by omega)) (lw_V q3069 q3071 qs81 q133 q3072) (nA := 0) (by decide +kernel) rfl ⟨Nat.le_of_ble_eq_true rfl, Nat.le_of_ble_eq_true rfl⟩ (hdd := rfl) (hcc := rfl) (hq := rfl) (hi := h40) (rest := []) rfl (by decide) dX4_poses_34 (bc' := 0) (bs' := 0) (Nat.le_refl _) (Nat.le_refl _) (fun r_34 n_34 α_34 K_34 hx_34 hp_34 => ?_)
      obtain ⟨rfl, rfl, rfl, hr_34⟩ := hp_34
      have e_34 : shS S = r_34 := Eq.symm (by rw [hr_34.1])
      subst e_34
      refine y_to (st' := [.long (iL (shS S))]) rfl rfl rfl ?_
      refine y_lstore_n hE rfl [(1, .long (iL (shS S))), (0, .ref (α 4 0))] (by decide) rfl dX4_poses_37 ?_
      have J72 : ∀ (K2 : KS), (MRep S n K2) → (KO K K2 (fun k i => k = 127 ∨ k = 128 ∨ k = 129 ∨ k = 137 ∨ k = 138 ∨ k = 139 ∨ k = 4)) → (RPm (if S 0 20 = 1 then frP S (1000000 - shS S) (S 0 21).toNat else trkP S (S 15 (S 0 12)) (S 0 (12 + 2)) (1000000 - shS S) [] (S 8 0).toNat) K2) → (K2 4 0 25 = K 4 0 25) → Y x n α K2 0 0 72 [(1, .long (iL (shS S))), (0, .ref (α 4 0))] [] := by
        intro K2 hM2 hk2 hR2 h252
        refine y_aload_n hE rfl 1 rfl dX4_poses_72 ?_
        refine y_bipush hE (by decide) dX4_poses_73 ?_
        refine y_lload_n hE rfl 0 rfl dX4_poses_75 ?_
        refine y_callV hE (m_X4_addsTrack S (if S 0 20 = 1 then frP S (1000000 - shS S) (S 0 21).toNat else trkP S (S 15 (S 0 12)) (S 0 (12 + 2)) (1000000 - shS S) [] (S 8 0).toNat) 16 (shS S) h40 hM2 (by assumption) (by assumption) (hR2) (hz1) (by omega) (by omega) (by omega) (by omega) (by omega)) (lw_V q3053 q3055 qs77 q133 q3056) (nA := 2) (by decide +kernel) rfl ⟨Nat.le_of_ble_eq_true rfl, Nat.le_of_ble_eq_true rfl⟩ (hdd := rfl) (hcc := rfl) (hq := rfl) (hi := h40) (rest := []) rfl (by decide) dX4_poses_76 (bc' := 0) (bs' := 0) (Nat.le_refl _) (Nat.le_refl _) (fun r_76 n_76 α_76 K_76 hx_76 hp_76 => ?_)
        obtain ⟨rfl, rfl, hM_76, hk_76, hr_76⟩ := hp_76
        refine y_to (st' := []) rfl rfl rfl ?_
        exact y_vret (r := 0) hE rfl hQ dX4_poses_79 Ext.rf ⟨rfl, rfl, hM_76, (hk2.tr hk_76), by unfold poseS; rw [if_neg (by omega), if_neg (by omega)]; exact hr_76.1, hr_76.2.trans h252⟩
      refine y_aload_n hE rfl 1 rfl dX4_poses_38 ?_
      refine gX4_7r (z := 0) hE h40 (MObj.r hM.1 0 (by decide)) (by omega) dX4_poses_39 (fun hl_39 => ?_)
      refine y_bipush hE (by decide) dX4_poses_42 ?_
      refine y_iald hE rfl hl_39 (by have hL : (up3 K 4 0 40 0) 100 0 (-1) = 1160 := (MObj.l hM.1 0 (by decide)); omega) dX4_poses_44 ?_
      refine y_to (st' := [.int (iI (S 0 20))]) rfl rfl (by rw [show (up3 K 4 0 40 0) 100 0 20 = S 0 20 from (MRep.ra hM 0 rfl (by omega) (by first | omega | (show _ < (1160 : Int); omega)))]) ?_
      refine y_iconst hE dX4_poses_45 ?_
      refine y_icmp_ne hE 61 (by decide) (by omega) (by omega) dX4_poses_46 (fun c_46 => ?_) (fun c_46 => ?_)
      · refine y_aload_n hE rfl 1 rfl dX4_poses_61 ?_
        refine y_bipush hE (by decide) dX4_poses_62 ?_
        refine y_ldc2 hE 1000000 (v := 1000000) (by decide) q3052 dX4_poses_64 ?_
        refine y_lload_n hE rfl 0 rfl dX4_poses_67 ?_
        refine y_lsub hE dX4_poses_68 ?_
        refine y_callV hE (m_X4_addsTrack S ([]) 12 (1000000 - (shS S)) h40 (MRep.t hM 40 (by decide) 0) (by assumption) (by assumption) (hR0) (PoseB.nil (by omega)) (Nat.zero_le _) (by omega) (by omega) (by omega) (by omega)) (lw_V q3053 q3055 qs77 q133 q3056) (nA := 2) (by decide +kernel) rfl ⟨Nat.le_of_ble_eq_true rfl, Nat.le_of_ble_eq_true rfl⟩ (hdd := rfl) (hcc := rfl) (hq := rfl) (hi := h40) (rest := []) rfl (by decide) dX4_poses_69 (bc' := 0) (bs' := 0) (Nat.le_refl _) (Nat.le_refl _) (fun r_69 n_69 α_69 K_69 hx_69 hp_69 => ?_)
        obtain ⟨rfl, rfl, hM_69, hk_69, hr_69⟩ := hp_69
        refine y_to (st' := []) rfl rfl rfl ?_
        exact J72 K_69 (hM_69) (((KO.up KO.rf (by decide)).tr hk_69)) (by first | (rw [if_pos (by omega)]; exact hr_55.1) | (rw [if_neg (by omega)]; exact hr_69.1)) (by first | exact hr_55.2.trans h250 | exact hr_69.2.trans h250)
      · refine y_aload_n hE rfl 1 rfl dX4_poses_49 ?_
        refine y_ldc2 hE 1000000 (v := 1000000) (by decide) q3052 dX4_poses_50 ?_
        refine y_lload_n hE rfl 0 rfl dX4_poses_53 ?_
        refine y_lsub hE dX4_poses_54 ?_
        refine y_callV hE (m_X4_addsFrozen S (1000000 - (shS S)) h40 (MRep.t hM 40 (by decide) 0) (by assumption) (hR0) (hfo (by omega)) (by omega) (by omega)) (lw_V q3073 q3075 qs82 q133 q3076) (nA := 1) (by decide +kernel) rfl ⟨Nat.le_of_ble_eq_true rfl, Nat.le_of_ble_eq_true rfl⟩ (hdd := rfl) (hcc := rfl) (hq := rfl) (hi := h40) (rest := []) rfl (by decide) dX4_poses_55 (bc' := 0) (bs' := 0) (Nat.le_refl _) (Nat.le_refl _) (fun r_55 n_55 α_55 K_55 hx_55 hp_55 => ?_)
        obtain ⟨rfl, rfl, hM_55, hk_55, hr_55⟩ := hp_55
        refine y_to (st' := []) rfl rfl rfl ?_
        refine y_goto hE 72 (by decide) dX4_poses_58 ?_
        exact J72 K_55 (hM_55) (((KO.up KO.rf (by decide)).tr (KO.mono hk_55 (fun k i z => by (try dsimp only at z); (try dsimp only); omega)))) (by first | (rw [if_pos (by omega)]; exact hr_55.1) | (rw [if_neg (by omega)]; exact hr_69.1)) (by first | exact hr_55.2.trans h250 | exact hr_69.2.trans h250)
    · refine y_aload_n hE rfl 0 rfl dX4_poses_23 ?_
      refine y_bipush hE (by decide) dX4_poses_24 ?_
      refine y_ldc2 hE 1000000 (v := 1000000) (by decide) q3052 dX4_poses_26 ?_
      refine y_callV hE (m_X4_addsTrack S ([]) 12 1000000 h40 (MRep.t hM 40 (by decide) 0) (by assumption) (by assumption) (hR0) (PoseB.nil (by omega)) (Nat.zero_le _) (by omega) (by omega) (by omega) (by omega)) (lw_V q3053 q3055 qs77 q133 q3056) (nA := 2) (by decide +kernel) rfl ⟨Nat.le_of_ble_eq_true rfl, Nat.le_of_ble_eq_true rfl⟩ (hdd := rfl) (hcc := rfl) (hq := rfl) (hi := h40) (rest := []) rfl (by decide) dX4_poses_29 (bc' := 0) (bs' := 0) (Nat.le_refl _) (Nat.le_refl _) (fun r_29 n_29 α_29 K_29 hx_29 hp_29 => ?_)
      obtain ⟨rfl, rfl, hM_29, hk_29, hr_29⟩ := hp_29
      refine y_to (st' := []) rfl rfl rfl ?_
      exact y_vret (r := 0) hE rfl hQ dX4_poses_32 Ext.rf ⟨rfl, rfl, hM_29, ((KO.up KO.rf (by decide)).tr hk_29), by unfold poseS; rw [if_neg (by omega), if_pos (by omega)]; exact hr_29.1, hr_29.2.trans h250⟩
  · exact y_vret (r := 0) hE rfl hQ dX4_poses_12 Ext.rf ⟨rfl, rfl, (MRep.t hM 40 (by decide) 0), (KO.up KO.rf (by decide)), by unfold poseS; rw [if_pos (by omega)]; exact hR0, h250⟩
