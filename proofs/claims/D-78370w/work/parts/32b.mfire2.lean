set_option linter.unusedVariables false
set_option maxHeartbeats 4000000 in
set_option maxRecDepth 100000 in
theorem m_X4_isCrossed {w : KW} {n : KN} {α : KA} {K : KS} (z be fr af ag : Int) (hz : 0 ≤ z ∧ z ≤ 1000000) (hbe : 0 ≤ be ∧ be ≤ 1000000000000) (hfr : 0 ≤ fr ∧ fr ≤ 1) (haf : 0 ≤ af ∧ af ≤ 1000000000000) (hag : 0 ≤ ag ∧ ag ≤ 1) : KM w yX4_isCrossed cX4_isCrossed 14 (some (.boolean)) { frames := 0, cells := 0, slots := 0, locals := 0 } (0, 0) [.long (iL z), .long (iL be), .int (iI fr), .long (iL af), .int (iI ag)] n α K (fun r n' α' K' => n = n' ∧ α = α' ∧ K = K' ∧ (r = crossI z be fr af ag)) := by
  refine y_start (by decide) (Nat.le_of_ble_eq_true rfl) (fun x hE hQ => ?_)
  have hw := hQ.2
  subst hw
  have hE : YE x cX4_isCrossed RX4 (some (.boolean)) "isCrossed" 14 { frames := 0, cells := 0, slots := 0, locals := 0 } := hE
  refine y_wk (fun hWK => ?_)
  have hn0 := hWK.1
  refine y_bud (bc' := 0) (bs' := 0) (Nat.le_refl _) (Nat.le_refl _) ?_
  refine y_to (lv' := [(0, .long (iL z)), (2, .long (iL be)), (4, .int (iI fr)), (5, .long (iL af)), (7, .int (iI ag))]) (st' := []) rfl rfl rfl ?_
  have J12 : ∀ (ls : Int), (ls = if fr ≠ 0 then be else be + 1) → (0 ≤ ls ∧ ls ≤ 1000000000001) → Y x n α K 0 0 12 [(0, .long (iL z)), (2, .long (iL be)), (4, .int (iI fr)), (5, .long (iL af)), (7, .int (iI ag))] [.long (iL ls)] := by
    intro ls hls hlb
    refine y_lstore hE [(8, .long (iL ls)), (0, .long (iL z)), (2, .long (iL be)), (4, .int (iI fr)), (5, .long (iL af)), (7, .int (iI ag))] (by decide) rfl dX4_isCrossed_12 ?_
    refine y_lconst hE 0 (by decide) dX4_isCrossed_14 ?_
    refine y_lstore hE [(10, .long (iL 0)), (8, .long (iL ls)), (0, .long (iL z)), (2, .long (iL be)), (4, .int (iI fr)), (5, .long (iL af)), (7, .int (iI ag))] (by decide) rfl dX4_isCrossed_15 ?_
    have J45 : ∀ (cy : Int), (cy = if ag ≠ 0 ∧ ls > z then (ls - z + 1000000 - 1) / 1000000 else 0) → (0 ≤ cy ∧ cy ≤ 1000003) → Y x n α K 0 0 45 [(10, .long (iL cy)), (8, .long (iL ls)), (0, .long (iL z)), (2, .long (iL be)), (4, .int (iI fr)), (5, .long (iL af)), (7, .int (iI ag))] [] := by
      intro cy hcy hcb
      refine y_lload hE 0 rfl dX4_isCrossed_45 ?_
      refine y_ldc2 hE 1000000 (v := 1000000) (by decide) q3052 dX4_isCrossed_47 ?_
      refine y_lmul hE dX4_isCrossed_50 ?_
      refine y_lload_n hE rfl 2 rfl dX4_isCrossed_51 ?_
      refine y_ladd hE dX4_isCrossed_52 ?_
      refine y_lstore hE [(12, .long (iL ((cy * 1000000) + z))), (10, .long (iL cy)), (8, .long (iL ls)), (0, .long (iL z)), (2, .long (iL be)), (4, .int (iI fr)), (5, .long (iL af)), (7, .int (iI ag))] (by decide) rfl dX4_isCrossed_53 ?_
      refine y_lload hE 0 rfl dX4_isCrossed_55 ?_
      refine y_lload hE 2 rfl dX4_isCrossed_57 ?_
      refine y_lcmp_lt hE 75 (by decide) (by omega) (by omega) dX4_isCrossed_59 dX4_isCrossed_60 (fun c_59 => ?_) (fun c_59 => ?_)
      · refine y_iconst hE dX4_isCrossed_75 ?_
        exact y_iret hE rfl (nar_b (by omega)).1 hQ dX4_isCrossed_76 Ext.rf ⟨rfl, rfl, rfl, by unfold crossI; rw [← hls, ← hcy]; first | rw [if_pos (by omega)] | rw [if_neg (by omega)]⟩
      · refine y_lload hE 0 rfl dX4_isCrossed_63 ?_
        refine y_lload hE 6 rfl dX4_isCrossed_65 ?_
        refine y_lcmp_gt hE 75 (by decide) (by omega) (by omega) dX4_isCrossed_67 dX4_isCrossed_68 (fun c_67 => ?_) (fun c_67 => ?_)
        · refine y_iconst hE dX4_isCrossed_75 ?_
          exact y_iret hE rfl (nar_b (by omega)).1 hQ dX4_isCrossed_76 Ext.rf ⟨rfl, rfl, rfl, by unfold crossI; rw [← hls, ← hcy]; first | rw [if_pos (by omega)] | rw [if_neg (by omega)]⟩
        · refine y_iconst hE dX4_isCrossed_71 ?_
          refine y_goto hE 76 (by decide) dX4_isCrossed_72 ?_
          exact y_iret hE rfl (nar_b (by omega)).1 hQ dX4_isCrossed_76 Ext.rf ⟨rfl, rfl, rfl, by unfold crossI; rw [← hls, ← hcy]; first | rw [if_pos (by omega)] | rw [if_neg (by omega)]⟩
    refine y_iload hE 6 rfl dX4_isCrossed_17 ?_
    refine y_if_eq hE 45 (by decide) (by omega) dX4_isCrossed_19 (fun c_19 => ?_) (fun c_19 => ?_)
    · exact J45 0 (by first | rw [if_pos (by omega)] | rw [if_neg (by omega)]) (by omega)
    · refine y_lload hE 1 rfl dX4_isCrossed_22 ?_
      refine y_lload_n hE rfl 2 rfl dX4_isCrossed_24 ?_
      refine y_lcmp_le hE 45 (by decide) (by omega) (by omega) dX4_isCrossed_25 dX4_isCrossed_26 (fun c_25 => ?_) (fun c_25 => ?_)
      · exact J45 0 (by first | rw [if_pos (by omega)] | rw [if_neg (by omega)]) (by omega)
      · refine y_lload hE 1 rfl dX4_isCrossed_29 ?_
        refine y_lload_n hE rfl 2 rfl dX4_isCrossed_31 ?_
        refine y_lsub hE dX4_isCrossed_32 ?_
        refine y_ldc2 hE 1000000 (v := 1000000) (by decide) q3052 dX4_isCrossed_33 ?_
        refine y_ladd hE dX4_isCrossed_36 ?_
        refine y_lconst hE 1 (by decide) dX4_isCrossed_37 ?_
        refine y_lsub hE dX4_isCrossed_38 ?_
        refine y_ldc2 hE 1000000 (v := 1000000) (by decide) q3052 dX4_isCrossed_39 ?_
        refine y_ldiv hE (by omega) (by omega) dX4_isCrossed_42 ?_
        refine y_lstore hE [(10, .long (iL ((((ls - z) + 1000000) - 1) / 1000000))), (8, .long (iL ls)), (0, .long (iL z)), (2, .long (iL be)), (4, .int (iI fr)), (5, .long (iL af)), (7, .int (iI ag))] (by decide) rfl dX4_isCrossed_43 ?_
        exact J45 ((((ls - z) + 1000000) - 1) / 1000000) (by first | rw [if_pos (by omega)] | rw [if_neg (by omega)]) (by omega)
  refine y_iload hE 2 rfl dX4_isCrossed_0 ?_
  refine y_if_eq hE 9 (by decide) (by omega) dX4_isCrossed_2 (fun c_2 => ?_) (fun c_2 => ?_)
  · refine y_lload_n hE rfl 1 rfl dX4_isCrossed_9 ?_
    refine y_lconst hE 1 (by decide) dX4_isCrossed_10 ?_
    refine y_ladd hE dX4_isCrossed_11 ?_
    exact J12 (be + 1) (by first | rw [if_pos (by omega)] | rw [if_neg (by omega)]) (by omega)
  · refine y_lload_n hE rfl 1 rfl dX4_isCrossed_5 ?_
    refine y_goto hE 12 (by decide) dX4_isCrossed_6 ?_
    exact J12 be (by first | rw [if_pos (by omega)] | rw [if_neg (by omega)]) (by omega)
set_option maxHeartbeats 4000000 in
set_option maxRecDepth 100000 in
theorem m_X4_notes {w : KW} {n : KN} {α : KA} {K : KS} (S : SS) (tk id c st : Int) (h40 : (0 : Int) ≤ 0 ∧ 0 < n 4) (hM : MRep S n K) (hev : 0 ≤ S 0 166 ∧ S 0 166 ≤ 30) : KM w yX4_notes cX4_notes 6 none { frames := 0, cells := 0, slots := 0, locals := 0 } (3, 0) [.ref (α 4 0), .int (iI tk), .int (iI id), .int (iI c), .int (iI st)] n α K (fun r n' α' K' => n = n' ∧ α = α' ∧ MRep (noteS S tk id c st) n K' ∧ KO K K' (fun k _ => k = 100) ∧ (True)) := by
  refine y_start (by decide) (Nat.le_of_ble_eq_true rfl) (fun x hE hQ => ?_)
  have hw := hQ.2
  subst hw
  have hE : YE x cX4_notes RX4 none "notes" 6 { frames := 0, cells := 0, slots := 0, locals := 0 } := hE
  refine y_wk (fun hWK => ?_)
  have hn0 := hWK.1
  refine y_bud (bc' := 0) (bs' := 0) (Nat.le_refl _) (Nat.le_refl _) ?_
  refine y_to (lv' := [(0, .ref (α 4 0)), (1, .int (iI tk)), (2, .int (iI id)), (3, .int (iI c)), (4, .int (iI st))]) (st' := []) rfl rfl rfl ?_
  have J65 : ∀ (K3 : KS) (S3 : SS), (MRep S3 n K3) → (KO K K3 (fun k _ => k = 100)) → (S3 = noteA S) → Y x n α K3 0 0 65 [(0, .ref (α 4 0)), (1, .int (iI tk)), (2, .int (iI id)), (3, .int (iI c)), (4, .int (iI st))] [] := by
    intro K3 S3 hM3 hk3 hS3
    have h29 : 0 ≤ S3 0 166 ∧ S3 0 166 ≤ 29 := by rw [hS3]; exact noteA_29 hev
    refine y_sipush hE (by decide) dX4_notes_65 ?_
    refine y_iconst hE dX4_notes_68 ?_
    refine y_aload_n hE rfl 0 rfl dX4_notes_69 ?_
    refine gX4_7r (z := 0) hE h40 (MObj.r hM3.1 0 (by decide)) (by omega) dX4_notes_70 (fun hl_70 => ?_)
    refine y_sipush hE (by decide) dX4_notes_73 ?_
    refine y_iald hE rfl hl_70 (by have hL : K3 100 0 (-1) = 1160 := (MObj.l hM3.1 0 (by decide)); omega) dX4_notes_76 ?_
    refine y_to (st' := [.int (iI (S3 0 166)), .int (iI 4), .int (iI 167)]) rfl rfl (by rw [show K3 100 0 166 = S3 0 166 from (MRep.ra hM3 0 rfl (by omega) (by first | omega | (show _ < (1160 : Int); omega)))]) ?_
    refine y_imul hE dX4_notes_77 ?_
    refine y_iadd hE dX4_notes_78 ?_
    refine y_istore hE [(5, .int (iI (167 + (4 * (S3 0 166))))), (0, .ref (α 4 0)), (1, .int (iI tk)), (2, .int (iI id)), (3, .int (iI c)), (4, .int (iI st))] (by decide) rfl dX4_notes_79 ?_
    refine y_aload_n hE rfl 1 rfl dX4_notes_81 ?_
    refine gX4_7r (z := 0) hE h40 (MObj.r hM3.1 0 (by decide)) (by omega) dX4_notes_82 (fun hl_82 => ?_)
    refine y_iload hE 0 rfl dX4_notes_85 ?_
    refine y_iload_n hE rfl 2 rfl dX4_notes_87 ?_
    refine y_iast hE (by unfold kC; decide) rfl (by simp [kTag]) hl_82 (by have hL : K3 100 0 (-1) = 1160 := (MObj.l hM3.1 0 (by decide)); omega) dX4_notes_88 ?_
    refine y_aload_n hE rfl 1 rfl dX4_notes_89 ?_
    refine gX4_7r (z := 0) hE h40 (MObj.r hM3.1 0 (by decide)) (by omega) dX4_notes_90 (fun hl_90 => ?_)
    refine y_iload hE 0 rfl dX4_notes_93 ?_
    refine y_iconst hE dX4_notes_95 ?_
    refine y_iadd hE dX4_notes_96 ?_
    refine y_iload_n hE rfl 3 rfl dX4_notes_97 ?_
    refine y_iast hE (by unfold kC; decide) rfl (by simp [kTag]) hl_90 (by have hL : (up3 K3 100 0 (167 + (4 * (S3 0 166))) tk) 100 0 (-1) = 1160 := (MObj.l (MRep.a hM3 0 rfl (j := 167 + (4 * (S3 0 166))) (by omega) tk).1 0 (by decide)); omega) dX4_notes_98 ?_
    refine y_aload_n hE rfl 1 rfl dX4_notes_99 ?_
    refine gX4_7r (z := 0) hE h40 (MObj.r hM3.1 0 (by decide)) (by omega) dX4_notes_100 (fun hl_100 => ?_)
    refine y_iload hE 0 rfl dX4_notes_103 ?_
    refine y_iconst hE dX4_notes_105 ?_
    refine y_iadd hE dX4_notes_106 ?_
    refine y_iload_n hE rfl 4 rfl dX4_notes_107 ?_
    refine y_iast hE (by unfold kC; decide) rfl (by simp [kTag]) hl_100 (by have hL : (up3 (up3 K3 100 0 (167 + (4 * (S3 0 166))) tk) 100 0 ((167 + (4 * (S3 0 166))) + 1) id) 100 0 (-1) = 1160 := (MObj.l (MRep.a (MRep.a hM3 0 rfl (j := 167 + (4 * (S3 0 166))) (by omega) tk) 0 rfl (j := (167 + (4 * (S3 0 166))) + 1) (by omega) id).1 0 (by decide)); omega) dX4_notes_108 ?_
    refine y_aload_n hE rfl 1 rfl dX4_notes_109 ?_
    refine gX4_7r (z := 0) hE h40 (MObj.r hM3.1 0 (by decide)) (by omega) dX4_notes_110 (fun hl_110 => ?_)
    refine y_iload hE 0 rfl dX4_notes_113 ?_
    refine y_iconst hE dX4_notes_115 ?_
    refine y_iadd hE dX4_notes_116 ?_
    refine y_iload hE 5 rfl dX4_notes_117 ?_
    refine y_iast hE (by unfold kC; decide) rfl (by simp [kTag]) hl_110 (by have hL : (up3 (up3 (up3 K3 100 0 (167 + (4 * (S3 0 166))) tk) 100 0 ((167 + (4 * (S3 0 166))) + 1) id) 100 0 ((167 + (4 * (S3 0 166))) + 2) c) 100 0 (-1) = 1160 := (MObj.l (MRep.a (MRep.a (MRep.a hM3 0 rfl (j := 167 + (4 * (S3 0 166))) (by omega) tk) 0 rfl (j := (167 + (4 * (S3 0 166))) + 1) (by omega) id) 0 rfl (j := (167 + (4 * (S3 0 166))) + 2) (by omega) c).1 0 (by decide)); omega) dX4_notes_119 ?_
    refine y_aload_n hE rfl 1 rfl dX4_notes_120 ?_
    refine gX4_7r (z := 0) hE h40 (MObj.r hM3.1 0 (by decide)) (by omega) dX4_notes_121 (fun hl_121 => ?_)
    refine y_sipush hE (by decide) dX4_notes_124 ?_
    refine y_dup2 hE rfl rfl dX4_notes_127 ?_
    refine y_iald hE rfl hl_121 (by have hL : (up3 (up3 (up3 (up3 K3 100 0 (167 + (4 * (S3 0 166))) tk) 100 0 ((167 + (4 * (S3 0 166))) + 1) id) 100 0 ((167 + (4 * (S3 0 166))) + 2) c) 100 0 ((167 + (4 * (S3 0 166))) + 3) st) 100 0 (-1) = 1160 := (MObj.l (MRep.a (MRep.a (MRep.a (MRep.a hM3 0 rfl (j := 167 + (4 * (S3 0 166))) (by omega) tk) 0 rfl (j := (167 + (4 * (S3 0 166))) + 1) (by omega) id) 0 rfl (j := (167 + (4 * (S3 0 166))) + 2) (by omega) c) 0 rfl (j := (167 + (4 * (S3 0 166))) + 3) (by omega) st).1 0 (by decide)); omega) dX4_notes_128 ?_
    refine y_to (st' := [.int (iI ((up2 (up2 (up2 (up2 S3 0 (167 + (4 * (S3 0 166))) tk) 0 ((167 + (4 * (S3 0 166))) + 1) id) 0 ((167 + (4 * (S3 0 166))) + 2) c) 0 ((167 + (4 * (S3 0 166))) + 3) st) 0 166)), .int (iI 166), .ref (α 100 0)]) rfl rfl (by rw [show (up3 (up3 (up3 (up3 K3 100 0 (167 + (4 * (S3 0 166))) tk) 100 0 ((167 + (4 * (S3 0 166))) + 1) id) 100 0 ((167 + (4 * (S3 0 166))) + 2) c) 100 0 ((167 + (4 * (S3 0 166))) + 3) st) 100 0 166 = (up2 (up2 (up2 (up2 S3 0 (167 + (4 * (S3 0 166))) tk) 0 ((167 + (4 * (S3 0 166))) + 1) id) 0 ((167 + (4 * (S3 0 166))) + 2) c) 0 ((167 + (4 * (S3 0 166))) + 3) st) 0 166 from (MRep.ra (MRep.a (MRep.a (MRep.a (MRep.a hM3 0 rfl (j := 167 + (4 * (S3 0 166))) (by omega) tk) 0 rfl (j := (167 + (4 * (S3 0 166))) + 1) (by omega) id) 0 rfl (j := (167 + (4 * (S3 0 166))) + 2) (by omega) c) 0 rfl (j := (167 + (4 * (S3 0 166))) + 3) (by omega) st) 0 rfl (by omega) (by first | omega | (show _ < (1160 : Int); omega)))]) ?_
    refine y_iconst hE dX4_notes_129 ?_
    refine y_iadd hE dX4_notes_130 ?_
    refine y_iast hE (by unfold kC; decide) rfl (by simp [kTag]) hl_121 (by have hL : (up3 (up3 (up3 (up3 K3 100 0 (167 + (4 * (S3 0 166))) tk) 100 0 ((167 + (4 * (S3 0 166))) + 1) id) 100 0 ((167 + (4 * (S3 0 166))) + 2) c) 100 0 ((167 + (4 * (S3 0 166))) + 3) st) 100 0 (-1) = 1160 := (MObj.l (MRep.a (MRep.a (MRep.a (MRep.a hM3 0 rfl (j := 167 + (4 * (S3 0 166))) (by omega) tk) 0 rfl (j := (167 + (4 * (S3 0 166))) + 1) (by omega) id) 0 rfl (j := (167 + (4 * (S3 0 166))) + 2) (by omega) c) 0 rfl (j := (167 + (4 * (S3 0 166))) + 3) (by omega) st).1 0 (by decide)); omega) dX4_notes_131 ?_
    refine y_aload_n hE rfl 1 rfl dX4_notes_132 ?_
    refine gX4_7r (z := 0) hE h40 (MObj.r hM3.1 0 (by decide)) (by omega) dX4_notes_133 (fun hl_133 => ?_)
    refine y_sipush hE (by decide) dX4_notes_136 ?_
    refine y_dup2 hE rfl rfl dX4_notes_139 ?_
    refine y_iald hE rfl hl_133 (by have hL : (up3 (up3 (up3 (up3 (up3 K3 100 0 (167 + (4 * (S3 0 166))) tk) 100 0 ((167 + (4 * (S3 0 166))) + 1) id) 100 0 ((167 + (4 * (S3 0 166))) + 2) c) 100 0 ((167 + (4 * (S3 0 166))) + 3) st) 100 0 166 (((up2 (up2 (up2 (up2 S3 0 (167 + (4 * (S3 0 166))) tk) 0 ((167 + (4 * (S3 0 166))) + 1) id) 0 ((167 + (4 * (S3 0 166))) + 2) c) 0 ((167 + (4 * (S3 0 166))) + 3) st) 0 166) + 1)) 100 0 (-1) = 1160 := (MObj.l (MRep.a (MRep.a (MRep.a (MRep.a (MRep.a hM3 0 rfl (j := 167 + (4 * (S3 0 166))) (by omega) tk) 0 rfl (j := (167 + (4 * (S3 0 166))) + 1) (by omega) id) 0 rfl (j := (167 + (4 * (S3 0 166))) + 2) (by omega) c) 0 rfl (j := (167 + (4 * (S3 0 166))) + 3) (by omega) st) 0 rfl (j := 166) (by omega) (((up2 (up2 (up2 (up2 S3 0 (167 + (4 * (S3 0 166))) tk) 0 ((167 + (4 * (S3 0 166))) + 1) id) 0 ((167 + (4 * (S3 0 166))) + 2) c) 0 ((167 + (4 * (S3 0 166))) + 3) st) 0 166) + 1)).1 0 (by decide)); omega) dX4_notes_140 ?_
    refine y_to (st' := [.int (iI ((up2 (up2 (up2 (up2 (up2 S3 0 (167 + (4 * (S3 0 166))) tk) 0 ((167 + (4 * (S3 0 166))) + 1) id) 0 ((167 + (4 * (S3 0 166))) + 2) c) 0 ((167 + (4 * (S3 0 166))) + 3) st) 0 166 (((up2 (up2 (up2 (up2 S3 0 (167 + (4 * (S3 0 166))) tk) 0 ((167 + (4 * (S3 0 166))) + 1) id) 0 ((167 + (4 * (S3 0 166))) + 2) c) 0 ((167 + (4 * (S3 0 166))) + 3) st) 0 166) + 1)) 0 288)), .int (iI 288), .ref (α 100 0)]) rfl rfl (by rw [show (up3 (up3 (up3 (up3 (up3 K3 100 0 (167 + (4 * (S3 0 166))) tk) 100 0 ((167 + (4 * (S3 0 166))) + 1) id) 100 0 ((167 + (4 * (S3 0 166))) + 2) c) 100 0 ((167 + (4 * (S3 0 166))) + 3) st) 100 0 166 (((up2 (up2 (up2 (up2 S3 0 (167 + (4 * (S3 0 166))) tk) 0 ((167 + (4 * (S3 0 166))) + 1) id) 0 ((167 + (4 * (S3 0 166))) + 2) c) 0 ((167 + (4 * (S3 0 166))) + 3) st) 0 166) + 1)) 100 0 288 = (up2 (up2 (up2 (up2 (up2 S3 0 (167 + (4 * (S3 0 166))) tk) 0 ((167 + (4 * (S3 0 166))) + 1) id) 0 ((167 + (4 * (S3 0 166))) + 2) c) 0 ((167 + (4 * (S3 0 166))) + 3) st) 0 166 (((up2 (up2 (up2 (up2 S3 0 (167 + (4 * (S3 0 166))) tk) 0 ((167 + (4 * (S3 0 166))) + 1) id) 0 ((167 + (4 * (S3 0 166))) + 2) c) 0 ((167 + (4 * (S3 0 166))) + 3) st) 0 166) + 1)) 0 288 from (MRep.ra (MRep.a (MRep.a (MRep.a (MRep.a (MRep.a hM3 0 rfl (j := 167 + (4 * (S3 0 166))) (by omega) tk) 0 rfl (j := (167 + (4 * (S3 0 166))) + 1) (by omega) id) 0 rfl (j := (167 + (4 * (S3 0 166))) + 2) (by omega) c) 0 rfl (j := (167 + (4 * (S3 0 166))) + 3) (by omega) st) 0 rfl (j := 166) (by omega) (((up2 (up2 (up2 (up2 S3 0 (167 + (4 * (S3 0 166))) tk) 0 ((167 + (4 * (S3 0 166))) + 1) id) 0 ((167 + (4 * (S3 0 166))) + 2) c) 0 ((167 + (4 * (S3 0 166))) + 3) st) 0 166) + 1)) 0 rfl (by omega) (by first | omega | (show _ < (1160 : Int); omega)))]) ?_
    refine y_iconst hE dX4_notes_141 ?_
    refine y_iadd hE dX4_notes_142 ?_
    refine y_iast hE (by unfold kC; decide) rfl (by simp [kTag]) hl_133 (by have hL : (up3 (up3 (up3 (up3 (up3 K3 100 0 (167 + (4 * (S3 0 166))) tk) 100 0 ((167 + (4 * (S3 0 166))) + 1) id) 100 0 ((167 + (4 * (S3 0 166))) + 2) c) 100 0 ((167 + (4 * (S3 0 166))) + 3) st) 100 0 166 (((up2 (up2 (up2 (up2 S3 0 (167 + (4 * (S3 0 166))) tk) 0 ((167 + (4 * (S3 0 166))) + 1) id) 0 ((167 + (4 * (S3 0 166))) + 2) c) 0 ((167 + (4 * (S3 0 166))) + 3) st) 0 166) + 1)) 100 0 (-1) = 1160 := (MObj.l (MRep.a (MRep.a (MRep.a (MRep.a (MRep.a hM3 0 rfl (j := 167 + (4 * (S3 0 166))) (by omega) tk) 0 rfl (j := (167 + (4 * (S3 0 166))) + 1) (by omega) id) 0 rfl (j := (167 + (4 * (S3 0 166))) + 2) (by omega) c) 0 rfl (j := (167 + (4 * (S3 0 166))) + 3) (by omega) st) 0 rfl (j := 166) (by omega) (((up2 (up2 (up2 (up2 S3 0 (167 + (4 * (S3 0 166))) tk) 0 ((167 + (4 * (S3 0 166))) + 1) id) 0 ((167 + (4 * (S3 0 166))) + 2) c) 0 ((167 + (4 * (S3 0 166))) + 3) st) 0 166) + 1)).1 0 (by decide)); omega) dX4_notes_143 ?_
    exact y_vret (r := 0) hE rfl hQ dX4_notes_144 Ext.rf ⟨rfl, rfl, by unfold noteS noteZ noteY noteX; rw [← hS3]; exact (MRep.a (MRep.a (MRep.a (MRep.a (MRep.a (MRep.a hM3 0 rfl (j := 167 + (4 * (S3 0 166))) (by omega) tk) 0 rfl (j := (167 + (4 * (S3 0 166))) + 1) (by omega) id) 0 rfl (j := (167 + (4 * (S3 0 166))) + 2) (by omega) c) 0 rfl (j := (167 + (4 * (S3 0 166))) + 3) (by omega) st) 0 rfl (j := 166) (by omega) (((up2 (up2 (up2 (up2 S3 0 (167 + (4 * (S3 0 166))) tk) 0 ((167 + (4 * (S3 0 166))) + 1) id) 0 ((167 + (4 * (S3 0 166))) + 2) c) 0 ((167 + (4 * (S3 0 166))) + 3) st) 0 166) + 1)) 0 rfl (j := 288) (by omega) (((up2 (up2 (up2 (up2 (up2 S3 0 (167 + (4 * (S3 0 166))) tk) 0 ((167 + (4 * (S3 0 166))) + 1) id) 0 ((167 + (4 * (S3 0 166))) + 2) c) 0 ((167 + (4 * (S3 0 166))) + 3) st) 0 166 (((up2 (up2 (up2 (up2 S3 0 (167 + (4 * (S3 0 166))) tk) 0 ((167 + (4 * (S3 0 166))) + 1) id) 0 ((167 + (4 * (S3 0 166))) + 2) c) 0 ((167 + (4 * (S3 0 166))) + 3) st) 0 166) + 1)) 0 288) + 1)), (KO.up (KO.up (KO.up (KO.up (KO.up (KO.up hk3 (by decide)) (by decide)) (by decide)) (by decide)) (by decide)) (by decide)), trivial⟩
  refine y_aload_n hE rfl 0 rfl dX4_notes_0 ?_
  refine gX4_7r (z := 0) hE h40 (MObj.r hM.1 0 (by decide)) (by omega) dX4_notes_1 (fun hl_1 => ?_)
  refine y_sipush hE (by decide) dX4_notes_4 ?_
  refine y_iald hE rfl hl_1 (by have hL : K 100 0 (-1) = 1160 := (MObj.l hM.1 0 (by decide)); omega) dX4_notes_7 ?_
  refine y_to (st' := [.int (iI (S 0 166))]) rfl rfl (by rw [show K 100 0 166 = S 0 166 from (MRep.ra hM 0 rfl (by omega) (by first | omega | (show _ < (1160 : Int); omega)))]) ?_
  refine y_bipush hE (by decide) dX4_notes_8 ?_
  refine y_icmp_ne hE 65 (by decide) (by omega) (by omega) dX4_notes_10 (fun c_10 => ?_) (fun c_10 => ?_)
  · exact J65 K S (hM) (KO.rf) (by unfold noteA; first | (rw [if_pos (by omega), show (116 : Int) = k by omega]; done) | rw [if_neg (by omega)])
  · refine y_iconst hE dX4_notes_13 ?_
    refine y_istore hE [(5, .int (iI 0)), (0, .ref (α 4 0)), (1, .int (iI tk)), (2, .int (iI id)), (3, .int (iI c)), (4, .int (iI st))] (by decide) rfl dX4_notes_14 ?_
    have L16 : ∀ (fuel : Nat) (K2 : KS) (k : Int), (MRep (shfS S k) n K2) → (KO K K2 (fun k _ => k = 100)) → (0 ≤ k ∧ k ≤ 116) → (116 - k).toNat < fuel → Y x n α K2 0 0 16 [(5, .int (iI k)), (0, .ref (α 4 0)), (1, .int (iI tk)), (2, .int (iI id)), (3, .int (iI c)), (4, .int (iI st))] [] := by
      intro fuel16
      induction fuel16 with
      | zero => intro K2 k hM2 hk2 hk hfu16; exact absurd hfu16 (Nat.not_lt_zero _)
      | succ fuel16 ih16 =>
        intro K2 k hM2 hk2 hk hfu16
        refine y_iload hE 0 rfl dX4_notes_16 ?_
        refine y_bipush hE (by decide) dX4_notes_18 ?_
        refine y_icmp_ge hE 53 (by decide) (by omega) (by omega) dX4_notes_20 (fun c_20 => ?_) (fun c_20 => ?_)
        · refine y_aload_n hE rfl 1 rfl dX4_notes_53 ?_
          refine gX4_7r (z := 0) hE h40 (MObj.r hM2.1 0 (by decide)) (by omega) dX4_notes_54 (fun hl_54 => ?_)
          refine y_sipush hE (by decide) dX4_notes_57 ?_
          refine y_dup2 hE rfl rfl dX4_notes_60 ?_
          refine y_iald hE rfl hl_54 (by have hL : K2 100 0 (-1) = 1160 := (MObj.l hM2.1 0 (by decide)); omega) dX4_notes_61 ?_
          refine y_to (st' := [.int (iI ((shfS S k) 0 166)), .int (iI 166), .ref (α 100 0)]) rfl rfl (by rw [show K2 100 0 166 = (shfS S k) 0 166 from (MRep.ra hM2 0 rfl (by omega) (by first | omega | (show _ < (1160 : Int); omega)))]) ?_
          refine y_iconst hE dX4_notes_62 ?_
          refine y_isub hE dX4_notes_63 ?_
          refine y_iast hE (by unfold kC; decide) rfl (by simp [kTag]) hl_54 (by have hL : K2 100 0 (-1) = 1160 := (MObj.l hM2.1 0 (by decide)); omega) dX4_notes_64 ?_
          refine y_lv [1, 2, 3, 4, 5] [(0, .ref (α 4 0)), (1, .int (iI tk)), (2, .int (iI id)), (3, .int (iI c)), (4, .int (iI st))] rfl ?_
          exact J65 (up3 K2 100 0 166 (((shfS S k) 0 166) - 1)) (up2 (shfS S k) 0 166 (((shfS S k) 0 166) - 1)) ((MRep.a hM2 0 rfl (j := 166) (by omega) (((shfS S k) 0 166) - 1))) ((KO.up hk2 (by decide))) (by unfold noteA; first | (rw [if_pos (by omega), show (116 : Int) = k by omega]; done) | rw [if_neg (by omega)])
        · refine y_aload_n hE rfl 1 rfl dX4_notes_23 ?_
          refine gX4_7r (z := 0) hE h40 (MObj.r hM2.1 0 (by decide)) (by omega) dX4_notes_24 (fun hl_24 => ?_)
          refine y_sipush hE (by decide) dX4_notes_27 ?_
          refine y_iload hE 0 rfl dX4_notes_30 ?_
          refine y_iadd hE dX4_notes_32 ?_
          refine y_aload_n hE rfl 1 rfl dX4_notes_33 ?_
          refine gX4_7r (z := 0) hE h40 (MObj.r hM2.1 0 (by decide)) (by omega) dX4_notes_34 (fun hl_34 => ?_)
          refine y_sipush hE (by decide) dX4_notes_37 ?_
          refine y_iload hE 0 rfl dX4_notes_40 ?_
          refine y_iadd hE dX4_notes_42 ?_
          refine y_iconst hE dX4_notes_43 ?_
          refine y_iadd hE dX4_notes_44 ?_
          refine y_iald hE rfl hl_34 (by have hL : K2 100 0 (-1) = 1160 := (MObj.l hM2.1 0 (by decide)); omega) dX4_notes_45 ?_
          refine y_to (st' := [.int (iI ((shfS S k) 0 ((167 + k) + 4))), .int (iI (167 + k)), .ref (α 100 0)]) rfl rfl (by rw [show K2 100 0 ((167 + k) + 4) = (shfS S k) 0 ((167 + k) + 4) from (MRep.ra hM2 0 rfl (by omega) (by first | omega | (show _ < (1160 : Int); omega)))]) ?_
          refine y_iast hE (by unfold kC; decide) rfl (by simp [kTag]) hl_24 (by have hL : K2 100 0 (-1) = 1160 := (MObj.l hM2.1 0 (by decide)); omega) dX4_notes_46 ?_
          refine y_iinc hE 0 rfl [(5, .int (iI (k + 1))), (0, .ref (α 4 0)), (1, .int (iI tk)), (2, .int (iI id)), (3, .int (iI c)), (4, .int (iI st))] (by decide) rfl dX4_notes_47 ?_
          refine y_goto hE 16 (by decide) dX4_notes_50 ?_
          exact ih16 (up3 K2 100 0 (167 + k) ((shfS S k) 0 ((167 + k) + 4))) (k + 1) (by rw [← shfS_s (by omega)]; exact (MRep.a hM2 0 rfl (j := 167 + k) (by omega) ((shfS S k) 0 ((167 + k) + 4)))) ((KO.up hk2 (by decide))) (by omega) (by omega)
    exact L16 _ K 0 (by rw [shfS_0]; exact hM) (KO.rf) (by omega) (Nat.lt_succ_self _)
set_option maxHeartbeats 4000000 in
set_option maxRecDepth 100000 in
theorem m_X4_fires {w : KW} {n : KN} {α : KA} {K : KS} (S : SS) (st be fr af sh tk : Int) (h40 : (0 : Int) ≤ 0 ∧ 0 < n 4) (hM : MRep S n K) (hW : WFs S) (hv0 : WFv S) (hst : 0 ≤ st ∧ st < S 19 0) (hbe : 0 ≤ be ∧ be ≤ 1000000000000) (hfr : 0 ≤ fr ∧ fr ≤ 1) (haf : 0 ≤ af ∧ af ≤ 1000000000000) (hsh : 0 ≤ sh ∧ sh ≤ 1000000) (hev : 0 ≤ S 0 166 ∧ S 0 166 ≤ 30) : KM w yX4_fires cX4_fires 15 none { frames := 2, cells := 0, slots := 0, locals := 56 } (3, 0) [.ref (α 4 0), .int (iI st), .long (iL be), .int (iI fr), .long (iL af), .long (iL sh), .int (iI tk)] n α K (fun r n' α' K' => n = n' ∧ α = α' ∧ MRep (firS S st be fr af sh tk) n K' ∧ KO K K' (fun k i => k = 127 ∨ k = 128 ∨ k = 129 ∨ k = 100) ∧ (True)) := by
  refine y_start (by decide) (Nat.le_of_ble_eq_true rfl) (fun x hE hQ => ?_)
  have hw := hQ.2
  subst hw
  have hE : YE x cX4_fires RX4 none "fires" 15 { frames := 2, cells := 0, slots := 0, locals := 56 } := hE
  refine y_wk (fun hWK => ?_)
  have hn0 := hWK.1
  refine y_bud (bc' := 0) (bs' := 0) (Nat.le_refl _) (Nat.le_refl _) ?_
  refine y_to (lv' := [(0, .ref (α 4 0)), (1, .int (iI st)), (2, .long (iL be)), (4, .int (iI fr)), (5, .long (iL af)), (7, .long (iL sh)), (9, .int (iI tk))]) (st' := []) rfl rfl rfl ?_
  have wpar := hW.par
  have wclips := hW.clips
  have wnodes := hW.nodes
  have wsts := hW.sts
  have wtrs := hW.trs
  have wthr := hW.thr
  have wtxt := hW.txt
  have ws := hW.st st hst.1 hst.2
  have hnd := st_nd hW hst
  obtain ⟨D, hD⟩ : ∃ D, DOk S D := hW.dep
  refine y_aload_n hE rfl 0 rfl dX4_fires_0 ?_
  refine y_aload_n hE rfl 0 rfl dX4_fires_1 ?_
  refine gX4_47r (z := 0) hE h40 (MObj.r hM.1 15 (by decide)) (by omega) dX4_fires_2 (fun hl_2 => ?_)
  refine y_iload_n hE rfl 1 rfl dX4_fires_5 ?_
  refine y_iald hE rfl hl_2 (by have hL : K 115 0 (-1) = 10 := (MObj.l hM.1 15 (by decide)); omega) dX4_fires_6 ?_
  refine y_to (st' := [.int (iI (S 15 st)), .ref (α 4 0)]) rfl rfl (by rw [show K 115 0 st = S 15 st from (MRep.ra hM 15 rfl (by omega) (by first | omega | (show _ < (10 : Int); omega)))]) ?_
  refine y_lload hE 5 rfl dX4_fires_7 ?_
  refine y_callV hE (m_X4_blends S (S 15 st) sh h40 hM (by first | exact hW | omega) (by first | exact hv0 | omega) (by assumption) (by omega)) (lw_V q3057 q3059 qs78 q133 q3060) (nA := 2) (by decide +kernel) rfl ⟨Nat.le_of_ble_eq_true rfl, Nat.le_of_ble_eq_true rfl⟩ (hdd := rfl) (hcc := rfl) (hq := rfl) (hi := h40) (rest := []) rfl (by decide) dX4_fires_9 (bc' := 0) (bs' := 0) (Nat.le_refl _) (Nat.le_refl _) (fun r_9 n_9 α_9 K_9 hx_9 hp_9 => ?_)
  obtain ⟨rfl, rfl, hM_9, hk_9, hr_9⟩ := hp_9
  refine y_to (st' := []) rfl rfl rfl ?_
  refine y_iconst hE dX4_fires_12 ?_
  refine y_istore hE [(10, .int (iI 0)), (0, .ref (α 4 0)), (1, .int (iI st)), (2, .long (iL be)), (4, .int (iI fr)), (5, .long (iL af)), (7, .long (iL sh)), (9, .int (iI tk))] (by decide) rfl dX4_fires_13 ?_
  have L15 : ∀ (fuel : Nat) (K2 : KS) (S2 : SS) (c : Int), (MRep S2 n K2) → (KO K K2 (fun k i => k = 127 ∨ k = 128 ∨ k = 129 ∨ k = 100)) → (0 ≤ c ∧ c ≤ S 8 0) → (S2 = firC S st be fr af sh tk c.toNat) → (0 ≤ S2 0 166 ∧ S2 0 166 ≤ 30) → (∀ c : Int, 0 ≤ c → c < 12 → K2 127 0 c = wt S 4 (S 15 st) sh c) → (S 8 0 - c).toNat < fuel → Y x n α K2 0 0 15 [(10, .int (iI c)), (0, .ref (α 4 0)), (1, .int (iI st)), (2, .long (iL be)), (4, .int (iI fr)), (5, .long (iL af)), (7, .long (iL sh)), (9, .int (iI tk))] [] := by
    intro fuel15
    induction fuel15 with
    | zero => intro K2 S2 c hM2 hk2 hk hS2 hev2 hwt hfu15; exact absurd hfu15 (Nat.not_lt_zero _)
    | succ fuel15 ih15 =>
      intro K2 S2 c hM2 hk2 hk hS2 hev2 hwt hfu15
      have f2 : ∀ f : Nat, f ≠ 0 → S2 f = S f := fun f h => by rw [hS2]; exact firC_f h _
      have hW2 : WFs S2 := hW.congr f2
      have e8 : S2 8 0 = S 8 0 := congrFun (f2 8 (by decide)) 0
      have e19 : S2 19 0 = S 19 0 := congrFun (f2 19 (by decide)) 0
      have e22 : S2 22 0 = S 22 0 := congrFun (f2 22 (by decide)) 0
      refine y_iload hE 0 rfl dX4_fires_15 ?_
      refine y_aload_n hE rfl 1 rfl dX4_fires_17 ?_
      refine gX4_120 (z := S2 8 0) hE h40 (hM2.2.2.2.1) dX4_fires_18 ?_
      refine y_icmp_ge hE 167 (by decide) (by omega) (by omega) dX4_fires_21 (fun c_21 => ?_) (fun c_21 => ?_)
      · exact y_vret (r := 0) hE rfl hQ dX4_fires_167 Ext.rf ⟨rfl, rfl, by unfold firS; rw [show S 8 0 = c by omega, ← hS2]; exact hM2, hk2, trivial⟩
      · have wl := hW2.len c (by omega) (by omega)
        have we := hW2.evs c (by omega) (by omega)
        have e5 : S2 5 c = S 5 c := congrFun (f2 5 (by decide)) c
        have hwc := hwt c (by omega) (by omega)
        have hwn := wt_nn hW hD 4 (S 15 st) sh c hnd
        have hwn2 := hwn.2 hsh.1
        have h01 := hrdI_01 S st sh c
        have J65 : ∀ (h : Int), (h = hrdI S st sh c) → Y x n α K2 0 0 65 [(10, .int (iI c)), (0, .ref (α 4 0)), (1, .int (iI st)), (2, .long (iL be)), (4, .int (iI fr)), (5, .long (iL af)), (7, .long (iL sh)), (9, .int (iI tk))] [.int (iI h)] := by
          intro h hh
          refine y_istore hE [(11, .int (iI h)), (10, .int (iI c)), (0, .ref (α 4 0)), (1, .int (iI st)), (2, .long (iL be)), (4, .int (iI fr)), (5, .long (iL af)), (7, .long (iL sh)), (9, .int (iI tk))] (by decide) rfl dX4_fires_65 ?_
          refine y_iconst hE dX4_fires_67 ?_
          refine y_istore hE [(12, .int (iI 0)), (11, .int (iI h)), (10, .int (iI c)), (0, .ref (α 4 0)), (1, .int (iI st)), (2, .long (iL be)), (4, .int (iI fr)), (5, .long (iL af)), (7, .long (iL sh)), (9, .int (iI tk))] (by decide) rfl dX4_fires_68 ?_
          have L70 : ∀ (fuel : Nat) (K3 : KS) (S3 : SS) (k : Int), (MRep S3 n K3) → (KO K K3 (fun k i => k = 127 ∨ k = 128 ∨ k = 129 ∨ k = 100)) → (0 ≤ k ∧ k ≤ S2 5 c) → (S3 = firK S2 c st be fr af tk k.toNat) → (0 ≤ S3 0 166 ∧ S3 0 166 ≤ 30) → (∀ c : Int, 0 ≤ c → c < 12 → K3 127 0 c = wt S 4 (S 15 st) sh c) → (k = 0 ∨ h = 1) → (S2 5 c - k).toNat < fuel → Y x n α K3 0 0 70 [(12, .int (iI k)), (11, .int (iI h)), (10, .int (iI c)), (0, .ref (α 4 0)), (1, .int (iI st)), (2, .long (iL be)), (4, .int (iI fr)), (5, .long (iL af)), (7, .long (iL sh)), (9, .int (iI tk))] [] := by
            intro fuel70
            induction fuel70 with
            | zero => intro K3 S3 k hM3 hk3 hk9 hS3 hev3 hwt3 hzz hfu70; exact absurd hfu70 (Nat.not_lt_zero _)
            | succ fuel70 ih70 =>
              intro K3 S3 k hM3 hk3 hk9 hS3 hev3 hwt3 hzz hfu70
              have f3 : ∀ f : Nat, f ≠ 0 → S3 f = S2 f := fun f h => by rw [hS3]; exact firK_f h _
              have hW3 : WFs S3 := hW2.congr f3
              have e38 : S3 8 0 = S2 8 0 := congrFun (f3 8 (by decide)) 0
              have e319 : S3 19 0 = S2 19 0 := congrFun (f3 19 (by decide)) 0
              have e35 : S3 5 c = S2 5 c := congrFun (f3 5 (by decide)) c
              refine y_iload hE 0 rfl dX4_fires_70 ?_
              refine y_aload_n hE rfl 3 rfl dX4_fires_72 ?_
              refine gX4_23r (z := 0) hE h40 (MObj.r hM3.1 5 (by decide)) (by omega) dX4_fires_73 (fun hl_73 => ?_)
              refine y_iload hE 2 rfl dX4_fires_76 ?_
              refine y_iald hE rfl hl_73 (by have hL : K3 105 0 (-1) = 12 := (MObj.l hM3.1 5 (by decide)); omega) dX4_fires_78 ?_
              refine y_to (st' := [.int (iI (S3 5 c)), .int (iI k)]) rfl rfl (by rw [show K3 105 0 c = S3 5 c from (MRep.ra hM3 5 rfl (by omega) (by first | omega | (show _ < (12 : Int); omega)))]) ?_
              refine y_icmp_ge hE 161 (by decide) (by omega) (by omega) dX4_fires_79 (fun c_79 => ?_) (fun c_79 => ?_)
              · refine y_iinc hE 2 rfl [(10, .int (iI (c + 1))), (12, .int (iI k)), (11, .int (iI h)), (0, .ref (α 4 0)), (1, .int (iI st)), (2, .long (iL be)), (4, .int (iI fr)), (5, .long (iL af)), (7, .long (iL sh)), (9, .int (iI tk))] (by decide) rfl dX4_fires_161 ?_
                refine y_goto hE 15 (by decide) dX4_fires_164 ?_
                refine y_lv [0, 3, 4, 5, 6, 7, 8, 9] [(10, .int (iI (c + 1))), (0, .ref (α 4 0)), (1, .int (iI st)), (2, .long (iL be)), (4, .int (iI fr)), (5, .long (iL af)), (7, .long (iL sh)), (9, .int (iI tk))] rfl ?_
                exact ih15 K3 S3 (c + 1) (hM3) (hk3) (by omega) (by rw [firC_s (by omega), ← hS2]; rcases hrdI_01 S st sh c with e | e; (rw [if_neg (by omega), hS3, show k.toNat = 0 by omega]; rfl); (rw [if_pos e, hS3]; congr 1; omega)) (by omega) (hwt3) (by omega)
              · refine y_iload hE 1 rfl dX4_fires_82 ?_
                refine y_if_eq hE 161 (by decide) (by omega) dX4_fires_84 (fun c_84 => ?_) (fun c_84 => ?_)
                · refine y_iinc hE 2 rfl [(10, .int (iI (c + 1))), (12, .int (iI k)), (11, .int (iI h)), (0, .ref (α 4 0)), (1, .int (iI st)), (2, .long (iL be)), (4, .int (iI fr)), (5, .long (iL af)), (7, .long (iL sh)), (9, .int (iI tk))] (by decide) rfl dX4_fires_161 ?_
                  refine y_goto hE 15 (by decide) dX4_fires_164 ?_
                  refine y_lv [0, 3, 4, 5, 6, 7, 8, 9] [(10, .int (iI (c + 1))), (0, .ref (α 4 0)), (1, .int (iI st)), (2, .long (iL be)), (4, .int (iI fr)), (5, .long (iL af)), (7, .long (iL sh)), (9, .int (iI tk))] rfl ?_
                  exact ih15 K3 S3 (c + 1) (hM3) (hk3) (by omega) (by rw [firC_s (by omega), ← hS2]; rcases hrdI_01 S st sh c with e | e; (rw [if_neg (by omega), hS3, show k.toNat = 0 by omega]; rfl); (rw [if_pos e, hS3]; congr 1; omega)) (by omega) (hwt3) (by omega)
                · have wv := hW3.evt c k (by omega) (by omega) (by omega) (by omega)
                  have ws3 := hW3.st st (by omega) (by omega)
                  have wl3 := hW3.len c (by omega) (by omega)
                  have hz0 : 0 ≤ S3 6 (5 * c + k) * 1000000 / S3 4 c := Int.ediv_nonneg (by omega) (by omega)
                  have hz1 : S3 6 (5 * c + k) * 1000000 / S3 4 c ≤ 1000000 := Int.ediv_le_of_le_mul (by omega) (by omega)
                  have hx01 := crossI_01 (S3 6 (5 * c + k) * 1000000 / S3 4 c) be fr af (S3 17 st)
                  refine y_aload_n hE rfl 3 rfl dX4_fires_87 ?_
                  refine gX4_26r (z := 0) hE h40 (MObj.r hM3.1 6 (by decide)) (by omega) dX4_fires_88 (fun hl_88 => ?_)
                  refine y_iconst hE dX4_fires_91 ?_
                  refine y_iload hE 2 rfl dX4_fires_92 ?_
                  refine y_imul hE dX4_fires_94 ?_
                  refine y_iload hE 0 rfl dX4_fires_95 ?_
                  refine y_iadd hE dX4_fires_97 ?_
                  refine y_iald hE rfl hl_88 (by have hL : K3 106 0 (-1) = 60 := (MObj.l hM3.1 6 (by decide)); omega) dX4_fires_98 ?_
                  refine y_to (st' := [.int (iI (S3 6 ((5 * c) + k)))]) rfl rfl (by rw [show K3 106 0 ((5 * c) + k) = S3 6 ((5 * c) + k) from (MRep.ra hM3 6 rfl (by omega) (by first | omega | (show _ < (60 : Int); omega)))]) ?_
                  refine y_i2l hE (by omega) dX4_fires_99 ?_
                  refine y_ldc2 hE 1000000 (v := 1000000) (by decide) q3052 dX4_fires_100 ?_
                  refine y_lmul hE dX4_fires_103 ?_
                  refine y_aload_n hE rfl 3 rfl dX4_fires_104 ?_
                  refine gX4_20r (z := 0) hE h40 (MObj.r hM3.1 4 (by decide)) (by omega) dX4_fires_105 (fun hl_105 => ?_)
                  refine y_iload hE 2 rfl dX4_fires_108 ?_
                  refine y_iald hE rfl hl_105 (by have hL : K3 104 0 (-1) = 12 := (MObj.l hM3.1 4 (by decide)); omega) dX4_fires_110 ?_
                  refine y_to (st' := [.int (iI (S3 4 c)), .long (iL ((S3 6 ((5 * c) + k)) * 1000000))]) rfl rfl (by rw [show K3 104 0 c = S3 4 c from (MRep.ra hM3 4 rfl (by omega) (by first | omega | (show _ < (12 : Int); omega)))]) ?_
                  refine y_i2l hE (by omega) dX4_fires_111 ?_
                  refine y_ldiv hE (by omega) (by omega) dX4_fires_112 ?_
                  refine y_lstore hE [(13, .long (iL (((S3 6 ((5 * c) + k)) * 1000000) / (S3 4 c)))), (12, .int (iI k)), (11, .int (iI h)), (10, .int (iI c)), (0, .ref (α 4 0)), (1, .int (iI st)), (2, .long (iL be)), (4, .int (iI fr)), (5, .long (iL af)), (7, .long (iL sh)), (9, .int (iI tk))] (by decide) rfl dX4_fires_113 ?_
                  refine y_lload hE 0 rfl dX4_fires_115 ?_
                  refine y_lload_n hE rfl 6 rfl dX4_fires_117 ?_
                  refine y_iload hE 7 rfl dX4_fires_118 ?_
                  refine y_lload hE 8 rfl dX4_fires_120 ?_
                  refine y_aload_n hE rfl 4 rfl dX4_fires_122 ?_
                  refine gX4_53r (z := 0) hE h40 (MObj.r hM3.1 17 (by decide)) (by omega) dX4_fires_123 (fun hl_123 => ?_)
                  refine y_iload_n hE rfl 5 rfl dX4_fires_126 ?_
                  refine y_zald hE rfl hl_123 (by have hL : K3 117 0 (-1) = 10 := (MObj.l hM3.1 17 (by decide)); omega) dX4_fires_127 ?_
                  refine y_to (st' := [.int (iI (S3 17 st)), .long (iL af), .int (iI fr), .long (iL be), .long (iL (((S3 6 ((5 * c) + k)) * 1000000) / (S3 4 c)))]) rfl rfl (by rw [show K3 117 0 st = S3 17 st from (MRep.ra hM3 17 rfl (by omega) (by first | omega | (show _ < (10 : Int); omega)))]) ?_
                  refine y_callS hE (m_X4_isCrossed (((S3 6 ((5 * c) + k)) * 1000000) / (S3 4 c)) be fr af (S3 17 st) (by omega) (by omega) (by omega) (by omega) (by omega)) (lw_S q3184 q3185 q133 q3186) (nA := 5) (by decide +kernel) rfl ⟨Nat.le_of_ble_eq_true rfl, Nat.le_of_ble_eq_true rfl⟩ (rest := []) rfl (by decide) dX4_fires_128 (bc' := 0) (bs' := 0) (Nat.le_refl _) (Nat.le_refl _) (fun r_128 n_128 α_128 K_128 hx_128 hp_128 => ?_)
                  obtain ⟨rfl, rfl, rfl, hr_128⟩ := hp_128
                  have e_128 : crossI (((S3 6 ((5 * c) + k)) * 1000000) / (S3 4 c)) be fr af (S3 17 st) = r_128 := Eq.symm (by rw [hr_128])
                  subst e_128
                  refine y_to (st' := [.int (iI (crossI (((S3 6 ((5 * c) + k)) * 1000000) / (S3 4 c)) be fr af (S3 17 st)))]) rfl rfl rfl ?_
                  refine y_if_eq hE 155 (by decide) (by omega) dX4_fires_131 (fun c_131 => ?_) (fun c_131 => ?_)
                  · refine y_iinc hE 1 rfl [(12, .int (iI (k + 1))), (13, .long (iL (((S3 6 ((5 * c) + k)) * 1000000) / (S3 4 c)))), (11, .int (iI h)), (10, .int (iI c)), (0, .ref (α 4 0)), (1, .int (iI st)), (2, .long (iL be)), (4, .int (iI fr)), (5, .long (iL af)), (7, .long (iL sh)), (9, .int (iI tk))] (by decide) rfl dX4_fires_155 ?_
                    refine y_goto hE 70 (by decide) dX4_fires_158 ?_
                    refine y_lv [0, 2, 3, 4, 5, 6, 7, 8, 9, 10] [(12, .int (iI (k + 1))), (11, .int (iI h)), (10, .int (iI c)), (0, .ref (α 4 0)), (1, .int (iI st)), (2, .long (iL be)), (4, .int (iI fr)), (5, .long (iL af)), (7, .long (iL sh)), (9, .int (iI tk))] rfl ?_
                    exact ih70 K3 S3 (k + 1) (hM3) (hk3) (by omega) (by rw [firK_s (by omega), ← hS3]; first | rw [if_neg (by omega)] | rw [if_pos (by omega)]) (by first | exact hev3 | exact noteS_ev hev3) (by first | exact hwt3 | exact fun c c0 c1 => (hk_152 127 0 (by decide) c).trans (hwt3 c c0 c1)) (by omega) (by omega)
                  · refine y_aload_n hE rfl 4 rfl dX4_fires_134 ?_
                    refine y_iload hE 10 rfl dX4_fires_135 ?_
                    refine y_aload_n hE rfl 4 rfl dX4_fires_137 ?_
                    refine gX4_29r (z := 0) hE h40 (MObj.r hM3.1 7 (by decide)) (by omega) dX4_fires_138 (fun hl_138 => ?_)
                    refine y_iconst hE dX4_fires_141 ?_
                    refine y_iload hE 3 rfl dX4_fires_142 ?_
                    refine y_imul hE dX4_fires_144 ?_
                    refine y_iload hE 1 rfl dX4_fires_145 ?_
                    refine y_iadd hE dX4_fires_147 ?_
                    refine y_iald hE rfl hl_138 (by have hL : K3 107 0 (-1) = 60 := (MObj.l hM3.1 7 (by decide)); omega) dX4_fires_148 ?_
                    refine y_to (st' := [.int (iI (S3 7 ((5 * c) + k))), .int (iI tk), .ref (α 4 0)]) rfl rfl (by rw [show K3 107 0 ((5 * c) + k) = S3 7 ((5 * c) + k) from (MRep.ra hM3 7 rfl (by omega) (by first | omega | (show _ < (60 : Int); omega)))]) ?_
                    refine y_iload hE 3 rfl dX4_fires_149 ?_
                    refine y_iload_n hE rfl 5 rfl dX4_fires_151 ?_
                    refine y_callV hE (m_X4_notes S3 tk (S3 7 ((5 * c) + k)) c st h40 hM3 (by omega)) (lw_V q3187 q3189 qs104 q133 q3190) (nA := 4) (by decide +kernel) rfl ⟨Nat.le_of_ble_eq_true rfl, Nat.le_of_ble_eq_true rfl⟩ (hdd := rfl) (hcc := rfl) (hq := rfl) (hi := h40) (rest := []) rfl (by decide) dX4_fires_152 (bc' := 0) (bs' := 0) (Nat.le_refl _) (Nat.le_refl _) (fun r_152 n_152 α_152 K_152 hx_152 hp_152 => ?_)
                    obtain ⟨rfl, rfl, hM_152, hk_152, hr_152⟩ := hp_152
                    refine y_to (st' := []) rfl rfl rfl ?_
                    refine y_iinc hE 1 rfl [(12, .int (iI (k + 1))), (13, .long (iL (((S3 6 ((5 * c) + k)) * 1000000) / (S3 4 c)))), (11, .int (iI h)), (10, .int (iI c)), (0, .ref (α 4 0)), (1, .int (iI st)), (2, .long (iL be)), (4, .int (iI fr)), (5, .long (iL af)), (7, .long (iL sh)), (9, .int (iI tk))] (by decide) rfl dX4_fires_155 ?_
                    refine y_goto hE 70 (by decide) dX4_fires_158 ?_
                    refine y_lv [0, 2, 3, 4, 5, 6, 7, 8, 9, 10] [(12, .int (iI (k + 1))), (11, .int (iI h)), (10, .int (iI c)), (0, .ref (α 4 0)), (1, .int (iI st)), (2, .long (iL be)), (4, .int (iI fr)), (5, .long (iL af)), (7, .long (iL sh)), (9, .int (iI tk))] rfl ?_
                    exact ih70 K_152 (noteS S3 tk (S3 7 ((5 * c) + k)) c st) (k + 1) (hM_152) ((hk3.tr (KO.mono hk_152 (fun k i z => by (try dsimp only at z); (try dsimp only); omega)))) (by omega) (by rw [firK_s (by omega), ← hS3]; first | rw [if_neg (by omega)] | rw [if_pos (by omega)]) (by first | exact hev3 | exact noteS_ev hev3) (by first | exact hwt3 | exact fun c c0 c1 => (hk_152 127 0 (by decide) c).trans (hwt3 c c0 c1)) (by omega) (by omega)
          exact L70 _ K2 S2 0 (hM2) (hk2) (by omega) (rfl) (by omega) (hwt) (by omega) (Nat.lt_succ_self _)
        refine y_aload_n hE rfl 1 rfl dX4_fires_24 ?_
        refine gX4_72r (z := 0) hE h40 (MObj.r hM2.1 27 (by decide)) (by omega) dX4_fires_25 (fun hl_25 => ?_)
        refine y_iload hE 0 rfl dX4_fires_28 ?_
        refine y_lald hE rfl hl_25 (by have hL : K2 127 0 (-1) = 12 := (MObj.l hM2.1 27 (by decide)); omega) dX4_fires_30 ?_
        refine y_lconst hE 0 (by decide) dX4_fires_31 ?_
        refine y_lcmp_le hE 64 (by decide) (by omega) (by omega) dX4_fires_32 dX4_fires_33 (fun c_32 => ?_) (fun c_32 => ?_)
        · refine y_iconst hE dX4_fires_64 ?_
          exact J65 0 (by unfold hrdI; first | rw [if_pos (by omega)] | rw [if_neg (by omega)])
        · refine y_aload_n hE rfl 1 rfl dX4_fires_36 ?_
          refine gX4_72r (z := 0) hE h40 (MObj.r hM2.1 27 (by decide)) (by omega) dX4_fires_37 (fun hl_37 => ?_)
          refine y_iload hE 0 rfl dX4_fires_40 ?_
          refine y_lald hE rfl hl_37 (by have hL : K2 127 0 (-1) = 12 := (MObj.l hM2.1 27 (by decide)); omega) dX4_fires_42 ?_
          refine y_ldc2 hE 100 (v := 100) (by decide) q2884 dX4_fires_43 ?_
          refine y_lmul hE dX4_fires_46 ?_
          refine y_aload_n hE rfl 1 rfl dX4_fires_47 ?_
          refine gX4_62 (z := S2 22 0) hE h40 (hM2.2.2.2.2.2.2.2.1) dX4_fires_48 ?_
          refine y_i2l hE (by omega) dX4_fires_51 ?_
          refine y_ldc2 hE 1000000 (v := 1000000) (by decide) q3052 dX4_fires_52 ?_
          refine y_lmul hE dX4_fires_55 ?_
          refine y_lcmp_lt hE 64 (by decide) (by omega) (by omega) dX4_fires_56 dX4_fires_57 (fun c_56 => ?_) (fun c_56 => ?_)
          · refine y_iconst hE dX4_fires_64 ?_
            exact J65 0 (by unfold hrdI; first | rw [if_pos (by omega)] | rw [if_neg (by omega)])
          · refine y_iconst hE dX4_fires_60 ?_
            refine y_goto hE 65 (by decide) dX4_fires_61 ?_
            exact J65 1 (by unfold hrdI; first | rw [if_pos (by omega)] | rw [if_neg (by omega)])
  exact L15 _ K_9 S 0 (hM_9) ((KO.mono hk_9 (fun k i z => by (try dsimp only at z); (try dsimp only); omega))) (by omega) (rfl) (by omega) (hr_9) (Nat.lt_succ_self _)
