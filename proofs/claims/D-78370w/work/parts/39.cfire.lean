set_option linter.unusedVariables false
/-- a machine's log goes on -/
theorem MV.log {S S' : SS} {n : KN} {K K' : KS} {mi ta tb fa fb : Int} (h : MV S n K mi ta tb fa fb) (hs : ∀ j : Int, j < 166 → S' 0 j = S 0 j) (hk : KF K K' (fun k i f => k = 12 ∧ i = mi ∧ f = 8 ∨ k = 12 ∧ i = mi ∧ f = 9 ∨ k = 35 ∧ i = mi ∧ 0 ≤ f)) (hwm : 0 ≤ S 0 21 ∧ S 0 21 ≤ 24)
    (lg : K' 12 mi 8 = S' 0 166 ∧ (∀ j : Int, 0 ≤ j → j < 4 * S' 0 166 → K' 35 mi j = S' 0 (167 + j)) ∧ K' 12 mi 9 = S' 0 288) : MV S' n K' mi ta tb fa fb := by
  obtain ⟨a1, a2, a3, a4, a5, a6⟩ := h
  have e12 : ∀ f, f ≠ 8 → f ≠ 9 → K' 12 mi f = K 12 mi f := fun f h1 h2 => hk 12 mi f (by omega)
  have e13 : ∀ i f, K' 13 i f = K 13 i f := fun i f => hk 13 i f (by omega)
  have eo : ∀ k : Nat, (k = 2 ∨ 31 ≤ k ∧ k ≤ 33) → ∀ f, K' k (mi + 1) f = K k (mi + 1) f := fun k hq f => hk k _ f (by omega)
  have efr : frS S' 0 = frS S 0 := by
    unfold frS
    rw [hs (0 + 21) (by omega)]
    apply List.map_congr_left
    intro k hk
    have hk := List.mem_range.mp hk
    rw [Int.zero_add] at hk
    rw [hs _ (by omega), hs _ (by omega), hs _ (by omega)]
  unfold MV
  rw [e12 0 (by omega) (by omega), e12 1 (by omega) (by omega), e12 2 (by omega) (by omega), e12 3 (by omega) (by omega), e12 4 (by omega) (by omega), e12 5 (by omega) (by omega), efr, hs 8 (by omega), hs 9 (by omega), hs 10 (by omega), hs 11 (by omega), hs 12 (by omega), hs 13 (by omega), hs 14 (by omega), hs 16 (by omega), hs 17 (by omega), hs 18 (by omega), hs 20 (by omega)]
  simp only [e13]
  exact ⟨a1, a2, a3, a4, fun z => (a5 z).congr (eo 2 (by omega) 3) (fun j _ _ => ⟨eo 31 (by omega) j, eo 32 (by omega) j, eo 33 (by omega) j⟩), lg⟩
theorem noteS_lo {S : SS} {tk id c st j : Int} (h : 0 ≤ S 0 166 ∧ S 0 166 ≤ 30) (hj : j < 166) : noteS S tk id c st 0 j = S 0 j := by
  have h2 := noteA_29 h
  unfold noteS noteZ noteY
  rw [up2_j _ _ _ _ (by omega), up2_j _ _ _ _ (by omega), noteX_o (by omega), noteA_o (by omega)]
theorem noteS_hi {S : SS} {tk id c st : Int} (h : 0 ≤ S 0 166 ∧ S 0 166 ≤ 30) : noteS S tk id c st 0 166 = noteA S 0 166 + 1 ∧ noteS S tk id c st 0 288 = S 0 288 + 1 ∧ noteS S tk id c st 0 287 = S 0 287 ∧ ∀ j : Int, 0 ≤ j → j < 4 * noteA S 0 166 + 4 → noteS S tk id c st 0 (167 + j) = if j < 4 * noteA S 0 166 then noteA S 0 (167 + j) else if j = 4 * noteA S 0 166 then tk else if j = 4 * noteA S 0 166 + 1 then id else if j = 4 * noteA S 0 166 + 2 then c else st := by
  have h2 := noteA_29 h
  unfold noteS noteZ noteY
  refine ⟨?_, ?_, ?_, fun j j0 j1 => ?_⟩
  · rw [up2_j _ _ _ _ (by omega), up2_s, noteX_o (by omega)]
  · rw [up2_s, up2_j _ _ _ _ (by omega), noteX_o (by omega), noteA_o (by omega)]
  · rw [up2_j _ _ _ _ (by omega), up2_j _ _ _ _ (by omega), noteX_o (by omega), noteA_o (by omega)]
  · rw [up2_j _ _ _ _ (by omega), up2_j _ _ _ _ (by omega)]
    by_cases q : j < 4 * noteA S 0 166
    · rw [if_pos q, noteX_o (by omega)]
    · rw [if_neg q]
      unfold noteX up2
      (repeat' split) <;> first | rfl | omega
theorem noteA_at {S : SS} {j : Int} (h : 0 ≤ S 0 166 ∧ S 0 166 ≤ 30) (hj : 0 ≤ j ∧ j < 4 * noteA S 0 166) : noteA S 0 (167 + j) = if S 0 166 = 30 then S 0 (167 + (j + 4)) else S 0 (167 + j) := by
  have h2 := noteA_29 h
  by_cases e : S 0 166 = 30
  · rw [if_pos e]
    unfold noteA
    rw [if_pos e, up2_j _ _ _ _ (by omega)]
    unfold shfS
    rw [if_pos (by omega), show 167 + j + 4 = 167 + (j + 4) by omega]
  · rw [if_neg e]; unfold noteA; rw [if_neg e]
theorem noteA_n {S : SS} : noteA S 0 166 = if S 0 166 = 30 then 29 else S 0 166 := by
  unfold noteA
  split
  · rename_i e
    have e1 : shfS S 116 0 166 = S 0 166 := by unfold shfS; rw [if_neg (by omega)]
    rw [up2_s, e1]; omega
  · rfl
set_option maxHeartbeats 4000000 in
set_option maxRecDepth 100000 in
theorem m_X12_note {w : KW} {n : KN} {α : KA} {K : KS} (S : SS) (mi ta tb fa fb : Int) (id c st : Int) (hR : Rst S n K) (hW : WFs S) (hlm : 0 ≤ mi ∧ mi < n 12) (hV : MV S n K mi ta tb fa fb) (hwm : 0 ≤ S 0 21 ∧ S 0 21 ≤ 24) (hev : 0 ≤ S 0 166 ∧ S 0 166 ≤ 30) (htk : K 12 mi 10 = S 0 287) : KM w yX12_note cX12_note 4 none { frames := 1, cells := 0, slots := 0, locals := 40 } (3, 0) [.ref (α 12 mi), .int (iI id), .int (iI c), .int (iI st)] n α K (fun r n' α' K' => n = n' ∧ α = α' ∧ KF K K' (fun k i f => k = 12 ∧ i = (mi) ∧ f = 8 ∨ k = 12 ∧ i = (mi) ∧ f = 9 ∨ k = 35 ∧ i = (mi) ∧ 0 ≤ f) ∧ (MV (noteS S (S 0 287) id c st) n K' mi ta tb fa fb)) := by
  refine y_start (by decide) (Nat.le_of_ble_eq_true rfl) (fun x hE hQ => ?_)
  have hw := hQ.2
  subst hw
  have hE : YE x cX12_note RX12 none "note" 4 { frames := 1, cells := 0, slots := 0, locals := 40 } := hE
  refine y_wk (fun hWK => ?_)
  have hn0 := hWK.1
  refine y_bud (bc' := 0) (bs' := 0) (Nat.le_refl _) (Nat.le_refl _) ?_
  refine y_to (lv' := [(0, .ref (α 12 mi)), (1, .int (iI id)), (2, .int (iI c)), (3, .int (iI st))]) (st' := []) rfl rfl rfl ?_
  have hfoot : ∀ (k : Nat) (i f : Int), (fun k i f => k = 12 ∧ i = (mi) ∧ f = 8 ∨ k = 12 ∧ i = (mi) ∧ f = 9 ∨ k = 35 ∧ i = (mi) ∧ 0 ≤ f) k i f → ¬ SKd k f := fun k i f z => by unfold SKd; (try dsimp only at z); omega
  have wcl := hW.clips
  have n1 := hR.n1
  have n3 := hR.n3
  have n34 := hR.n34
  have n6 := hR.n6
  have n21 := hR.n21
  have n51 := hR.n51
  have n8 := hR.n8
  have n11 := hR.n11
  have wsts := hW.sts
  have wnodes := hW.nodes
  have va := hV.a
  have vb := hV.b
  have vs := hV.st
  have vl := hV.lg
  have hhi := noteS_hi (tk := S 0 287) (id := id) (c := c) (st := st) hev
  have h29 := noteA_29 hev
  have hnn := noteA_n (S := S)
  have J39 : ∀ (K2 : KS), (KF K K2 (fun k i f => k = 12 ∧ i = (mi) ∧ f = 8 ∨ k = 12 ∧ i = (mi) ∧ f = 9 ∨ k = 35 ∧ i = (mi) ∧ 0 ≤ f)) → (K2 12 mi 8 = noteA S 0 166) → (K2 12 mi 9 = S 0 288) → (∀ j : Int, 0 ≤ j → j < 4 * noteA S 0 166 → K2 35 mi j = noteA S 0 (167 + j)) → Y x n α K2 0 0 39 [(0, .ref (α 12 mi)), (1, .int (iI id)), (2, .int (iI c)), (3, .int (iI st))] [] := by
    intro K2 hk2 hq8 hq9 hqa
    refine y_aload_n hE rfl 0 rfl dX12_note_39 ?_
    refine gX12_34r (z := mi) hE hlm ((hk2 12 mi 7 (by (try dsimp only); omega)).trans (hR.m7 (i := mi) (by omega))) (by omega) dX12_note_40 (fun hl_40 => ?_)
    refine y_iconst hE dX12_note_43 ?_
    refine y_aload_n hE rfl 0 rfl dX12_note_44 ?_
    refine gX12_76 (z := (noteA S 0 166)) hE hlm hq8 dX12_note_45 ?_
    refine y_imul hE dX12_note_48 ?_
    refine y_aload_n hE rfl 0 rfl dX12_note_49 ?_
    refine gX12_82 (z := (S 0 287)) hE hlm ((hk2 12 mi 10 (by (try dsimp only); omega)).trans htk) dX12_note_50 ?_
    refine y_iast hE (by unfold kC; decide) rfl (by simp [kTag]) hl_40 (by have hL : K2 35 mi (-1) = 120 := ((hk2 35 mi (-1) (by (try dsimp only); omega)).trans (hR.m35 (i := mi) (by omega))); omega) dX12_note_53 ?_
    refine y_aload_n hE rfl 0 rfl dX12_note_54 ?_
    refine gX12_34r (z := mi) hE hlm ((hk2 12 mi 7 (by (try dsimp only); omega)).trans (hR.m7 (i := mi) (by omega))) (by omega) dX12_note_55 (fun hl_55 => ?_)
    refine y_iconst hE dX12_note_58 ?_
    refine y_aload_n hE rfl 0 rfl dX12_note_59 ?_
    refine gX12_76 (z := (noteA S 0 166)) hE hlm hq8 dX12_note_60 ?_
    refine y_imul hE dX12_note_63 ?_
    refine y_iconst hE dX12_note_64 ?_
    refine y_iadd hE dX12_note_65 ?_
    refine y_iload_n hE rfl 1 rfl dX12_note_66 ?_
    refine y_iast hE (by unfold kC; decide) rfl (by simp [kTag]) hl_55 (by have hL : (up3 K2 35 mi (4 * (noteA S 0 166)) (S 0 287)) 35 mi (-1) = 120 := (by simp only [up3, upr]; (repeat rw [if_neg (by omega)]); exact ((hk2 35 mi (-1) (by (try dsimp only); omega)).trans (hR.m35 (i := mi) (by omega)))); omega) dX12_note_67 ?_
    refine y_aload_n hE rfl 0 rfl dX12_note_68 ?_
    refine gX12_34r (z := mi) hE hlm ((hk2 12 mi 7 (by (try dsimp only); omega)).trans (hR.m7 (i := mi) (by omega))) (by omega) dX12_note_69 (fun hl_69 => ?_)
    refine y_iconst hE dX12_note_72 ?_
    refine y_aload_n hE rfl 0 rfl dX12_note_73 ?_
    refine gX12_76 (z := (noteA S 0 166)) hE hlm hq8 dX12_note_74 ?_
    refine y_imul hE dX12_note_77 ?_
    refine y_iconst hE dX12_note_78 ?_
    refine y_iadd hE dX12_note_79 ?_
    refine y_iload_n hE rfl 2 rfl dX12_note_80 ?_
    refine y_iast hE (by unfold kC; decide) rfl (by simp [kTag]) hl_69 (by have hL : (up3 (up3 K2 35 mi (4 * (noteA S 0 166)) (S 0 287)) 35 mi ((4 * (noteA S 0 166)) + 1) id) 35 mi (-1) = 120 := (by simp only [up3, upr]; (repeat rw [if_neg (by omega)]); exact ((hk2 35 mi (-1) (by (try dsimp only); omega)).trans (hR.m35 (i := mi) (by omega)))); omega) dX12_note_81 ?_
    refine y_aload_n hE rfl 0 rfl dX12_note_82 ?_
    refine gX12_34r (z := mi) hE hlm ((hk2 12 mi 7 (by (try dsimp only); omega)).trans (hR.m7 (i := mi) (by omega))) (by omega) dX12_note_83 (fun hl_83 => ?_)
    refine y_iconst hE dX12_note_86 ?_
    refine y_aload_n hE rfl 0 rfl dX12_note_87 ?_
    refine gX12_76 (z := (noteA S 0 166)) hE hlm hq8 dX12_note_88 ?_
    refine y_imul hE dX12_note_91 ?_
    refine y_iconst hE dX12_note_92 ?_
    refine y_iadd hE dX12_note_93 ?_
    refine y_iload_n hE rfl 3 rfl dX12_note_94 ?_
    refine y_iast hE (by unfold kC; decide) rfl (by simp [kTag]) hl_83 (by have hL : (up3 (up3 (up3 K2 35 mi (4 * (noteA S 0 166)) (S 0 287)) 35 mi ((4 * (noteA S 0 166)) + 1) id) 35 mi ((4 * (noteA S 0 166)) + 2) c) 35 mi (-1) = 120 := (by simp only [up3, upr]; (repeat rw [if_neg (by omega)]); exact ((hk2 35 mi (-1) (by (try dsimp only); omega)).trans (hR.m35 (i := mi) (by omega)))); omega) dX12_note_95 ?_
    refine y_aload_n hE rfl 0 rfl dX12_note_96 ?_
    refine y_dup hE rfl dX12_note_97 ?_
    refine gX12_76 (z := (noteA S 0 166)) hE hlm hq8 dX12_note_98 ?_
    refine y_iconst hE dX12_note_101 ?_
    refine y_iadd hE dX12_note_102 ?_
    refine pX12_76 hE hlm dX12_note_103 ?_
    refine y_aload_n hE rfl 0 rfl dX12_note_106 ?_
    refine y_dup hE rfl dX12_note_107 ?_
    refine gX12_79 (z := (S 0 288)) hE hlm hq9 dX12_note_108 ?_
    refine y_iconst hE dX12_note_111 ?_
    refine y_iadd hE dX12_note_112 ?_
    refine pX12_79 hE hlm dX12_note_113 ?_
    refine y_vret (r := 0) hE rfl hQ dX12_note_116 Ext.rf ?_
    refine ⟨rfl, rfl, (KF.up (KF.up (KF.up (KF.up (KF.up (KF.up hk2 (by (try dsimp only); omega)) (by (try dsimp only); omega)) (by (try dsimp only); omega)) (by (try dsimp only); omega)) (by (try dsimp only); omega)) (by (try dsimp only); omega)), hV.log (fun j hj => noteS_lo hev hj) (KF.up (KF.up (KF.up (KF.up (KF.up (KF.up hk2 (by (try dsimp only); omega)) (by (try dsimp only); omega)) (by (try dsimp only); omega)) (by (try dsimp only); omega)) (by (try dsimp only); omega)) (by (try dsimp only); omega)) hwm ⟨by rw [hhi.1]; simp [up3], fun j j0 j1 => ?_, by rw [hhi.2.1]; simp [up3]⟩⟩
    rw [hhi.1] at j1
    rw [hhi.2.2.2 j j0 (by omega)]
    simp only [up3, true_and, and_true]
    by_cases q : j < 4 * noteA S 0 166
    · rw [if_pos q, ← hqa j j0 q]
      (repeat rw [if_neg (by omega)])
    · rw [if_neg q]
      rcases (by omega : j = 4 * noteA S 0 166 ∨ j = 4 * noteA S 0 166 + 1 ∨ j = 4 * noteA S 0 166 + 2 ∨ j = 4 * noteA S 0 166 + 3) with e | e | e | e <;> (repeat (first | rw [if_pos (by omega)] | rw [if_neg (by omega)]))
  refine y_aload_n hE rfl 0 rfl dX12_note_0 ?_
  refine gX12_76 (z := (S 0 166)) hE hlm vl.1 dX12_note_1 ?_
  refine y_bipush hE (by decide) dX12_note_4 ?_
  refine y_icmp_ne hE 39 (by decide) (by omega) (by omega) dX12_note_6 (fun c_6 => ?_) (fun c_6 => ?_)
  · exact J39 K (KF.rf) (by rw [hnn]; first | (rw [if_pos (by omega)]; simp [up3, upr]; omega) | (rw [if_neg (by omega)]; exact vl.1)) (by first | exact vl.2.2 | (simp [up3, upr]; exact vl.2.2)) (fun j j0 j1 => by rw [noteA_at hev ⟨j0, j1⟩]; first | (rw [if_neg (by omega)]; exact vl.2.1 j j0 (by rw [hnn, if_neg (by omega)] at j1; exact j1)) | (rw [if_pos (by omega)]; rw [hnn, if_pos (by omega)] at j1; rw [up3_k _ _ _ _ _ _ (by decide), upr_in (by omega), show (4 : Int) + (j - 0) = j + 4 by omega]; exact vl.2.1 (j + 4) (by omega) (by omega)))
  · refine y_aload_n hE rfl 0 rfl dX12_note_9 ?_
    refine gX12_34r (z := mi) hE hlm (hR.m7 (i := mi) (by omega)) (by omega) dX12_note_10 (fun hl_10 => ?_)
    refine y_iconst hE dX12_note_13 ?_
    refine y_aload_n hE rfl 0 rfl dX12_note_14 ?_
    refine gX12_34r (z := mi) hE hlm (hR.m7 (i := mi) (by omega)) (by omega) dX12_note_15 (fun hl_15 => ?_)
    refine y_iconst hE dX12_note_18 ?_
    refine y_aload_n hE rfl 0 rfl dX12_note_19 ?_
    refine gX12_34r (z := mi) hE hlm (hR.m7 (i := mi) (by omega)) (by omega) dX12_note_20 (fun hl_20 => ?_)
    refine y_alen hE (hd := rfl) rfl hl_20 dX12_note_23 (fun h1_23 h2_23 => ?_)
    rw [show K 35 mi (-1) = 120 from (hR.m35 (i := mi) (by omega))] at *
    refine y_iconst hE dX12_note_24 ?_
    refine y_isub hE dX12_note_25 ?_
    refine y_copyi hE (by unfold kC; decide) (by decide) rfl rfl (by unfold kC; decide) hl_10 hl_15 q2462 (by have hL : K 35 mi (-1) = 120 := (hR.m35 (i := mi) (by omega)); omega) (by have hL : K 35 mi (-1) = 120 := (hR.m35 (i := mi) (by omega)); omega) (Nat.le_of_ble_eq_true rfl) (Nat.le_of_ble_eq_true rfl) dX12_note_26 ?_
    refine y_aload_n hE rfl 0 rfl dX12_note_29 ?_
    refine y_dup hE rfl dX12_note_30 ?_
    refine gX12_76 (z := (S 0 166)) hE hlm vl.1 dX12_note_31 ?_
    refine y_iconst hE dX12_note_34 ?_
    refine y_isub hE dX12_note_35 ?_
    refine pX12_76 hE hlm dX12_note_36 ?_
    exact J39 (up3 (upr K 35 mi 0 (0 + 120 - 4) (fun f => K 35 mi (4 + (f - 0)))) 12 mi 8 ((S 0 166) - 1)) ((KF.up (KF.upr KF.rf (fun f h1 h2 => by (try dsimp only); omega)) (by (try dsimp only); omega))) (by rw [hnn]; first | (rw [if_pos (by omega)]; simp [up3, upr]; omega) | (rw [if_neg (by omega)]; exact vl.1)) (by first | exact vl.2.2 | (simp [up3, upr]; exact vl.2.2)) (fun j j0 j1 => by rw [noteA_at hev ⟨j0, j1⟩]; first | (rw [if_neg (by omega)]; exact vl.2.1 j j0 (by rw [hnn, if_neg (by omega)] at j1; exact j1)) | (rw [if_pos (by omega)]; rw [hnn, if_pos (by omega)] at j1; rw [up3_k _ _ _ _ _ _ (by decide), upr_in (by omega), show (4 : Int) + (j - 0) = j + 4 by omega]; exact vl.2.1 (j + 4) (by omega) (by omega)))
