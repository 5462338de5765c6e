set_option linter.unusedVariables false
theorem MV.end {S : SS} {n : KN} {K K' : KS} {mi ta tb fa fb : Int} (h : MV S n K mi ta tb fa fb) (hin : S 0 8 = 1) (hk : KF K K' (fun k i f => k = 12 ∧ i = mi ∧ 0 ≤ f ∧ f ≤ 5)) (e0 : K' 12 mi 0 = tb) (e1 : K' 12 mi 1 = -1) (e2 : K' 12 mi 2 = -1) (e3 : K' 12 mi 3 = 0) (e4 : K' 12 mi 4 = 0) (e5 : K' 12 mi 5 = 0) : MV (endS S) n K' mi tb (-1) fb fb := by
  have hb := h.b
  have hs := (h.st.resolve_left (by omega)).2.1
  have hl := h.lg
  have hn := h.mi
  have z := endS_0 S
  have ei : ∀ j : Int, 0 ≤ j ∧ j < 4 → endS S 0 (12 + j) = S 0 (16 + j) := fun j hj => endS_i hj
  have i0 : endS S 0 12 = S 0 16 := ei 0 (by omega)
  have i1 : endS S 0 13 = S 0 17 := ei 1 (by omega)
  have i2 : endS S 0 14 = S 0 18 := ei 2 (by omega)
  have e13 : ∀ f, K' 13 tb f = K 13 tb f := fun f => hk 13 tb f (by omega)
  unfold MV
  rw [e0, e1, e2, e3, e4, e5, e13, e13, e13, e13, i0, i1, i2, z.1, z.2.2.1, hk 12 mi 8 (by omega), hk 12 mi 9 (by omega), endS_o (j := 166) (by omega), endS_o (j := 288) (by omega)]
  refine ⟨hn, ⟨rfl, hs.1, hb.2, hs.2.2.1, hs.2.2.2.1, hs.2.2.2.2.1, hs.2.2.2.2.2⟩, ⟨rfl, by omega⟩, Or.inl ⟨rfl, by omega, rfl, rfl, rfl, rfl⟩, fun q => absurd q (by omega), ⟨hl.1, fun j j0 j1 => ?_, hl.2.2⟩⟩
  rw [hk 35 mi j (by omega), endS_o (by omega)]
  exact hl.2.1 j j0 j1
set_option maxHeartbeats 4000000 in
set_option maxRecDepth 100000 in
theorem m_X12_end {w : KW} {n : KN} {α : KA} {K : KS} (S : SS) (mi ta tb fa fb : Int)  (hR : Rst S n K) (hW : WFs S) (hlm : 0 ≤ mi ∧ mi < n 12) (hV : MV S n K mi ta tb fa fb) (hin : S 0 8 = 1) : KM w yX12_end cX12_end 1 none { frames := 0, cells := 0, slots := 0, locals := 0 } (3, 0) [.ref (α 12 mi)] n α K (fun r n' α' K' => n = n' ∧ α = α' ∧ KF K K' (fun k i f => k = 12 ∧ i = (mi) ∧ f = 0 ∨ k = 12 ∧ i = (mi) ∧ f = 1 ∨ k = 12 ∧ i = (mi) ∧ f = 2 ∨ k = 12 ∧ i = (mi) ∧ f = 3 ∨ k = 12 ∧ i = (mi) ∧ f = 4 ∨ k = 12 ∧ i = (mi) ∧ f = 5) ∧ (MV (endS S) n K' mi tb (-1) fb fb)) := by
  refine y_start (by decide) (Nat.le_of_ble_eq_true rfl) (fun x hE hQ => ?_)
  have hw := hQ.2
  subst hw
  have hE : YE x cX12_end RX12 none "end" 1 { frames := 0, cells := 0, slots := 0, locals := 0 } := hE
  refine y_wk (fun hWK => ?_)
  have hn0 := hWK.1
  refine y_bud (bc' := 0) (bs' := 0) (Nat.le_refl _) (Nat.le_refl _) ?_
  refine y_to (lv' := [(0, .ref (α 12 mi))]) (st' := []) rfl rfl rfl ?_
  have hfoot : ∀ (k : Nat) (i f : Int), (fun k i f => k = 12 ∧ i = (mi) ∧ f = 0 ∨ k = 12 ∧ i = (mi) ∧ f = 1 ∨ k = 12 ∧ i = (mi) ∧ f = 2 ∨ k = 12 ∧ i = (mi) ∧ f = 3 ∨ k = 12 ∧ i = (mi) ∧ f = 4 ∨ k = 12 ∧ i = (mi) ∧ f = 5) k i f → ¬ SKd k f := fun k i f z => by unfold SKd; (try dsimp only at z); omega
  have wcl := hW.clips
  have n1 := hR.n1
  have n3 := hR.n3
  have n34 := hR.n34
  have n6 := hR.n6
  have n21 := hR.n21
  have n51 := hR.n51
  have n8 := hR.n8
  have n11 := hR.n11
  have wsts := hW.sts
  have wnodes := hW.nodes
  have va := hV.a
  have vb := hV.b
  have vs := hV.st
  have vl := hV.lg
  have vt := vs.resolve_left (by omega)
  obtain ⟨-, ⟨vt0, vt1, vt2, vt3, vt4, vt5⟩, vt6, vt7, vt8, vt9⟩ := vt
  refine y_aload_n hE rfl 0 rfl dX12_end_0 ?_
  refine y_aload_n hE rfl 0 rfl dX12_end_1 ?_
  refine gX12_53r (z := tb) hE hlm vb.1 (by omega) dX12_end_2 (fun hl_2 => ?_)
  refine pX12_45r hE hlm hl_2 dX12_end_5 ?_
  refine y_aload_n hE rfl 0 rfl dX12_end_8 ?_
  refine y_null hE dX12_end_9 ?_
  refine y_to (st' := refV α 13 (-1) :: .ref (α 12 mi) :: []) rfl rfl rfl ?_
  refine pX12_53 hE hlm (by have := hn0 13; omega) dX12_end_10 ?_
  refine y_aload_n hE rfl 0 rfl dX12_end_13 ?_
  refine y_iconst hE dX12_end_14 ?_
  refine pX12_23 hE hlm dX12_end_15 ?_
  refine y_aload_n hE rfl 0 rfl dX12_end_18 ?_
  refine y_iconst hE dX12_end_19 ?_
  refine pX12_56 hE hlm dX12_end_20 ?_
  refine y_aload_n hE rfl 0 rfl dX12_end_23 ?_
  refine y_iconst hE dX12_end_24 ?_
  refine pX12_59 hE hlm dX12_end_25 ?_
  refine y_aload_n hE rfl 0 rfl dX12_end_28 ?_
  refine y_iconst hE dX12_end_29 ?_
  refine pX12_62 hE hlm (by omega) dX12_end_30 ?_
  refine y_vret (r := 0) hE rfl hQ dX12_end_33 Ext.rf ?_
  refine ⟨rfl, rfl, (KF.up (KF.up (KF.up (KF.up (KF.up (KF.up KF.rf (by (try dsimp only); omega)) (by (try dsimp only); omega)) (by (try dsimp only); omega)) (by (try dsimp only); omega)) (by (try dsimp only); omega)) (by (try dsimp only); omega)), hV.end hin ?_ ?_ ?_ ?_ ?_ ?_ ?_⟩
  · exact KF.up (KF.up (KF.up (KF.up (KF.up (KF.up KF.rf (by (try dsimp only); omega)) (by (try dsimp only); omega)) (by (try dsimp only); omega)) (by (try dsimp only); omega)) (by (try dsimp only); omega)) (by (try dsimp only); omega)
  all_goals simp [up3]
