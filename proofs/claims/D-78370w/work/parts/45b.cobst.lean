set_option linter.unusedVariables false
/-- the list of a candidate -/
def lsC (g : Int) : Int := if g = 0 then 2 else 1
theorem WFm.lcr {S : SS} {T : Int} (hW : WFs S) (hX : WFm S 0 T) (h19 : 0 < S 19 0) : LcR S := by
  have xinn := hX.inn
  have xta := hX.ta
  have xtb := hX.tb
  simp only [Int.zero_add] at xinn xta xtb
  unfold TkOk at xta xtb
  have wtrs := hW.trs
  refine ⟨wtrs.1, (xta h19).1, ?_⟩
  rcases xinn with h | ⟨h, -⟩
  · exact Or.inl h
  · have b := xtb h
    have wx := hW.tr (S 0 9) b.2.1 b.2.2.1
    refine Or.inr ⟨h, b.1.1, ?_⟩
    unfold modS
    split <;> omega
/-- a candidate of the arrays: where it stands -/
theorem CA.cand {S : SS} (hW : WFs S) (hL : LcR S) {mc i xo g : Int} {f h : Int → Int} (hc : CA (lcL S) mc f h) (hi : 0 ≤ i ∧ i < mc) (ex : f i = xo) (eg : h i = g) : 0 ≤ xo ∧ xo < S 21 0 ∧ (g = 1 ∧ lstS S xo = 1 ∨ g = 0 ∧ lstS S xo = 2) ∧ (g = 0 → S 0 8 = 1) := by
  have r := hc.rng (lcL_ok hW) hi
  rw [ex, eg] at r
  obtain ⟨hm, hl⟩ := hc
  have hj : i.toNat < (lcL S).length := by omega
  have e := hl i.toNat (lcL S)[i.toNat] (List.getElem?_eq_getElem hj)
  rw [show ((i.toNat : Nat) : Int) = i by omega, ex, eg] at e
  have hm : (xo, g) ∈ lcL S := by
    have := List.getElem_mem hj
    rw [show (xo, g) = (lcL S)[i.toNat] from Prod.ext e.1 e.2]
    exact this
  have q := (lcL_mem hL ⟨r.1, r.2.1⟩).mp hm
  refine ⟨r.1, r.2.1, q, fun z => ?_⟩
  rcases hL.2.2 with h8 | h8
  · exfalso
    have : lstS S xo ≤ 1 := by unfold lstS; rw [if_pos h8]; split <;> omega
    omega
  · exact h8.1
theorem CA.some {S : SS} (hL : LcR S) {mc xo : Int} {f h : Int → Int} (hc : CA (lcL S) mc f h) (hx : 0 ≤ xo ∧ xo < S 21 0) (hno : ∀ j : Int, 0 ≤ j → j < mc → f j ≠ xo) : lstS S xo = 0 := by
  have k : ∀ g : Int, (xo, g) ∈ lcL S → False := fun g hg => by
    obtain ⟨i, hi, he⟩ := List.getElem_of_mem hg
    have e := hc.2 i (xo, g) (by rw [List.getElem?_eq_getElem hi, he])
    exact hno i (by omega) (by have := hc.1; omega) e.1
  have h012 := lstS_012 S xo
  rcases h012 with h | h | h
  · exact h
  · exact (k 1 ((lcL_mem hL hx).mpr (Or.inl ⟨rfl, h⟩))).elim
  · exact (k 0 ((lcL_mem hL hx).mpr (Or.inr ⟨rfl, h⟩))).elim
set_option maxHeartbeats 4000000 in
set_option maxRecDepth 100000 in
theorem m_X12_obstacle {w : KW} {n : KN} {α : KA} {K : KS} (S : SS) (mi ta tb fa fb : Int) (T i : Int) (hR : Rst S n K) (hW : WFs S) (hlm : 0 ≤ mi ∧ mi < n 12) (hV : MV S n K mi ta tb fa fb) (hv0 : WFv S) (hX : WFm S 0 T) (h19 : 0 < S 19 0) (hT0 : 0 ≤ T ∧ T ≤ 20000) (hL : CA (lcL S) (K 12 mi 13) (K 36 mi) (K 37 mi)) (hi : 0 ≤ i ∧ i < K 12 mi 13) : KM w yX12_obstacle cX12_obstacle 4 (some (.int)) { frames := 4, cells := 0, slots := 0, locals := 101 } (0, 0) [.ref (α 12 mi), .int (iI i)] n α K (fun r n' α' K' => n = n' ∧ α = α' ∧ K = K' ∧ (r = agS S (K 36 mi i) (lsC (K 37 mi i)) ∧ 0 ≤ r ∧ r ≤ 5)) := by
  refine y_start (by decide) (Nat.le_of_ble_eq_true rfl) (fun x hE hQ => ?_)
  have hw := hQ.2
  subst hw
  have hE : YE x cX12_obstacle RX12 (some (.int)) "obstacle" 4 { frames := 4, cells := 0, slots := 0, locals := 101 } := hE
  refine y_wk (fun hWK => ?_)
  have hn0 := hWK.1
  refine y_bud (bc' := 0) (bs' := 0) (Nat.le_refl _) (Nat.le_refl _) ?_
  refine y_to (lv' := [(0, .ref (α 12 mi)), (1, .int (iI i))]) (st' := []) rfl rfl rfl ?_
  have wcl := hW.clips
  have n1 := hR.n1
  have n3 := hR.n3
  have n34 := hR.n34
  have n6 := hR.n6
  have n21 := hR.n21
  have n51 := hR.n51
  have n8 := hR.n8
  have n11 := hR.n11
  have wsts := hW.sts
  have wnodes := hW.nodes
  have va := hV.a
  have vb := hV.b
  have vs := hV.st
  have vl := hV.lg
  have xinn := hX.inn
  have xfro := hX.fro
  have xmany := hX.many
  have xcuts := hX.cuts
  have xta := hX.ta
  have xtb := hX.tb
  have xfz := hX.fz
  simp only [Int.zero_add] at xinn xfro xmany xcuts xta xtb xfz
  unfold TkOk at xta xtb
  have xtaa := xta h19
  have wtrs := hW.trs
  have n24 := hR.n24
  have n54 := hR.n54
  have n36 := hR.n36
  have n37 := hR.n37
  have hlr := hX.lcr hW h19
  have hlen := (lcL_ok hW).len hW
  obtain ⟨xo, ex⟩ : ∃ z, K 36 mi i = z := ⟨_, rfl⟩
  obtain ⟨g, eg⟩ : ∃ z, K 37 mi i = z := ⟨_, rfl⟩
  obtain ⟨hx0, hx1, hlx, hg8⟩ := hL.cand hW hlr hi ex eg
  have hmc48 : K 12 mi 13 ≤ 24 := by have := hL.1; omega
  have wt := hW.tr xo hx0 hx1
  have h54x := hR.t54 (i := xo) ⟨hx0, hx1⟩
  have htb8 : g = 0 → 0 ≤ tb ∧ K 13 tb 1 = S 0 17 ∧ K 13 tb 2 = S 0 18 := fun z => by
    have vt := vs.resolve_left (by have := hg8 z; omega)
    exact ⟨vt.2.1.1, vt.2.1.2.2.2.1, vt.2.1.2.2.2.2.1⟩
  obtain ⟨pg, hpg⟩ : ∃ z, prgS S (if lsC g = 2 then 16 else 12) = z := ⟨_, rfl⟩
  refine y_aload_n hE rfl 0 rfl dX12_obstacle_0 ?_
  refine gX12_14r (z := 0) hE hlm (hR.m14 (i := mi) (by omega)) (by omega) dX12_obstacle_1 (fun hl_1 => ?_)
  refine gX12_95r (z := 0) hE hl_1 (hR.c4) (by omega) dX12_obstacle_4 (fun hl_4 => ?_)
  refine y_aload_n hE rfl 0 rfl dX12_obstacle_7 ?_
  refine gX12_38r (z := mi) hE hlm (hR.m11 (i := mi) (by omega)) (by omega) dX12_obstacle_8 (fun hl_8 => ?_)
  refine y_iload_n hE rfl 1 rfl dX12_obstacle_11 ?_
  refine y_iald hE rfl hl_8 (by have hL : K 36 mi (-1) = 48 := (hR.m36 (i := mi) (by omega)); omega) dX12_obstacle_12 ?_
  refine y_to (st' := [.int (iI xo), .ref (α 24 0)]) rfl rfl (by rw [show K 36 mi i = xo from ex]) ?_
  refine y_callV hE (m_J2_get 24 54 14 0 xo rfl rfl hl_4 (by have e1 : K 24 0 1 = 0 := (hR.l24); omega) (by have e1 : K 24 0 1 = 0 := (hR.l24); have e2 : K 24 0 2 = (S 21 0) := (hR.z24); have e3 : K 54 0 (-1) = 24 := (hR.m24); rw [e1, e2, e3]; omega) (by have e2 : K 24 0 2 = (S 21 0) := (hR.z24); rw [e2]; omega) (by have e1 : K 24 0 1 = 0 := (hR.l24); have e4 : K 54 0 xo = K 54 0 xo := rfl; rw [e1, e4]; omega)) (lw_V q823 q673 q674 q111 q675) (nA := 1) (by decide +kernel) rfl ⟨Nat.le_of_ble_eq_true rfl, Nat.le_of_ble_eq_true rfl⟩ (hdd := rfl) (hcc := rfl) (hq := rfl) (hi := hl_4) (rest := []) rfl (by decide) dX12_obstacle_13 (bc' := 0) (bs' := 0) (Nat.le_refl _) (Nat.le_refl _) (fun r_13 n_13 α_13 K_13 hx_13 hp_13 => ?_)
  obtain ⟨rfl, rfl, rfl, hr_13⟩ := hp_13
  have e_13 : K 54 0 xo = r_13 := Eq.symm (by have e1 : K 24 0 1 = 0 := (hR.l24); have e4 : K 54 0 xo = K 54 0 xo := rfl; rw [hr_13.1, e1, e4])
  subst e_13
  refine y_to (st' := [refV α 14 (K 54 0 xo)]) rfl rfl rfl ?_
  have hl_13 : (0 : Int) ≤ K 54 0 xo ∧ K 54 0 xo < n 14 := hr_13.2
  refine y_ref hl_13.1 ?_
  refine y_castE hE rfl rfl hl_13 q824 rfl dX12_obstacle_16 ?_
  refine y_astore_n hE rfl [(2, .ref (α 14 (K 54 0 xo))), (0, .ref (α 12 mi)), (1, .int (iI i))] (by decide) rfl dX12_obstacle_19 ?_
  have J51 : (¬ (S 20 (17 * xo + 3) ≠ -1 ∧ pg < S 20 (17 * xo + 3) * 10000)) → Y x n α K 0 0 51 [(2, .ref (α 14 (K 54 0 xo))), (0, .ref (α 12 mi)), (1, .int (iI i))] [] := by
    intro hnx
    refine y_aload_n hE rfl 0 rfl dX12_obstacle_51 ?_
    refine y_callV hE (m_X14_failing S xo (K 54 0 xo) hR hW hv0 (by omega) (rfl) hl_13) (lw_V q2366 q2367 q2368 q147 q2369) (nA := 0) (by decide +kernel) rfl ⟨Nat.le_of_ble_eq_true rfl, Nat.le_of_ble_eq_true rfl⟩ (hdd := rfl) (hcc := rfl) (hq := rfl) (hi := hl_13) (rest := []) rfl (by decide) dX12_obstacle_52 (bc' := 0) (bs' := 0) (Nat.le_refl _) (Nat.le_refl _) (fun r_52 n_52 α_52 K_52 hx_52 hp_52 => ?_)
    obtain ⟨rfl, rfl, rfl, hr_52⟩ := hp_52
    refine y_to (st' := [.int (iI r_52)]) rfl rfl rfl ?_
    refine y_istore_n hE rfl [(3, .int (iI r_52)), (2, .ref (α 14 (K 54 0 xo))), (0, .ref (α 12 mi)), (1, .int (iI i))] (by decide) rfl dX12_obstacle_55 ?_
    refine y_iload_n hE rfl 0 rfl dX12_obstacle_56 ?_
    refine y_iconst hE dX12_obstacle_57 ?_
    refine y_icmp_ne hE 65 (by decide) (by omega) (by omega) dX12_obstacle_58 (fun c_58 => ?_) (fun c_58 => ?_)
    · refine y_iconst hE dX12_obstacle_65 ?_
      refine y_iload_n hE rfl 0 rfl dX12_obstacle_66 ?_
      refine y_iadd hE dX12_obstacle_67 ?_
      exact y_iret hE rfl rfl hQ dX12_obstacle_68 Ext.rf ⟨rfl, rfl, rfl, by rw [ex, eg]; unfold agS; rw [hpg, if_neg hnx, hr_52.1]; first | rw [if_pos (by omega)] | rw [if_neg (by omega)], by omega, by omega⟩
    · refine y_iconst hE dX12_obstacle_61 ?_
      refine y_goto hE 68 (by decide) dX12_obstacle_62 ?_
      exact y_iret hE rfl rfl hQ dX12_obstacle_68 Ext.rf ⟨rfl, rfl, rfl, by rw [ex, eg]; unfold agS; rw [hpg, if_neg hnx, hr_52.1]; first | rw [if_pos (by omega)] | rw [if_neg (by omega)], by omega, by omega⟩
  refine y_aload_n hE rfl 0 rfl dX12_obstacle_20 ?_
  refine gX12_145 (z := (S 20 (17 * xo + 3))) hE hl_13 (hR.t3 (i := xo) (by omega)) dX12_obstacle_21 ?_
  refine y_iconst hE dX12_obstacle_24 ?_
  refine y_icmp_eq hE 51 (by decide) (by omega) (by omega) dX12_obstacle_25 (fun c_25 => ?_) (fun c_25 => ?_)
  · exact J51  (by omega)
  · refine y_aload_n hE rfl 1 rfl dX12_obstacle_28 ?_
    refine y_iload_n hE rfl 2 rfl dX12_obstacle_29 ?_
    refine y_callV hE (m_X12_trackOf S mi ta tb fa fb i hR hW hlm hV (⟨hi.1, by omega⟩) (by rw [eg]; omega) (by rw [eg]; exact fun z => (htb8 z).1)) (lw_V q2356 q2358 qs35 q145 q2359) (nA := 1) (by decide +kernel) rfl ⟨Nat.le_of_ble_eq_true rfl, Nat.le_of_ble_eq_true rfl⟩ (hdd := rfl) (hcc := rfl) (hq := rfl) (hi := hlm) (rest := []) rfl (by decide) dX12_obstacle_30 (bc' := 0) (bs' := 0) (Nat.le_refl _) (Nat.le_refl _) (fun r_30 n_30 α_30 K_30 hx_30 hp_30 => ?_)
    obtain ⟨rfl, rfl, rfl, hr_30⟩ := hp_30
    have htk : 0 ≤ K 13 r_30 1 ∧ K 13 r_30 1 ≤ 1000000000 ∧ 0 ≤ K 13 r_30 2 ∧ K 13 r_30 2 ≤ 1000000 ∧ K 13 r_30 1 * 1000000 + K 13 r_30 2 = pg := by
      have hr1 := hr_30.1
      rw [eg] at hr1
      by_cases z : g = 0
      · obtain ⟨z1, z2, z3⟩ := htb8 z
        have zb := (xtb (hg8 z)).1
        try unfold TkOk at zb
        rw [show (16 : Int) + 1 = 17 by omega, show (16 : Int) + 2 = 18 by omega] at zb
        rw [if_pos z] at hr1
        rw [hr1, z2, z3, ← hpg]
        unfold lsC
        rw [if_pos z, if_pos rfl]
        unfold prgS
        refine ⟨by omega, by omega, by omega, by omega, rfl⟩
      · have za := xtaa
        try unfold TkOk at za
        rw [show (12 : Int) + 1 = 13 by omega, show (12 : Int) + 2 = 14 by omega] at za
        rw [if_neg z] at hr1
        rw [hr1, va.2.2.2.2.1, va.2.2.2.2.2.1, ← hpg]
        unfold lsC
        rw [if_neg z, if_neg (by omega)]
        unfold prgS
        refine ⟨by omega, by omega, by omega, by omega, rfl⟩
    replace hr_30 : True ∧ 0 ≤ r_30 ∧ r_30 < n 13 := ⟨trivial, hr_30.2⟩
    refine y_to (st' := [refV α 13 r_30]) rfl rfl rfl ?_
    have hl_30 : (0 : Int) ≤ r_30 ∧ r_30 < n 13 := hr_30.2
    refine y_ref hl_30.1 ?_
    refine y_callV hE (m_X13_progress r_30 hl_30 (⟨htk.1, htk.2.1⟩) (⟨htk.2.2.1, htk.2.2.2.1⟩)) (lw_V q2360 q2361 q2362 q146 q2363) (nA := 0) (by decide +kernel) rfl ⟨Nat.le_of_ble_eq_true rfl, Nat.le_of_ble_eq_true rfl⟩ (hdd := rfl) (hcc := rfl) (hq := rfl) (hi := hl_30) (rest := []) rfl (by decide) dX12_obstacle_33 (bc' := 0) (bs' := 0) (Nat.le_refl _) (Nat.le_refl _) (fun r_33 n_33 α_33 K_33 hx_33 hp_33 => ?_)
    obtain ⟨rfl, rfl, rfl, hr_33⟩ := hp_33
    have h33 : r_33 = pg := hr_33.trans htk.2.2.2.2
    clear hr_33
    refine y_to (st' := [.long (iL r_33)]) rfl rfl rfl ?_
    refine y_aload_n hE rfl 0 rfl dX12_obstacle_36 ?_
    refine gX12_145 (z := (S 20 (17 * xo + 3))) hE hl_13 (hR.t3 (i := xo) (by omega)) dX12_obstacle_37 ?_
    refine y_i2l hE (by omega) dX12_obstacle_40 ?_
    refine y_ldc2 hE 10000 (v := 10000) (by decide) q2365 dX12_obstacle_41 ?_
    refine y_lmul hE dX12_obstacle_44 ?_
    refine y_lcmp_ge hE 51 (by decide) (by omega) (by omega) dX12_obstacle_45 dX12_obstacle_46 (fun c_45 => ?_) (fun c_45 => ?_)
    · exact J51  (by omega)
    · refine y_iconst hE dX12_obstacle_49 ?_
      exact y_iret hE rfl rfl hQ dX12_obstacle_50 Ext.rf ⟨rfl, rfl, rfl, by rw [ex, eg]; unfold agS; rw [hpg, if_pos (by omega)], by omega, by omega⟩
set_option maxHeartbeats 4000000 in
set_option maxRecDepth 100000 in
theorem m_X12_obstacleOf {w : KW} {n : KN} {α : KA} {K : KS} (S : SS) (mi ta tb fa fb : Int) (T t : Int) (hR : Rst S n K) (hW : WFs S) (hlm : 0 ≤ mi ∧ mi < n 12) (hV : MV S n K mi ta tb fa fb) (hv0 : WFv S) (hX : WFm S 0 T) (h19 : 0 < S 19 0) (hT0 : 0 ≤ T ∧ T ≤ 20000) (ht : 0 ≤ t ∧ t < S 21 0) : KM w yX12_obstacleOf cX12_obstacleOf 3 (some (.int)) { frames := 5, cells := 0, slots := 0, locals := 124 } (0, 0) [.ref (α 12 mi), .int (iI t)] n α K (fun r n' α' K' => n = n' ∧ α = α' ∧ KF K K' (fun k i f => k = 12 ∧ i = (mi) ∧ f = 13 ∨ k = 36 ∧ i = (mi) ∧ 0 ≤ f ∨ k = 37 ∧ i = (mi) ∧ 0 ≤ f) ∧ (r = (if lstS S t = 0 then 1 else agS S t (lstS S t)) ∧ 0 ≤ r ∧ r ≤ 5)) := by
  refine y_start (by decide) (Nat.le_of_ble_eq_true rfl) (fun x hE hQ => ?_)
  have hw := hQ.2
  subst hw
  have hE : YE x cX12_obstacleOf RX12 (some (.int)) "obstacleOf" 3 { frames := 5, cells := 0, slots := 0, locals := 124 } := hE
  refine y_wk (fun hWK => ?_)
  have hn0 := hWK.1
  refine y_bud (bc' := 0) (bs' := 0) (Nat.le_refl _) (Nat.le_refl _) ?_
  refine y_to (lv' := [(0, .ref (α 12 mi)), (1, .int (iI t))]) (st' := []) rfl rfl rfl ?_
  have hfoot : ∀ (k : Nat) (i f : Int), (fun k i f => k = 12 ∧ i = (mi) ∧ f = 13 ∨ k = 36 ∧ i = (mi) ∧ 0 ≤ f ∨ k = 37 ∧ i = (mi) ∧ 0 ≤ f) k i f → ¬ SKd k f := fun k i f z => by unfold SKd; (try dsimp only at z); omega
  have wcl := hW.clips
  have n1 := hR.n1
  have n3 := hR.n3
  have n34 := hR.n34
  have n6 := hR.n6
  have n21 := hR.n21
  have n51 := hR.n51
  have n8 := hR.n8
  have n11 := hR.n11
  have wsts := hW.sts
  have wnodes := hW.nodes
  have va := hV.a
  have vb := hV.b
  have vs := hV.st
  have vl := hV.lg
  have hfe : ∀ (k : Nat) (i f : Int), (fun k i f => k = 12 ∧ i = (mi) ∧ f = 13 ∨ k = 36 ∧ i = (mi) ∧ 0 ≤ f ∨ k = 37 ∧ i = (mi) ∧ 0 ≤ f) k i f → ¬ MVe mi k i f := fun k i f z => by unfold MVe; (try dsimp only at z); omega
  have hlr := hX.lcr hW h19
  have hlen := (lcL_ok hW).len hW
  have n36 := hR.n36
  have wtrs := hW.trs
  refine y_aload_n hE rfl 0 rfl dX12_obstacleOf_0 ?_
  refine y_callV hE (m_X12_listCandidates S mi ta tb fa fb T hR hW hlm hV hX h19) (lw_V q2336 q2337 q2338 q145 q2339) (nA := 0) (by decide +kernel) rfl ⟨Nat.le_of_ble_eq_true rfl, Nat.le_of_ble_eq_true rfl⟩ (hdd := rfl) (hcc := rfl) (hq := rfl) (hi := hlm) (rest := []) rfl (by decide) dX12_obstacleOf_1 (bc' := 0) (bs' := 0) (Nat.le_refl _) (Nat.le_refl _) (fun r_1 n_1 α_1 K_1 hx_1 hp_1 => ?_)
  obtain ⟨rfl, rfl, hk_1, hr_1⟩ := hp_1
  obtain ⟨mc, hmc⟩ : ∃ z, K_1 12 mi 13 = z := ⟨_, rfl⟩
  rw [hmc] at hr_1
  have hmc4 : 0 ≤ mc ∧ mc ≤ 24 := by have := hr_1.1; omega
  refine y_to (st' := []) rfl rfl rfl ?_
  refine y_iconst hE dX12_obstacleOf_4 ?_
  refine y_istore_n hE rfl [(2, .int (iI 0)), (0, .ref (α 12 mi)), (1, .int (iI t))] (by decide) rfl dX12_obstacleOf_5 ?_
  have L6 : ∀ (fuel : Nat) (k : Int), (0 ≤ k ∧ k ≤ mc) → (∀ j : Int, 0 ≤ j → j < k → K_1 36 mi j ≠ t) → (mc - k).toNat < fuel → Y x n α K_1 0 0 6 [(2, .int (iI k)), (0, .ref (α 12 mi)), (1, .int (iI t))] [] := by
    intro fuel6
    induction fuel6 with
    | zero => intro k hk hno hfu6; exact absurd hfu6 (Nat.not_lt_zero _)
    | succ fuel6 ih6 =>
      intro k hk hno hfu6
      refine y_iload_n hE rfl 0 rfl dX12_obstacleOf_6 ?_
      refine y_aload_n hE rfl 1 rfl dX12_obstacleOf_7 ?_
      refine gX12_114 (z := mc) hE hlm hmc dX12_obstacleOf_8 ?_
      refine y_icmp_ge hE 36 (by decide) (by omega) (by omega) dX12_obstacleOf_11 (fun c_11 => ?_) (fun c_11 => ?_)
      · refine y_iconst hE dX12_obstacleOf_36 ?_
        exact y_iret hE rfl rfl hQ dX12_obstacleOf_37 Ext.rf ⟨rfl, rfl, (KF.mono hk_1 (fun k i f z => by (try dsimp only at z ⊢); omega)), by rw [if_pos (hr_1.some hlr ht (fun j a b => hno j a (by omega)))], by omega, by omega⟩
      · have hrg := hr_1.rng (lcL_ok hW) (k := k) (by omega)
        refine y_aload_n hE rfl 1 rfl dX12_obstacleOf_14 ?_
        refine gX12_38r (z := mi) hE hlm ((hk_1 12 mi 11 (by (try dsimp only); omega)).trans (hR.m11 (i := mi) (by omega))) (by omega) dX12_obstacleOf_15 (fun hl_15 => ?_)
        refine y_iload_n hE rfl 0 rfl dX12_obstacleOf_18 ?_
        refine y_iald hE rfl hl_15 (by have hL : K_1 36 mi (-1) = 48 := ((hk_1 36 mi (-1) (by (try dsimp only); omega)).trans (hR.m36 (i := mi) (by omega))); omega) dX12_obstacleOf_19 ?_
        refine y_iload_n hE rfl 2 rfl dX12_obstacleOf_20 ?_
        refine y_icmp_ne hE 30 (by decide) (by omega) (by omega) dX12_obstacleOf_21 (fun c_21 => ?_) (fun c_21 => ?_)
        · refine y_iinc hE 0 rfl [(2, .int (iI (k + 1))), (0, .ref (α 12 mi)), (1, .int (iI t))] (by decide) rfl dX12_obstacleOf_30 ?_
          refine y_goto hE 6 (by decide) dX12_obstacleOf_33 ?_
          exact ih6 (k + 1) (by omega) (fun j a b => by by_cases q : j = k; (rw [q]; omega); exact hno j a (by omega)) (by omega)
        · refine y_aload_n hE rfl 1 rfl dX12_obstacleOf_24 ?_
          refine y_iload_n hE rfl 0 rfl dX12_obstacleOf_25 ?_
          refine y_callV hE (m_X12_obstacle S mi ta tb fa fb T k (hR.kf (P := fun k i f => k = 12 ∧ i = (mi) ∧ f = 13 ∨ k = 36 ∧ i = (mi) ∧ 0 ≤ f ∨ k = 37 ∧ i = (mi) ∧ 0 ≤ f) (KF.mono hk_1 (fun k i f z => by (try dsimp only at z ⊢); omega)) hfoot) (by assumption) hlm (hV.kfc (P := fun k i f => k = 12 ∧ i = (mi) ∧ f = 13 ∨ k = 36 ∧ i = (mi) ∧ 0 ≤ f ∨ k = 37 ∧ i = (mi) ∧ 0 ≤ f) (KF.mono hk_1 (fun k i f z => by (try dsimp only at z ⊢); omega)) hfe) (by assumption) (by assumption) (by omega) (by omega) (by rw [hmc]; exact hr_1) (by rw [hmc]; omega)) (lw_V q2352 q2353 q2354 q145 q2355) (nA := 1) (by decide +kernel) rfl ⟨Nat.le_of_ble_eq_true rfl, Nat.le_of_ble_eq_true rfl⟩ (hdd := rfl) (hcc := rfl) (hq := rfl) (hi := hlm) (rest := []) rfl (by decide) dX12_obstacleOf_26 (bc' := 0) (bs' := 0) (Nat.le_refl _) (Nat.le_refl _) (fun r_26 n_26 α_26 K_26 hx_26 hp_26 => ?_)
          obtain ⟨rfl, rfl, rfl, hr_26⟩ := hp_26
          refine y_to (st' := [.int (iI r_26)]) rfl rfl rfl ?_
          refine y_iret hE rfl rfl hQ dX12_obstacleOf_29 Ext.rf ?_
          refine ⟨rfl, rfl, (KF.mono hk_1 (fun k i f z => by (try dsimp only at z ⊢); omega)), ?_, hr_26.2⟩
          have hc := hr_1.cand hW hlr (i := k) (by omega) c_21 rfl
          rw [hr_26.1, c_21]
          unfold lsC
          rcases hc.2.2.1 with z | z
          · rw [if_neg (by omega), if_neg (by omega), z.2]
          · rw [if_pos (by omega), if_neg (by omega), z.2]
  exact L6 _ 0 (by omega) (fun j a b => by omega) (Nat.lt_succ_self _)
