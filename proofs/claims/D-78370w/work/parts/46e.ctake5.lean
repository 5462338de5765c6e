set_option linter.unusedVariables false
theorem find_at {p : Int × Int → Bool} : ∀ (L : List (Int × Int)) (k : Nat) (e : Int × Int), (∀ j : Nat, j < k → ∀ e, L[j]? = some e → p e = false) → L[k]? = some e → p e = true → L.find? p = some e
  | [], k, e, _, h, _ => by simp at h
  | a :: L, 0, e, _, h, he => by
    simp only [List.getElem?_cons_zero, Option.some.injEq] at h
    subst h
    rw [List.find?_cons, he]
  | a :: L, k + 1, e, hno, h, he => by
    rw [List.find?_cons, hno 0 (by omega) a rfl]
    exact find_at L k e (fun j hj e' h' => hno (j + 1) (by omega) e' (by simpa using h')) (by simpa using h) he
theorem find_no {p : Int × Int → Bool} {L : List (Int × Int)} (h : ∀ j : Nat, j < L.length → ∀ e, L[j]? = some e → p e = false) : L.find? p = none := by
  rw [List.find?_eq_none]
  intro e he
  obtain ⟨j, hj, hje⟩ := List.getElem_of_mem he
  have := h j hj e (by rw [List.getElem?_eq_getElem hj, hje])
  simp [this]
theorem CA.frb {S : SS} {mc i : Int} {f h : Int → Int} {e : Int × Int} (hc : CA (lcL S) mc f h) (hi : 0 ≤ i) (he : (lcL S)[i.toNat]? = some e) : frB S e = decide (agS S (f i) (lsC (h i)) = 0) := by
  have := hc.2 i.toNat e he
  rw [show ((i.toNat : Nat) : Int) = i by omega] at this
  unfold frB lsC
  rw [this.1, this.2]
set_option maxHeartbeats 4000000 in
set_option maxRecDepth 100000 in
theorem m_X12_choose {w : KW} {n : KN} {α : KA} {K : KS} (S : SS) (mi ta tb fa fb : Int) (T : Int) (hR : Rst S n K) (hW : WFs S) (hlm : 0 ≤ mi ∧ mi < n 12) (hV : MV S n K mi ta tb fa fb) (hv0 : WFv S) (hX : WFm S 0 T) (h19 : 0 < S 19 0) (hT0 : 0 ≤ T ∧ T ≤ 20000) (hfa : fa = S 0 15) (hfb : S 0 8 = 1 → fb = S 0 19) (hfl : 0 ≤ K 2 (mi + 1) 3 ∧ K 2 (mi + 1) 3 ≤ 40) : KM w yX12_choose cX12_choose 2 (some (.boolean)) { frames := 10, cells := 1, slots := 5, locals := 255 } (0, 0) [.ref (α 12 mi)] n α K (fun r n' α' K' => r = (takS S).1 ∧ (∀ k, k ≠ 13 → n' k = n k) ∧ n 13 ≤ n' 13 ∧ Rst (takS S).2 n' K' ∧ KF K K' (FT mi ta tb (n 13)) ∧ MG (takS S).2 n' K' mi ta tb (n 13) ∧ 0 ≤ K' 2 (mi + 1) 3 ∧ K' 2 (mi + 1) 3 ≤ 40) := by
  refine y_start (by decide) (Nat.le_of_ble_eq_true rfl) (fun x hE hQ => ?_)
  have hw := hQ.2
  subst hw
  have hE : YE x cX12_choose RX12 (some (.boolean)) "choose" 2 { frames := 10, cells := 1, slots := 5, locals := 255 } := hE
  refine y_wk (fun hWK => ?_)
  have hn0 := hWK.1
  refine y_bud (bc' := 1) (bs' := 5) (Nat.le_refl _) (Nat.le_refl _) ?_
  refine y_to (lv' := [(0, .ref (α 12 mi))]) (st' := []) rfl rfl rfl ?_
  have wcl := hW.clips
  have n1 := hR.n1
  have n3 := hR.n3
  have n34 := hR.n34
  have n6 := hR.n6
  have n21 := hR.n21
  have n51 := hR.n51
  have n8 := hR.n8
  have n11 := hR.n11
  have wsts := hW.sts
  have wnodes := hW.nodes
  have va := hV.a
  have vb := hV.b
  have vs := hV.st
  have vl := hV.lg
  have hlr := hX.lcr hW h19
  have hlen := (lcL_ok hW).len hW
  have n36 := hR.n36
  have hff := lcL_find hlr
  refine y_aload_n hE rfl 0 rfl dX12_choose_0 ?_
  refine y_callV hE (m_X12_listCandidates S mi ta tb fa fb T hR hW hlm hV hX h19) (lw_V q2336 q2337 q2338 q145 q2339) (nA := 0) (by decide +kernel) rfl ⟨Nat.le_of_ble_eq_true rfl, Nat.le_of_ble_eq_true rfl⟩ (hdd := rfl) (hcc := rfl) (hq := rfl) (hi := hlm) (rest := []) rfl (by decide) dX12_choose_1 (bc' := 1) (bs' := 5) (Nat.le_refl _) (Nat.le_refl _) (fun r_1 n_1 α_1 K_1 hx_1 hp_1 => ?_)
  obtain ⟨rfl, rfl, hk_1, hr_1⟩ := hp_1
  have hR1 : Rst S n K_1 := hR.kf hk_1 (fun k i f z => by unfold SKd; (try dsimp only at z); omega)
  have hV1 : MV S n K_1 mi ta tb fa fb := hV.kfc hk_1 (fun k i f z => by unfold MVe; (try dsimp only at z); omega)
  have hfl1 : 0 ≤ K_1 2 (mi + 1) 3 ∧ K_1 2 (mi + 1) 3 ≤ 40 := by rw [hk_1 2 (mi + 1) 3 (by (try dsimp only); omega)]; exact hfl
  obtain ⟨mc, hmc⟩ : ∃ z, K_1 12 mi 13 = z := ⟨_, rfl⟩
  have hca := hr_1
  rw [hmc] at hca
  have hmc4 : 0 ≤ mc ∧ mc ≤ 24 := by have := hca.1; omega
  refine y_to (st' := []) rfl rfl rfl ?_
  refine y_iconst hE dX12_choose_4 ?_
  refine y_istore_n hE rfl [(1, .int (iI 0)), (0, .ref (α 12 mi))] (by decide) rfl dX12_choose_5 ?_
  have L6 : ∀ (fuel : Nat) (k : Int), (0 ≤ k ∧ k ≤ mc) → (∀ j : Nat, (j : Int) < k → ∀ e, (lcL S)[j]? = some e → frB S e = false) → (mc - k).toNat < fuel → Y x n α K_1 1 5 6 [(1, .int (iI k)), (0, .ref (α 12 mi))] [] := by
    intro fuel6
    induction fuel6 with
    | zero => intro k hk hno hfu6; exact absurd hfu6 (Nat.not_lt_zero _)
    | succ fuel6 ih6 =>
      intro k hk hno hfu6
      refine y_iload_n hE rfl 0 rfl dX12_choose_6 ?_
      refine y_aload_n hE rfl 1 rfl dX12_choose_7 ?_
      refine gX12_114 (z := mc) hE hlm hmc dX12_choose_8 ?_
      refine y_icmp_ge hE 35 (by decide) (by omega) (by omega) dX12_choose_11 (fun c_11 => ?_) (fun c_11 => ?_)
      · refine y_iconst hE dX12_choose_35 ?_
        refine y_iret hE rfl (nar_b (by omega)).1 hQ dX12_choose_36 Ext.rf ?_
        have hfd := find_no (p := frB S) (L := lcL S) (fun j hj e he => hno j (by have := hca.1; omega) e he)
        rw [hff] at hfd
        have htk9 : takt S = -1 := by
          by_cases z : takt S = -1
          · exact z
          · rw [if_neg z] at hfd; cases hfd
        have hs9 : takS S = (0, S) := by unfold takS; rw [if_pos htk9]
        rw [hs9]
        exact ⟨rfl, fun k _ => rfl, Int.le_refl _, hR1, (KF.mono hk_1 (fun k i f z => by (try dsimp only at z); rcases z with ⟨rfl, rfl, rfl⟩ | ⟨rfl, rfl, zz⟩ | ⟨rfl, rfl, zz⟩ <;> (first | exact FT.m (by omega) | exact FT.v | exact FT.b (by omega) | exact FT.p0 | exact FT.p1 | exact FT.q0 (by decide) (by omega) | exact FT.q1 (by decide) (by omega) | exact FT.a (by decide) (by omega) | exact FT.t (by omega)))), ⟨ta, tb, fa, fb, hV1, hfa, hfb, Or.inl rfl, Or.inr (Or.inl rfl)⟩, hfl1⟩
      · refine y_aload_n hE rfl 1 rfl dX12_choose_14 ?_
        refine y_iload_n hE rfl 0 rfl dX12_choose_15 ?_
        refine y_callV hE (m_X12_obstacle S mi ta tb fa fb T k hR1 (by assumption) hlm hV1 (by assumption) (by assumption) (by omega) (by omega) (hr_1) (by rw [hmc]; omega)) (lw_V q2352 q2353 q2354 q145 q2355) (nA := 1) (by decide +kernel) rfl ⟨Nat.le_of_ble_eq_true rfl, Nat.le_of_ble_eq_true rfl⟩ (hdd := rfl) (hcc := rfl) (hq := rfl) (hi := hlm) (rest := []) rfl (by decide) dX12_choose_16 (bc' := 1) (bs' := 5) (Nat.le_refl _) (Nat.le_refl _) (fun r_16 n_16 α_16 K_16 hx_16 hp_16 => ?_)
        obtain ⟨rfl, rfl, rfl, hr_16⟩ := hp_16
        refine y_to (st' := [.int (iI r_16)]) rfl rfl rfl ?_
        refine y_if_ne hE 29 (by decide) (by omega) dX12_choose_19 (fun c_19 => ?_) (fun c_19 => ?_)
        · refine y_iinc hE 0 rfl [(1, .int (iI (k + 1))), (0, .ref (α 12 mi))] (by decide) rfl dX12_choose_29 ?_
          refine y_goto hE 6 (by decide) dX12_choose_32 ?_
          exact ih6 (k + 1) (by omega) (fun j hj e he => by
  by_cases q : (j : Int) < k
  · exact hno j q e he
  · have z := hca.frb (i := k) (e := e) (by omega) (by rw [show k.toNat = j by omega]; exact he)
    rw [z, ← hr_16.1]
    exact decide_eq_false (by omega)) (by omega)
        · have hkl : k.toNat < (lcL S).length := by have := hca.1; omega
          have hke := List.getElem?_eq_getElem hkl
          have hfb9 := hca.frb (i := k) (by omega) hke
          rw [decide_eq_true (by rw [← hr_16.1]; omega)] at hfb9
          have hfd := find_at (lcL S) k.toNat _ (fun j hj e he => hno j (by omega) e he) hke hfb9
          rw [hff] at hfd
          have htk9 : takt S ≠ -1 := fun z => by rw [if_pos z] at hfd; cases hfd
          rw [if_neg htk9] at hfd
          have hpr := Option.some.inj hfd
          have hce := hca.2 k.toNat _ hke
          rw [show ((k.toNat : Nat) : Int) = k by omega, ← hpr] at hce
          have htl := (takt_in S).1
          refine y_aload_n hE rfl 1 rfl dX12_choose_22 ?_
          refine y_iload_n hE rfl 0 rfl dX12_choose_23 ?_
          refine y_callV hE (m_X12_take S mi ta tb fa fb T k (takt S) (if takl S = 2 then 0 else 1) hR1 (by assumption) hlm hV1 (by assumption) (by assumption) (by omega) (by omega) (hfa) (hfb) (by omega) (hr_1) (by rw [hmc]; omega) (hce.1) (hce.2) (rfl) (htk9) (by rcases htl with z | z; (right; exact ⟨z, by rw [if_neg (by omega)]; omega⟩); (left; exact ⟨z, by rw [if_pos z]⟩))) (lw_V q2378 q2380 qs36 q145 q2381) (nA := 1) (by decide +kernel) rfl ⟨Nat.le_of_ble_eq_true rfl, Nat.le_of_ble_eq_true rfl⟩ (hdd := rfl) (hcc := rfl) (hq := rfl) (hi := hlm) (rest := []) rfl (by decide) dX12_choose_24 (bc' := 0) (bs' := 0) (Nat.le_of_ble_eq_true rfl) (Nat.le_of_ble_eq_true rfl) (fun r_24 n_24 α_24 K_24 hx_24 hp_24 => ?_)
          have hr_24 := hp_24
          have hv_24 : (0 : Int) ≤ mi ∧ mi < n_24 12 := ⟨hlm.1, Int.lt_of_lt_of_le hlm.2 (hx_24 12).1⟩
          refine y_to (lv' := [(1, .int (iI k)), (0, .ref (α_24 12 mi))]) (st' := []) rfl (by rw [ext_r hx_24 hlm]) (by first | rfl | (rw [ext_r hx_24 hlm]; rfl) | (simp only [ext_r hx_24 hlm]; rfl)) ?_
          refine y_iconst hE dX12_choose_27 ?_
          exact y_iret hE rfl (nar_b (by omega)).1 hQ dX12_choose_28 hx_24 ⟨by unfold takS; rw [if_neg htk9], hr_24.1, hr_24.2.1, hr_24.2.2.1, (KF.mono hk_1 (fun k i f z => by (try dsimp only at z); rcases z with ⟨rfl, rfl, rfl⟩ | ⟨rfl, rfl, zz⟩ | ⟨rfl, rfl, zz⟩ <;> first | exact FT.m (by omega) | exact FT.v | exact FT.b (by omega) | exact FT.p0 | exact FT.p1 | exact FT.q0 (by decide) (by omega) | exact FT.q1 (by decide) (by omega) | exact FT.a (by decide) (by omega) | exact FT.t (by omega))).tr hr_24.2.2.2.1, hr_24.2.2.2.2⟩
  exact L6 _ 0 (by omega) (fun j hj => by omega) (Nat.lt_succ_self _)
