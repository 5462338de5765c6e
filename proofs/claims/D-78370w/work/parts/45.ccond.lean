set_option linter.unusedVariables false
theorem hld_ts (S : SS) (t k : Int) : tsI (S 20 (17 * t + 9 + 3 * k)) (S 0 (S 20 (17 * t + 8 + 3 * k))) (S 20 (17 * t + 10 + 3 * k)) = hldI S t k := by
  unfold tsI hldI
  rw [show 17 * t + 9 + 3 * k = 17 * t + 8 + 3 * k + 1 by omega, show 17 * t + 10 + 3 * k = 17 * t + 8 + 3 * k + 2 by omega]
set_option maxHeartbeats 4000000 in
set_option maxRecDepth 100000 in
theorem m_X14_failing {w : KW} {n : KN} {α : KA} {K : KS} (S : SS) (t xo : Int) (hR : Rst S n K) (hW : WFs S) (hv0 : WFv S) (ht : 0 ≤ t ∧ t < S 21 0) (ex : K 54 0 t = xo) (hx : 0 ≤ xo ∧ xo < n 14) : KM w yX14_failing cX14_failing 2 (some (.int)) { frames := 3, cells := 0, slots := 0, locals := 80 } (0, 0) [.ref (α 14 xo)] n α K (fun r n' α' K' => n = n' ∧ α = α' ∧ K = K' ∧ (agF S t (S 20 (17 * t + 7)).toNat 0 = (if r = -1 then 0 else 3 + r) ∧ -1 ≤ r ∧ r ≤ 2)) := by
  refine y_start (by decide) (Nat.le_of_ble_eq_true rfl) (fun x hE hQ => ?_)
  have hw := hQ.2
  subst hw
  have hE : YE x cX14_failing RX14 (some (.int)) "failing" 2 { frames := 3, cells := 0, slots := 0, locals := 80 } := hE
  refine y_wk (fun hWK => ?_)
  have hn0 := hWK.1
  refine y_bud (bc' := 0) (bs' := 0) (Nat.le_refl _) (Nat.le_refl _) ?_
  refine y_to (lv' := [(0, .ref (α 14 xo))]) (st' := []) rfl rfl rfl ?_
  have x8 : K 14 xo 8 = S 20 (17 * t + 7) := by rw [← ex]; exact hR.t8 (i := t) ht
  have x7 : K 14 xo 7 = xo := by rw [← ex]; exact hR.t7 (i := t) ht
  have x40 : K 40 xo (-1) = 3 := by rw [← ex]; exact hR.t40 (i := t) ht
  have wt := hW.tr t ht.1 ht.2
  have n5 := hR.n5
  have n40 := hR.n40
  refine y_iconst hE dX14_failing_0 ?_
  refine y_istore_n hE rfl [(1, .int (iI 0)), (0, .ref (α 14 xo))] (by decide) rfl dX14_failing_1 ?_
  have L2 : ∀ (fuel : Nat) (k : Int), (0 ≤ k ∧ k ≤ S 20 (17 * t + 7)) → (agF S t (S 20 (17 * t + 7)).toNat 0 = agF S t (S 20 (17 * t + 7) - k).toNat k) → (S 20 (17 * t + 7) - k).toNat < fuel → Y x n α K 0 0 2 [(1, .int (iI k)), (0, .ref (α 14 xo))] [] := by
    intro fuel2
    induction fuel2 with
    | zero => intro k hk hf hfu2; exact absurd hfu2 (Nat.not_lt_zero _)
    | succ fuel2 ih2 =>
      intro k hk hf hfu2
      refine y_iload_n hE rfl 0 rfl dX14_failing_2 ?_
      refine y_aload_n hE rfl 1 rfl dX14_failing_3 ?_
      refine gX14_31 (z := (S 20 (17 * t + 7))) hE hx x8 dX14_failing_4 ?_
      refine y_icmp_ge hE 30 (by decide) (by omega) (by omega) dX14_failing_7 (fun c_7 => ?_) (fun c_7 => ?_)
      · refine y_iconst hE dX14_failing_30 ?_
        exact y_iret hE rfl rfl hQ dX14_failing_31 Ext.rf ⟨rfl, rfl, rfl, by rw [hf, show (S 20 (17 * t + 7) - k).toNat = 0 by omega, agF]; rfl, by omega, by omega⟩
      · have hcd := hR.cd (i := t) ht (j := k) (by omega)
        rw [ex] at hcd
        obtain ⟨hc0, hc1, hc2, hc3, hc4, hc5⟩ := hcd
        have wc := hW.cond t k ht.1 ht.2 (by omega) (by omega)
        have wv := hv0 (S 20 (17 * t + 8 + 3 * k)) (by omega) (by have := hW.par; omega)
        refine y_aload_n hE rfl 1 rfl dX14_failing_10 ?_
        refine gX14_11r (z := xo) hE hx x7 (by omega) dX14_failing_11 (fun hl_11 => ?_)
        refine y_iload_n hE rfl 0 rfl dX14_failing_14 ?_
        refine y_aald hE rfl rfl hl_11 (by have hL : K 40 xo (-1) = 3 := x40; omega) (by omega) dX14_failing_15 (fun hl_15 => ?_)
        have hl_15 : (0 : Int) ≤ K 40 xo k ∧ K 40 xo k < n 15 := ⟨by omega, hl_15⟩
        refine y_callV hE (m_X15_holds S (K 40 xo k) (S 20 (17 * t + 8 + 3 * k)) (K 15 (K 40 xo k) 1) (S 20 (17 * t + 9 + 3 * k)) (S 20 (17 * t + 10 + 3 * k)) hR hW hv0 hl_15 (hc1) (rfl) (by omega) (hc2) (hc3) (hc4) (hc5) (by omega) (by omega)) (lw_V q2370 q2371 q2372 q148 q2373) (nA := 0) (by decide +kernel) rfl ⟨Nat.le_of_ble_eq_true rfl, Nat.le_of_ble_eq_true rfl⟩ (hdd := rfl) (hcc := rfl) (hq := rfl) (hi := hl_15) (rest := []) rfl (by decide) dX14_failing_16 (bc' := 0) (bs' := 0) (Nat.le_refl _) (Nat.le_refl _) (fun r_16 n_16 α_16 K_16 hx_16 hp_16 => ?_)
        obtain ⟨rfl, rfl, rfl, hr_16⟩ := hp_16
        have hh16 : r_16 = hldI S t k := hr_16.trans (hld_ts S t k)
        have h01 := hldI_01 S t k
        refine y_to (st' := [.int (iI r_16)]) rfl rfl rfl ?_
        refine y_if_ne hE 24 (by decide) (by omega) dX14_failing_19 (fun c_19 => ?_) (fun c_19 => ?_)
        · refine y_iinc hE 0 rfl [(1, .int (iI (k + 1))), (0, .ref (α 14 xo))] (by decide) rfl dX14_failing_24 ?_
          refine y_goto hE 2 (by decide) dX14_failing_27 ?_
          exact ih2 (k + 1) (by omega) (by rw [hf, agF_s (by omega), if_pos (by omega)]) (by omega)
        · refine y_iload_n hE rfl 0 rfl dX14_failing_22 ?_
          exact y_iret hE rfl rfl hQ dX14_failing_23 Ext.rf ⟨rfl, rfl, rfl, by rw [hf, agF_s (by omega), if_neg (by omega), if_neg (by omega)], by omega, by omega⟩
  exact L2 _ 0 (by omega) (by rw [Int.sub_zero]) (Nat.lt_succ_self _)
set_option maxHeartbeats 4000000 in
set_option maxRecDepth 100000 in
theorem m_X14_resetTriggers {w : KW} {n : KN} {α : KA} {K : KS} (S : SS) (t xo : Int) (hR : Rst S n K) (hW : WFs S) (ht : 0 ≤ t ∧ t < S 21 0) (ex : K 54 0 t = xo) (hx : 0 ≤ xo ∧ xo < n 14) (hvs : ∀ p : Int, 0 ≤ p → p < S 3 0 → K 5 p 1 = S 0 p) : KM w yX14_resetTriggers cX14_resetTriggers 3 none { frames := 0, cells := 0, slots := 0, locals := 0 } (3, 0) [.ref (α 14 xo)] n α K (fun r n' α' K' => n = n' ∧ α = α' ∧ KF K K' (fun k i f => k = 5 ∧ f = 1) ∧ (∀ p : Int, 0 ≤ p → p < S 3 0 → K' 5 p 1 = rsT S t (S 20 (17 * t + 7)).toNat 0 p)) := by
  refine y_start (by decide) (Nat.le_of_ble_eq_true rfl) (fun x hE hQ => ?_)
  have hw := hQ.2
  subst hw
  have hE : YE x cX14_resetTriggers RX14 none "resetTriggers" 3 { frames := 0, cells := 0, slots := 0, locals := 0 } := hE
  refine y_wk (fun hWK => ?_)
  have hn0 := hWK.1
  refine y_bud (bc' := 0) (bs' := 0) (Nat.le_refl _) (Nat.le_refl _) ?_
  refine y_to (lv' := [(0, .ref (α 14 xo))]) (st' := []) rfl rfl rfl ?_
  have x8 : K 14 xo 8 = S 20 (17 * t + 7) := by rw [← ex]; exact hR.t8 (i := t) ht
  have x7 : K 14 xo 7 = xo := by rw [← ex]; exact hR.t7 (i := t) ht
  have x40 : K 40 xo (-1) = 3 := by rw [← ex]; exact hR.t40 (i := t) ht
  have wt := hW.tr t ht.1 ht.2
  have n5 := hR.n5
  have n40 := hR.n40
  refine y_iconst hE dX14_resetTriggers_0 ?_
  refine y_istore_n hE rfl [(1, .int (iI 0)), (0, .ref (α 14 xo))] (by decide) rfl dX14_resetTriggers_1 ?_
  have L2 : ∀ (fuel : Nat) (K2 : KS) (k : Int), (KF K K2 (fun k i f => k = 5 ∧ f = 1)) → (0 ≤ k ∧ k ≤ S 20 (17 * t + 7)) → (∀ p : Int, 0 ≤ p → p < S 3 0 → K2 5 p 1 = rsT S t k.toNat 0 p) → (S 20 (17 * t + 7) - k).toNat < fuel → Y x n α K2 0 0 2 [(1, .int (iI k)), (0, .ref (α 14 xo))] [] := by
    intro fuel2
    induction fuel2 with
    | zero => intro K2 k hk2 hk hv2 hfu2; exact absurd hfu2 (Nat.not_lt_zero _)
    | succ fuel2 ih2 =>
      intro K2 k hk2 hk hv2 hfu2
      refine y_iload_n hE rfl 0 rfl dX14_resetTriggers_2 ?_
      refine y_aload_n hE rfl 1 rfl dX14_resetTriggers_3 ?_
      refine gX14_31 (z := (S 20 (17 * t + 7))) hE hx ((hk2 14 xo 8 (by (try dsimp only); omega)).trans x8) dX14_resetTriggers_4 ?_
      refine y_icmp_ge hE 46 (by decide) (by omega) (by omega) dX14_resetTriggers_7 (fun c_7 => ?_) (fun c_7 => ?_)
      · exact y_vret (r := 0) hE rfl hQ dX14_resetTriggers_46 Ext.rf ⟨rfl, rfl, hk2, fun p a b => by rw [show S 20 (17 * t + 7) = k by omega]; exact hv2 p a b⟩
      · have hcd := hR.cd (i := t) ht (j := k) (by omega)
        rw [ex] at hcd
        obtain ⟨hc0, hc1, hc2, hc3, hc4, hc5⟩ := hcd
        have wc := hW.cond t k ht.1 ht.2 (by omega) (by omega)
        obtain ⟨p0, hp0⟩ : ∃ z, S 20 (17 * t + 8 + 3 * k) = z := ⟨_, rfl⟩
        rw [hp0] at hc1 wc
        have wkd := hW.kind p0 (by omega) (by have := hW.par; omega)
        have hv4 := hv2 p0 (by omega) (by omega)
        have e20 : rsT S t k.toNat 20 = S 20 := rsT_f (by decide) _
        have e2 : rsT S t k.toNat 2 = S 2 := rsT_f (by decide) _
        refine y_aload_n hE rfl 1 rfl dX14_resetTriggers_10 ?_
        refine gX14_11r (z := xo) hE hx ((hk2 14 xo 7 (by (try dsimp only); omega)).trans x7) (by omega) dX14_resetTriggers_11 (fun hl_11 => ?_)
        refine y_iload_n hE rfl 0 rfl dX14_resetTriggers_14 ?_
        refine y_aald hE rfl rfl hl_11 (by have hL : K2 40 xo (-1) = 3 := ((hk2 40 xo (-1) (by (try dsimp only); omega)).trans x40); omega) (by rw [show K2 40 xo k = K 40 xo k from ((hk2 40 xo k (by (try dsimp only); omega)).trans rfl)]; omega) dX14_resetTriggers_15 (fun hl_15 => ?_)
        rw [show K2 40 xo k = K 40 xo k from ((hk2 40 xo k (by (try dsimp only); omega)).trans rfl)] at hl_15 ⊢
        have hl_15 : (0 : Int) ≤ K 40 xo k ∧ K 40 xo k < n 15 := ⟨by omega, hl_15⟩
        refine gX14_38r (z := p0) hE hl_15 ((hk2 15 (K 40 xo k) 0 (by (try dsimp only); omega)).trans hc1) (by omega) dX14_resetTriggers_16 (fun hl_16 => ?_)
        refine y_astore_n hE rfl [(2, .ref (α 5 p0)), (1, .int (iI k)), (0, .ref (α 14 xo))] (by decide) rfl dX14_resetTriggers_19 ?_
        have J37 : ∀ (v : Int), (v = if S 2 p0 = 2 then 0 else rsT S t k.toNat 0 p0) → Y x n α K2 0 0 37 [(2, .ref (α 5 p0)), (1, .int (iI k)), (0, .ref (α 14 xo))] [.int (iI v), .ref (α 5 p0)] := by
          intro v hv3
          refine pX14_47 hE hl_16 dX14_resetTriggers_37 ?_
          refine y_iinc hE 1 rfl [(1, .int (iI (k + 1))), (2, .ref (α 5 p0)), (0, .ref (α 14 xo))] (by decide) rfl dX14_resetTriggers_40 ?_
          refine y_goto hE 2 (by decide) dX14_resetTriggers_43 ?_
          refine y_lv [0, 2] [(1, .int (iI (k + 1))), (0, .ref (α 14 xo))] rfl ?_
          exact ih2 (up3 K2 5 p0 1 v) (k + 1) ((KF.up hk2 (by (try dsimp only); omega))) (by omega) (fun p a b => by rw [rsT_s (by omega), e20, hp0, e2]; by_cases q : p = p0; (subst q; rw [up3_s, up2_s]; exact hv3); (rw [up3_i _ _ _ _ _ _ q, up2_j _ _ _ _ q]; exact hv2 p a b)) (by omega)
        refine y_aload_n hE rfl 0 rfl dX14_resetTriggers_20 ?_
        refine y_aload_n hE rfl 0 rfl dX14_resetTriggers_21 ?_
        refine gX14_42 (z := (S 2 p0)) hE hl_16 ((hk2 5 p0 0 (by (try dsimp only); omega)).trans (hR.p0 (i := p0) (by omega))) dX14_resetTriggers_22 ?_
        refine y_iconst hE dX14_resetTriggers_25 ?_
        refine y_icmp_ne hE 33 (by decide) (by omega) (by omega) dX14_resetTriggers_26 (fun c_26 => ?_) (fun c_26 => ?_)
        · refine y_aload_n hE rfl 0 rfl dX14_resetTriggers_33 ?_
          refine gX14_47 (z := (rsT S t k.toNat 0 p0)) hE hl_16 hv4 dX14_resetTriggers_34 ?_
          exact J37 (rsT S t k.toNat 0 p0) (by first | rw [if_pos (by omega)] | rw [if_neg (by omega)])
        · refine y_iconst hE dX14_resetTriggers_29 ?_
          refine y_goto hE 37 (by decide) dX14_resetTriggers_30 ?_
          exact J37 0 (by first | rw [if_pos (by omega)] | rw [if_neg (by omega)])
  exact L2 _ K 0 (KF.rf) (by omega) (hvs) (Nat.lt_succ_self _)
