set_option linter.unusedVariables false
theorem st_nd2 {S : SS} (hW : WFs S) {s : Int} (hs : 0 ≤ s ∧ s < S 19 0) : NdOk S (S 15 s) := st_nd hW hs
set_option maxHeartbeats 4000000 in
set_option maxRecDepth 100000 in
theorem m_X3_length {w : KW} {n : KN} {α : KA} {K : KS} (S : SS) (b : Int) (hR : Rst S n K) (hW : WFs S) (hb : 0 ≤ b ∧ b < 3) (hl3 : 0 ≤ b ∧ b < n 3) (hw2 : ∀ c : Int, 0 ≤ c → c < 12 → 0 ≤ K 34 b c ∧ K 34 b c ≤ 1000000) : KM w yX3_length cX3_length 4 (some (.long)) { frames := 3, cells := 0, slots := 0, locals := 64 } (1, 0) [.ref (α 3 b)] n α K (fun r n' α' K' => n = n' ∧ α = α' ∧ K = K' ∧ (r = sumTo (fun c => K 34 b c * S 4 c) (S 8 0).toNat)) := by
  refine y_start (by decide) (Nat.le_of_ble_eq_true rfl) (fun x hE hQ => ?_)
  have hw := hQ.2
  subst hw
  have hE : YE x cX3_length RX3 (some (.long)) "length" 4 { frames := 3, cells := 0, slots := 0, locals := 64 } := hE
  refine y_wk (fun hWK => ?_)
  have hn0 := hWK.1
  refine y_bud (bc' := 0) (bs' := 0) (Nat.le_refl _) (Nat.le_refl _) ?_
  refine y_to (lv' := [(0, .ref (α 3 b))]) (st' := []) rfl rfl rfl ?_
  have wcl := hW.clips
  have n1 := hR.n1
  have n3 := hR.n3
  have n34 := hR.n34
  have n6 := hR.n6
  have n21 := hR.n21
  have n51 := hR.n51
  have n8 := hR.n8
  have n11 := hR.n11
  have wsts := hW.sts
  have wnodes := hW.nodes
  refine y_lconst hE 0 (by decide) dX3_length_0 ?_
  refine y_lstore_n hE rfl [(1, .long (iL 0)), (0, .ref (α 3 b))] (by decide) rfl dX3_length_1 ?_
  refine y_iconst hE dX3_length_2 ?_
  refine y_istore_n hE rfl [(3, .int (iI 0)), (1, .long (iL 0)), (0, .ref (α 3 b))] (by decide) rfl dX3_length_3 ?_
  have L4 : ∀ (fuel : Nat) (c sm : Int), (0 ≤ c ∧ c ≤ S 8 0) → (sm = sumTo (fun c => K 34 b c * S 4 c) c.toNat) → (S 8 0 - c).toNat < fuel → Y x n α K 0 0 4 [(3, .int (iI c)), (1, .long (iL sm)), (0, .ref (α 3 b))] [] := by
    intro fuel4
    induction fuel4 with
    | zero => intro c sm hk hsm hfu4; exact absurd hfu4 (Nat.not_lt_zero _)
    | succ fuel4 ih4 =>
      intro c sm hk hsm hfu4
      refine y_iload_n hE rfl 0 rfl dX3_length_4 ?_
      refine y_aload_n hE rfl 2 rfl dX3_length_5 ?_
      refine gX3_3r (z := 0) hE hl3 (hR.b1 (i := b) (by omega)) (by omega) dX3_length_6 (fun hl_6 => ?_)
      refine gX3_19r (z := 0) hE hl_6 (hR.c1) (by omega) dX3_length_9 (fun hl_9 => ?_)
      refine y_callV hE (m_J2_size 0 rfl hl_9) (lw_V q2416 q669 q670 q111 q671) (nA := 0) (by decide +kernel) rfl ⟨Nat.le_of_ble_eq_true rfl, Nat.le_of_ble_eq_true rfl⟩ (hdd := rfl) (hcc := rfl) (hq := rfl) (hi := hl_9) (rest := [.int (iI c)]) rfl (by simp [refV_cat, Value.category]) dX3_length_12 (bc' := 0) (bs' := 0) (Nat.le_refl _) (Nat.le_refl _) (fun r_12 n_12 α_12 K_12 hx_12 hp_12 => ?_)
      obtain ⟨rfl, rfl, rfl, hr_12⟩ := hp_12
      have e_12 : (S 8 0) = r_12 := Eq.symm (by rw [hr_12]; exact (hR.z21))
      subst e_12
      refine y_to (st' := [.int (iI (S 8 0)), .int (iI c)]) rfl rfl rfl ?_
      refine y_icmp_ge hE 53 (by decide) (by omega) (by omega) dX3_length_15 (fun c_15 => ?_) (fun c_15 => ?_)
      · refine y_lload_n hE rfl 1 rfl dX3_length_53 ?_
        exact y_lret hE rfl hQ dX3_length_54 Ext.rf ⟨rfl, rfl, rfl, by rw [hsm, show c = S 8 0 by omega]⟩
      · have wl := hW.len c (by omega) (by omega)
        have wc := hw2 c (by omega) (by omega)
        refine y_lload_n hE rfl 1 rfl dX3_length_18 ?_
        refine y_aload_n hE rfl 2 rfl dX3_length_19 ?_
        refine gX3_15r (z := b) hE hl3 (hR.b0 (i := b) (by omega)) (by omega) dX3_length_20 (fun hl_20 => ?_)
        refine y_iload_n hE rfl 0 rfl dX3_length_23 ?_
        refine y_iald hE rfl hl_20 (by have hL : K 34 b (-1) = 12 := (hR.b34 (i := b) (by omega)); omega) dX3_length_24 ?_
        refine y_i2l hE (by omega) dX3_length_25 ?_
        refine y_aload_n hE rfl 2 rfl dX3_length_26 ?_
        refine gX3_3r (z := 0) hE hl3 (hR.b1 (i := b) (by omega)) (by omega) dX3_length_27 (fun hl_27 => ?_)
        refine gX3_19r (z := 0) hE hl_27 (hR.c1) (by omega) dX3_length_30 (fun hl_30 => ?_)
        refine y_iload_n hE rfl 0 rfl dX3_length_33 ?_
        refine y_callV hE (m_J2_get 21 51 6 0 c rfl rfl hl_30 (by have e1 : K 21 0 1 = 0 := (hR.l21); omega) (by have e1 : K 21 0 1 = 0 := (hR.l21); have e2 : K 21 0 2 = (S 8 0) := (hR.z21); have e3 : K 51 0 (-1) = 12 := (hR.m21); rw [e1, e2, e3]; omega) (by have e2 : K 21 0 2 = (S 8 0) := (hR.z21); rw [e2]; omega) (by have e1 : K 21 0 1 = 0 := (hR.l21); have e4 : K 51 0 c = c := (hR.c51 (i := c) (by omega)); rw [e1, e4]; omega)) (lw_V q2417 q673 q674 q111 q675) (nA := 1) (by decide +kernel) rfl ⟨Nat.le_of_ble_eq_true rfl, Nat.le_of_ble_eq_true rfl⟩ (hdd := rfl) (hcc := rfl) (hq := rfl) (hi := hl_30) (rest := [.long (iL (K 34 b c)), .long (iL sm)]) rfl (by simp [refV_cat, Value.category]) dX3_length_34 (bc' := 0) (bs' := 0) (Nat.le_refl _) (Nat.le_refl _) (fun r_34 n_34 α_34 K_34 hx_34 hp_34 => ?_)
        obtain ⟨rfl, rfl, rfl, hr_34⟩ := hp_34
        have e_34 : c = r_34 := Eq.symm (by have e1 : K 21 0 1 = 0 := (hR.l21); have e4 : K 51 0 c = c := (hR.c51 (i := c) (by omega)); rw [hr_34.1, e1, e4])
        subst e_34
        refine y_to (st' := [refV α 6 c, .long (iL (K 34 b c)), .long (iL sm)]) rfl rfl rfl ?_
        have hl_34 : (0 : Int) ≤ c ∧ c < n 6 := hr_34.2
        refine y_ref hl_34.1 ?_
        refine y_castE hE rfl rfl hl_34 q2418 rfl dX3_length_37 ?_
        refine gX3_35 (z := (S 4 c)) hE hl_34 (hR.c61 (i := c) (by omega)) dX3_length_40 ?_
        refine y_i2l hE (by omega) dX3_length_43 ?_
        refine y_lmul hE dX3_length_44 ?_
        refine y_ladd hE dX3_length_45 ?_
        refine y_lstore_n hE rfl [(1, .long (iL (sm + ((K 34 b c) * (S 4 c))))), (3, .int (iI c)), (0, .ref (α 3 b))] (by decide) rfl dX3_length_46 ?_
        refine y_iinc hE 1 rfl [(3, .int (iI (c + 1))), (1, .long (iL (sm + ((K 34 b c) * (S 4 c))))), (0, .ref (α 3 b))] (by decide) rfl dX3_length_47 ?_
        refine y_goto hE 4 (by decide) dX3_length_50 ?_
        exact ih4 (c + 1) (sm + ((K 34 b c) * (S 4 c))) (by omega) (by rw [sumTo_s (by omega), ← hsm]) (by omega)
  exact L4 _ 0 0 (by omega) (rfl) (Nat.lt_succ_self _)
set_option maxHeartbeats 4000000 in
set_option maxRecDepth 100000 in
theorem m_X1_blend {w : KW} {n : KN} {α : KA} {K : KS} (S : SS) (b i wg : Int) (hR : Rst S n K) (h10 : (0 : Int) ≤ 0 ∧ 0 < n 1) (hW : WFs S) (hv0 : WFv S) (hnd : NdOk S i) (hb : 0 ≤ b ∧ b < 3) (hl3 : 0 ≤ b ∧ b < n 3) (h9i : 0 ≤ i ∧ i < n 8) (hwg : 0 ≤ wg ∧ wg ≤ 1000000) : KM w yX1_blend cX1_blend 4 none { frames := 6, cells := 0, slots := 0, locals := 164 } (3, 0) [.ref (α 1 0), .ref (α 3 b), .ref (α 8 i), .int (iI wg)] n α K (fun r n' α' K' => n = n' ∧ α = α' ∧ KF K K' (fun k i f => k = 34 ∧ i = (b) ∧ 0 ≤ f) ∧ (∀ c : Int, 0 ≤ c → c < 12 → K' 34 b c = wt S 4 i wg c)) := by
  refine y_start (by decide) (Nat.le_of_ble_eq_true rfl) (fun x hE hQ => ?_)
  have hw := hQ.2
  subst hw
  have hE : YE x cX1_blend RX1 none "blend" 4 { frames := 6, cells := 0, slots := 0, locals := 164 } := hE
  refine y_wk (fun hWK => ?_)
  have hn0 := hWK.1
  refine y_bud (bc' := 0) (bs' := 0) (Nat.le_refl _) (Nat.le_refl _) ?_
  refine y_to (lv' := [(0, .ref (α 1 0)), (1, .ref (α 3 b)), (2, .ref (α 8 i)), (3, .int (iI wg))]) (st' := []) rfl rfl rfl ?_
  have hfoot : ∀ (k : Nat) (i f : Int), (fun k i f => k = 34 ∧ i = (b) ∧ 0 ≤ f) k i f → ¬ SKd k f := fun k i f z => by unfold SKd; (try dsimp only at z); omega
  have wcl := hW.clips
  have n1 := hR.n1
  have n3 := hR.n3
  have n34 := hR.n34
  have n6 := hR.n6
  have n21 := hR.n21
  have n51 := hR.n51
  have n8 := hR.n8
  have n11 := hR.n11
  have wsts := hW.sts
  have wnodes := hW.nodes
  obtain ⟨D, hD⟩ : ∃ D, DOk S D := hW.dep
  have hd4 := hD i hnd.1 hnd.2.1
  refine y_aload_n hE rfl 1 rfl dX1_blend_0 ?_
  refine y_callV hE (m_X3_clear S b hR hb) (lw_V q852 q853 q854 q129 q855) (nA := 0) (by decide +kernel) rfl ⟨Nat.le_of_ble_eq_true rfl, Nat.le_of_ble_eq_true rfl⟩ (hdd := rfl) (hcc := rfl) (hq := rfl) (hi := hl3) (rest := []) rfl (by decide) dX1_blend_1 (bc' := 0) (bs' := 0) (Nat.le_refl _) (Nat.le_refl _) (fun r_1 n_1 α_1 K_1 hx_1 hp_1 => ?_)
  obtain ⟨rfl, rfl, hk_1, hr_1⟩ := hp_1
  refine y_to (st' := []) rfl rfl rfl ?_
  refine y_aload_n hE rfl 2 rfl dX1_blend_4 ?_
  refine y_aload_n hE rfl 1 rfl dX1_blend_5 ?_
  refine y_iload_n hE rfl 3 rfl dX1_blend_6 ?_
  refine y_node_blend hE h9i (fun h8 => (fun S D i b wg hR h9i hW hv0 hDk hnd hb hl3 hwg _ h8 => m_X9_blend S D i b wg hR h9i hW hv0 hDk hnd hb hl3 hwg h8) S D i b wg (hR.kf (P := fun k i f => k = 34 ∧ i = (b) ∧ 0 ≤ f) (KF.mono hk_1 (fun k i f z => by (try dsimp only at z ⊢); omega)) hfoot) h9i (by assumption) (by assumption) (hD) (by assumption) (by omega) hl3 (by omega) (by omega) h8) (fun h8 => m_X10_blend_4 S D i b wg (hR.kf (P := fun k i f => k = 34 ∧ i = (b) ∧ 0 ≤ f) (KF.mono hk_1 (fun k i f z => by (try dsimp only at z ⊢); omega)) hfoot) h9i (by assumption) (by assumption) (hD) (by assumption) (by omega) hl3 (by omega) (by omega) h8) q856 rfl ⟨Nat.le_of_ble_eq_true rfl, Nat.le_of_ble_eq_true rfl⟩ ⟨Nat.le_of_ble_eq_true rfl, Nat.le_of_ble_eq_true rfl⟩ (rest := []) rfl (by decide) dX1_blend_7 (fun r_7 n_7 α_7 K_7 hx_7 hp_7 => ?_)
  obtain ⟨rfl, rfl, hk_7, hr_7⟩ := hp_7
  refine y_to (st' := []) rfl rfl rfl ?_
  exact y_vret (r := 0) hE rfl hQ dX1_blend_10 Ext.rf ⟨rfl, rfl, ((KF.mono hk_1 (fun k i f z => by (try dsimp only at z ⊢); omega)).tr (KF.mono hk_7 (fun k i f z => by (try dsimp only at z ⊢); omega))), fun c c0 c1 => by rw [hr_7 c c0 c1, hr_1 c c0 c1, Int.zero_add]⟩
set_option maxHeartbeats 4000000 in
set_option maxRecDepth 100000 in
theorem m_X1_lengthOf {w : KW} {n : KN} {α : KA} {K : KS} (S : SS) (s : Int) (hR : Rst S n K) (h10 : (0 : Int) ≤ 0 ∧ 0 < n 1) (hW : WFs S) (hv0 : WFv S) (hs : 0 ≤ s ∧ s < S 19 0) (hls : 0 ≤ s ∧ s < n 11) : KM w yX1_lengthOf cX1_lengthOf 2 (some (.int)) { frames := 7, cells := 0, slots := 0, locals := 187 } (0, 0) [.ref (α 1 0), .ref (α 11 s)] n α K (fun r n' α' K' => n = n' ∧ α = α' ∧ KF K K' (fun k i f => k = 34 ∧ i = 2 ∧ 0 ≤ f) ∧ (r = lenS S s ∧ 1 ≤ r ∧ r ≤ 500)) := by
  refine y_start (by decide) (Nat.le_of_ble_eq_true rfl) (fun x hE hQ => ?_)
  have hw := hQ.2
  subst hw
  have hE : YE x cX1_lengthOf RX1 (some (.int)) "lengthOf" 2 { frames := 7, cells := 0, slots := 0, locals := 187 } := hE
  refine y_wk (fun hWK => ?_)
  have hn0 := hWK.1
  refine y_bud (bc' := 0) (bs' := 0) (Nat.le_refl _) (Nat.le_refl _) ?_
  refine y_to (lv' := [(0, .ref (α 1 0)), (1, .ref (α 11 s))]) (st' := []) rfl rfl rfl ?_
  have hfoot : ∀ (k : Nat) (i f : Int), (fun k i f => k = 34 ∧ i = 2 ∧ 0 ≤ f) k i f → ¬ SKd k f := fun k i f z => by unfold SKd; (try dsimp only at z); omega
  have wcl := hW.clips
  have n1 := hR.n1
  have n3 := hR.n3
  have n34 := hR.n34
  have n6 := hR.n6
  have n21 := hR.n21
  have n51 := hR.n51
  have n8 := hR.n8
  have n11 := hR.n11
  have wsts := hW.sts
  have wnodes := hW.nodes
  have hnd := st_nd2 hW hs
  have ws := hW.st s hs.1 hs.2
  obtain ⟨D, hD⟩ : ∃ D, DOk S D := hW.dep
  have hlp := lpart_in hW hs (c := S 8 0) (by omega)
  refine y_aload_n hE rfl 0 rfl dX1_lengthOf_0 ?_
  refine y_aload_n hE rfl 0 rfl dX1_lengthOf_1 ?_
  refine gX1_66r (z := 2) hE h10 (hR.c10) (by omega) dX1_lengthOf_2 (fun hl_2 => ?_)
  refine y_aload_n hE rfl 1 rfl dX1_lengthOf_5 ?_
  refine gX1_280r (z := (S 15 s)) hE hls (hR.s1 (i := s) (by omega)) (by omega) dX1_lengthOf_6 (fun hl_6 => ?_)
  refine y_ldcw hE 1000000 (v := 1000000) (by decide) q2410 dX1_lengthOf_9 ?_
  have hl2 : (0 : Int) ≤ 2 ∧ 2 < n 3 := by omega
  refine y_callV hE (m_X1_blend S 2 (S 15 s) 1000000 hR h10 hW hv0 (hnd) (by omega) hl_2 hl_6 (by omega)) (lw_V q2411 q850 qs6 q108 q851) (nA := 3) (by decide +kernel) rfl ⟨Nat.le_of_ble_eq_true rfl, Nat.le_of_ble_eq_true rfl⟩ (hdd := rfl) (hcc := rfl) (hq := rfl) (hi := h10) (rest := []) rfl (by decide) dX1_lengthOf_12 (bc' := 0) (bs' := 0) (Nat.le_refl _) (Nat.le_refl _) (fun r_12 n_12 α_12 K_12 hx_12 hp_12 => ?_)
  obtain ⟨rfl, rfl, hk_12, hr_12⟩ := hp_12
  refine y_to (st' := []) rfl rfl rfl ?_
  refine y_lconst hE 1 (by decide) dX1_lengthOf_15 ?_
  refine y_aload_n hE rfl 0 rfl dX1_lengthOf_16 ?_
  refine gX1_66r (z := 2) hE h10 ((hk_12 1 0 10 (by (try dsimp only); omega)).trans (hR.c10)) (by omega) dX1_lengthOf_17 (fun hl_17 => ?_)
  refine y_callV hE (m_X3_length S 2 (hR.kf (P := fun k i f => k = 34 ∧ i = 2 ∧ 0 ≤ f) (KF.mono hk_12 (fun k i f z => by (try dsimp only at z ⊢); omega)) hfoot) (by assumption) (by omega) hl_17 (fun c c0 c1 => by rw [hr_12 c c0 c1]; have q := wt_nn hW hD 4 (S 15 s) 1000000 c hnd; exact ⟨q.1, q.2 (by omega)⟩)) (lw_V q2412 q2413 q2414 q129 q2415) (nA := 0) (by decide +kernel) rfl ⟨Nat.le_of_ble_eq_true rfl, Nat.le_of_ble_eq_true rfl⟩ (hdd := rfl) (hcc := rfl) (hq := rfl) (hi := hl_17) (rest := [.long (iL 1)]) rfl (by simp [refV_cat, Value.category]) dX1_lengthOf_20 (bc' := 0) (bs' := 0) (Nat.le_refl _) (Nat.le_refl _) (fun r_20 n_20 α_20 K_20 hx_20 hp_20 => ?_)
  obtain ⟨rfl, rfl, rfl, hr_20⟩ := hp_20
  have els : sumTo (fun c => K_12 34 2 c * S 4 c) (S 8 0).toNat = lsum S s := sumTo_congr _ (fun j j0 j1 => by rw [hr_12 j j0 (by omega)])
  rw [els] at hr_20
  have hli := lenS_in hW hs
  rw [← lsum] at hlp
  have e_20 : (lsum S s) = r_20 := Eq.symm (hr_20)
  subst e_20
  refine y_to (st' := [.long (iL (lsum S s)), .long (iL 1)]) rfl rfl rfl ?_
  refine y_ldc2 hE 1000000 (v := 1000000) (by decide) q2419 dX1_lengthOf_23 ?_
  refine y_ldiv hE (by omega) (by omega) dX1_lengthOf_26 ?_
  refine y_mmaxL hE q2420 (by omega) (by omega) (Nat.le_of_ble_eq_true rfl) (Nat.le_of_ble_eq_true rfl) dX1_lengthOf_27 ?_
  refine y_l2i hE dX1_lengthOf_30 ?_
  exact y_iret hE rfl rfl hQ dX1_lengthOf_31 Ext.rf ⟨rfl, rfl, (KF.mono hk_12 (fun k i f z => by (try dsimp only at z ⊢); omega)), by unfold lenS; split <;> omega, by unfold lenS at hli; omega, by unfold lenS at hli; omega⟩
set_option maxHeartbeats 4000000 in
set_option maxRecDepth 100000 in
theorem m_X6_timeAt {w : KW} {n : KN} {α : KA} {K : KS} (S : SS) (c ph : Int) (hR : Rst S n K) (hW : WFs S) (hc : 0 ≤ c ∧ c < S 8 0) (hlc : 0 ≤ c ∧ c < n 6) (hph : 0 ≤ ph ∧ ph ≤ 1000000) : KM w yX6_timeAt cX6_timeAt 2 (some (.int)) { frames := 1, cells := 0, slots := 0, locals := 25 } (0, 0) [.ref (α 6 c), .int (iI ph)] n α K (fun r n' α' K' => n = n' ∧ α = α' ∧ K = K' ∧ (r = min (S 4 c - 1) (ph * S 4 c / 1000000))) := by
  refine y_start (by decide) (Nat.le_of_ble_eq_true rfl) (fun x hE hQ => ?_)
  have hw := hQ.2
  subst hw
  have hE : YE x cX6_timeAt RX6 (some (.int)) "timeAt" 2 { frames := 1, cells := 0, slots := 0, locals := 25 } := hE
  refine y_wk (fun hWK => ?_)
  have hn0 := hWK.1
  refine y_bud (bc' := 0) (bs' := 0) (Nat.le_refl _) (Nat.le_refl _) ?_
  refine y_to (lv' := [(0, .ref (α 6 c)), (1, .int (iI ph))]) (st' := []) rfl rfl rfl ?_
  have wcl := hW.clips
  have n1 := hR.n1
  have n3 := hR.n3
  have n34 := hR.n34
  have n6 := hR.n6
  have n21 := hR.n21
  have n51 := hR.n51
  have n8 := hR.n8
  have n11 := hR.n11
  have wsts := hW.sts
  have wnodes := hW.nodes
  have wl := hW.len c hc.1 hc.2
  have hpl0 : 0 ≤ ph * S 4 c := Int.mul_nonneg hph.1 (by omega)
  have hpl1 : ph * S 4 c ≤ 1000000 * 500 := Int.mul_le_mul hph.2 (by omega) (by omega) (by omega)
  refine y_aload_n hE rfl 0 rfl dX6_timeAt_0 ?_
  refine gX6_24 (z := (S 4 c)) hE hlc (hR.c61 (i := c) (by omega)) dX6_timeAt_1 ?_
  refine y_iconst hE dX6_timeAt_4 ?_
  refine y_isub hE dX6_timeAt_5 ?_
  refine y_iload_n hE rfl 1 rfl dX6_timeAt_6 ?_
  refine y_i2l hE (by omega) dX6_timeAt_7 ?_
  refine y_aload_n hE rfl 0 rfl dX6_timeAt_8 ?_
  refine gX6_24 (z := (S 4 c)) hE hlc (hR.c61 (i := c) (by omega)) dX6_timeAt_9 ?_
  refine y_i2l hE (by omega) dX6_timeAt_12 ?_
  refine y_ldc2 hE 1000000 (v := 1000000) (by decide) q877 dX6_timeAt_13 ?_
  refine y_callSN hE (m_X1_share ph (S 4 c) 1000000 (by omega) (by omega)) q878 q826 q108 q827 (nA := 3) (by decide +kernel) rfl ⟨Nat.le_of_ble_eq_true rfl, Nat.le_of_ble_eq_true rfl⟩ (rest := [.int (iI ((S 4 c) - 1))]) rfl (by simp [refV_cat, Value.category]) dX6_timeAt_16 (bc' := 0) (bs' := 0) (Nat.le_refl _) (Nat.le_refl _) (fun r_16 n_16 α_16 K_16 hx_16 hp_16 => ?_)
  obtain ⟨rfl, rfl, rfl, hr_16⟩ := hp_16
  refine y_to (st' := [.int (iI r_16), .int (iI ((S 4 c) - 1))]) rfl rfl rfl ?_
  refine y_mmin hE q879 (by omega) (by omega) (Nat.le_of_ble_eq_true rfl) (Nat.le_of_ble_eq_true rfl) dX6_timeAt_19 ?_
  exact y_iret hE rfl rfl hQ dX6_timeAt_22 Ext.rf ⟨rfl, rfl, rfl, by rw [hr_16]⟩
set_option maxHeartbeats 4000000 in
set_option maxRecDepth 100000 in
theorem m_X11_isInGroupOf {w : KW} {n : KN} {α : KA} {K : KS} (S : SS) (s u : Int) (hR : Rst S n K) (hW : WFs S) (hs : 0 ≤ s ∧ s < S 19 0) (hu : 0 ≤ u ∧ u < S 19 0) (hls : 0 ≤ s ∧ s < n 11) (hlu : 0 ≤ u ∧ u < n 11) : KM w yX11_isInGroupOf cX11_isInGroupOf 2 (some (.boolean)) { frames := 0, cells := 0, slots := 0, locals := 0 } (0, 0) [.ref (α 11 s), .ref (α 11 u)] n α K (fun r n' α' K' => n = n' ∧ α = α' ∧ K = K' ∧ ((r = 1 ∧ (0 < S 18 s ∧ S 18 s = S 18 u) ∨ r = 0 ∧ ¬ (0 < S 18 s ∧ S 18 s = S 18 u)))) := by
  refine y_start (by decide) (Nat.le_of_ble_eq_true rfl) (fun x hE hQ => ?_)
  have hw := hQ.2
  subst hw
  have hE : YE x cX11_isInGroupOf RX11 (some (.boolean)) "isInGroupOf" 2 { frames := 0, cells := 0, slots := 0, locals := 0 } := hE
  refine y_wk (fun hWK => ?_)
  have hn0 := hWK.1
  refine y_bud (bc' := 0) (bs' := 0) (Nat.le_refl _) (Nat.le_refl _) ?_
  refine y_to (lv' := [(0, .ref (α 11 s)), (1, .ref (α 11 u))]) (st' := []) rfl rfl rfl ?_
  have wcl := hW.clips
  have n1 := hR.n1
  have n3 := hR.n3
  have n34 := hR.n34
  have n6 := hR.n6
  have n21 := hR.n21
  have n51 := hR.n51
  have n8 := hR.n8
  have n11 := hR.n11
  have wsts := hW.sts
  have wnodes := hW.nodes
  have wa := hW.st s hs.1 hs.2
  have wb := hW.st u hu.1 hu.2
  refine y_aload_n hE rfl 0 rfl dX11_isInGroupOf_0 ?_
  refine gX11_24 (z := (S 18 s)) hE hls (hR.s4 (i := s) (by omega)) dX11_isInGroupOf_1 ?_
  refine y_if_le hE 22 (by decide) (by omega) dX11_isInGroupOf_4 (fun c_4 => ?_) (fun c_4 => ?_)
  · refine y_iconst hE dX11_isInGroupOf_22 ?_
    exact y_iret hE rfl (nar_b (by omega)).1 hQ dX11_isInGroupOf_23 Ext.rf ⟨rfl, rfl, rfl, by omega⟩
  · refine y_aload_n hE rfl 0 rfl dX11_isInGroupOf_7 ?_
    refine gX11_24 (z := (S 18 s)) hE hls (hR.s4 (i := s) (by omega)) dX11_isInGroupOf_8 ?_
    refine y_aload_n hE rfl 1 rfl dX11_isInGroupOf_11 ?_
    refine gX11_24 (z := (S 18 u)) hE hlu (hR.s4 (i := u) (by omega)) dX11_isInGroupOf_12 ?_
    refine y_icmp_ne hE 22 (by decide) (by omega) (by omega) dX11_isInGroupOf_15 (fun c_15 => ?_) (fun c_15 => ?_)
    · refine y_iconst hE dX11_isInGroupOf_22 ?_
      exact y_iret hE rfl (nar_b (by omega)).1 hQ dX11_isInGroupOf_23 Ext.rf ⟨rfl, rfl, rfl, by omega⟩
    · refine y_iconst hE dX11_isInGroupOf_18 ?_
      refine y_goto hE 23 (by decide) dX11_isInGroupOf_19 ?_
      exact y_iret hE rfl (nar_b (by omega)).1 hQ dX11_isInGroupOf_23 Ext.rf ⟨rfl, rfl, rfl, by omega⟩
