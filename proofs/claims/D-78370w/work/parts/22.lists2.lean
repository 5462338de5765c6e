set_option linter.unusedVariables false
set_option maxHeartbeats 4000000 in
set_option maxRecDepth 100000 in
theorem m_J2_add_2 {w : KW} {n : KN} {α : KA} {K : KS} (kl kd ke : Nat) {ci : Nat} {codes : List (Nat × Nat)} {q : vw_C} (l e d s : Int) (hdl : kD K kl l = .inl (16, [(0, 0), (2, kd), (0, 0)])) (hdd : kD K kd d = .inr (4, 2, ke)) (hde : kD K ke e = .inl (ci, codes)) (hce : kCl[ci]? = some q) (hcast : Cond.castable q.1 "java/lang/Object" ∈ lw_tbl) (he : 0 ≤ e ∧ e < n ke) (hnc : ¬ kC kl) (hnd : ¬ kC kd) (hkt : ∀ f, kTag kd f = false) (hl : 0 ≤ l ∧ l < n kl) (hd : 0 ≤ d ∧ d < n kd) (hs : 0 ≤ s ∧ s < K kd d (-1)) : KM w yJ2_add_2 cJ2_add_2 4 none { frames := 0, cells := 0, slots := 0, locals := 0 } (3, 0) [.ref (α kl l), .ref (α ke e), .ref (α kd d), .int (iI s)] n α K (fun r n' α' K' => n = n' ∧ α = α' ∧ (up3 (up3 K kd d s e) kl l 2 (s + 1)) = K' ∧ (True)) := by
  refine y_start (by decide) (Nat.le_of_ble_eq_true rfl) (fun x hE hQ => ?_)
  have hw := hQ.2
  subst hw
  have hE : YE x cJ2_add_2 RJ2 none "add" 4 { frames := 0, cells := 0, slots := 0, locals := 0 } := hE
  refine y_wk (fun hWK => ?_)
  have hn0 := hWK.1
  refine y_bud (bc' := 0) (bs' := 0) (Nat.le_refl _) (Nat.le_refl _) ?_
  refine y_to (lv' := [(0, .ref (α kl l)), (1, .ref (α ke e)), (2, .ref (α kd d)), (3, .int (iI s))]) (st' := []) rfl rfl rfl ?_
  have hcap := (wk_len hWK hd hdd).2
  refine y_iload_n hE rfl 3 rfl dJ2_add_2_0 ?_
  refine y_aload_n hE rfl 2 rfl dJ2_add_2_1 ?_
  refine y_alen hE (hd := hdd) rfl hd dJ2_add_2_2 (fun h1_2 h2_2 => ?_)
  refine y_icmp_ne hE 11 (by decide) (by omega) (by omega) dJ2_add_2_3 (fun c_3 => ?_) (fun c_3 => ?_)
  · refine y_aload_n hE rfl 2 rfl dJ2_add_2_11 ?_
    refine y_iload_n hE rfl 3 rfl dJ2_add_2_12 ?_
    refine y_aload_n hE rfl 1 rfl dJ2_add_2_13 ?_
    refine y_aast hE hnd hdd rfl (hkt _) hd (by omega) he hde hce (Or.inr hcast) dJ2_add_2_14 ?_
    refine y_aload_n hE rfl 0 rfl dJ2_add_2_15 ?_
    refine y_iload_n hE rfl 3 rfl dJ2_add_2_16 ?_
    refine y_iconst hE dJ2_add_2_17 ?_
    refine y_iadd hE dJ2_add_2_18 ?_
    refine pJ2_48 hE (by rw [kD_up (by first | rfl | exact hkt _ | simp [kTag])]; exact hdl) hnc hl dJ2_add_2_19 ?_
    exact y_vret (r := 0) hE rfl hQ dJ2_add_2_22 Ext.rf ⟨rfl, rfl, rfl, trivial⟩
  · exact absurd c_3 (by omega)
set_option maxHeartbeats 4000000 in
set_option maxRecDepth 100000 in
theorem m_J2_add {w : KW} {n : KN} {α : KA} {K : KS} (kl kd ke : Nat) {ci : Nat} {codes : List (Nat × Nat)} {q : vw_C} (l e d s md : Int) (hdl : kD K kl l = .inl (16, [(0, 0), (2, kd), (0, 0)])) (hdd : kD K kd d = .inr (4, 2, ke)) (hde : kD K ke e = .inl (ci, codes)) (hce : kCl[ci]? = some q) (hcast : Cond.castable q.1 "java/lang/Object" ∈ lw_tbl) (he : 0 ≤ e ∧ e < n ke) (hnc : ¬ kC kl) (hnd : ¬ kC kd) (hkt : ∀ f, kTag kd f = false) (hkk : kl ≠ kd) (hl : 0 ≤ l ∧ l < n kl) (hd0 : K kl l 1 = d) (hs0 : K kl l 2 = s) (hm0 : K kl l 0 = md) (h0 : 0 ≤ d) (hsz : 0 ≤ s ∧ s < K kd d (-1)) : KM w yJ2_add cJ2_add 2 (some (.boolean)) { frames := 1, cells := 0, slots := 0, locals := 23 } (0, 0) [.ref (α kl l), .ref (α ke e)] n α K (fun r n' α' K' => n = n' ∧ α = α' ∧ (up3 (up3 (up3 K kl l 0 (md + 1)) kd d s e) kl l 2 (s + 1)) = K' ∧ (r = 1)) := by
  refine y_start (by decide) (Nat.le_of_ble_eq_true rfl) (fun x hE hQ => ?_)
  have hw := hQ.2
  subst hw
  have hE : YE x cJ2_add RJ2 (some (.boolean)) "add" 2 { frames := 1, cells := 0, slots := 0, locals := 23 } := hE
  refine y_wk (fun hWK => ?_)
  have hn0 := hWK.1
  refine y_bud (bc' := 0) (bs' := 0) (Nat.le_refl _) (Nat.le_refl _) ?_
  refine y_to (lv' := [(0, .ref (α kl l)), (1, .ref (α ke e))]) (st' := []) rfl rfl rfl ?_
  refine y_aload_n hE rfl 0 rfl dJ2_add_0 ?_
  refine y_dup hE rfl dJ2_add_1 ?_
  refine gJ2_63 (z := md) hE hdl hl hm0 dJ2_add_2 ?_
  refine y_iconst hE dJ2_add_5 ?_
  refine y_iadd hE dJ2_add_6 ?_
  refine pJ2_63 hE hdl hnc hl dJ2_add_7 ?_
  refine y_aload_n hE rfl 0 rfl dJ2_add_10 ?_
  refine y_aload_n hE rfl 1 rfl dJ2_add_11 ?_
  refine y_aload_n hE rfl 0 rfl dJ2_add_12 ?_
  refine gJ2_9r (z := d) hE (by rw [kD_up (by first | rfl | exact by simp [kTag] | simp [kTag])]; exact hdl) hl (by simp [up3, hd0]) (by omega) dJ2_add_13 (fun hl_13 => ?_)
  refine y_aload_n hE rfl 0 rfl dJ2_add_16 ?_
  refine gJ2_48 (z := s) hE (by rw [kD_up (by first | rfl | exact by simp [kTag] | simp [kTag])]; exact hdl) hl (by simp [up3, hs0]) dJ2_add_17 ?_
  refine y_callV hE (m_J2_add_2 kl kd ke l e d s (by rw [kD_up (by first | rfl | exact by simp [kTag] | simp [kTag])]; exact hdl) (by rw [kD_up (by first | rfl | exact by simp [kTag] | simp [kTag])]; exact hdd) (by rw [kD_up (by first | rfl | exact by simp [kTag] | simp [kTag])]; exact hde) (by omega) (by omega) he (by omega) (by omega) (by omega) hl hl_13 (by rw [up3_f _ _ _ _ _ _ (by decide)]; exact hsz)) (lw_V q1095 q1097 qs13 q111 q1098) (nA := 3) (by decide +kernel) rfl ⟨Nat.le_of_ble_eq_true rfl, Nat.le_of_ble_eq_true rfl⟩ (hdd := (by rw [kD_up (by first | rfl | exact by simp [kTag] | simp [kTag])]; exact hdl)) (hcc := rfl) (hq := rfl) (hi := hl) (rest := []) rfl (by decide) dJ2_add_20 (bc' := 0) (bs' := 0) (Nat.le_refl _) (Nat.le_refl _) (fun r_20 n_20 α_20 K_20 hx_20 hp_20 => ?_)
  obtain ⟨rfl, rfl, rfl, hr_20⟩ := hp_20
  refine y_to (st' := []) rfl rfl rfl ?_
  refine y_iconst hE dJ2_add_23 ?_
  exact y_iret hE rfl (nar_b (by omega)).1 hQ dJ2_add_24 Ext.rf ⟨rfl, rfl, rfl, rfl⟩
set_option maxHeartbeats 4000000 in
set_option maxRecDepth 100000 in
theorem m_X5_init {w : KW} {n : KN} {α : KA} {K : KS} (p k : Int) (hp : 0 ≤ p ∧ p < n 5) : KM w yX5_init cX5_init 2 none { frames := 1, cells := 0, slots := 0, locals := 12 } (3, 0) [.ref (α 5 p), .int (iI k)] n α K (fun r n' α' K' => n = n' ∧ α = α' ∧ (up3 K 5 p 0 k) = K' ∧ (True)) := by
  refine y_start (by decide) (Nat.le_of_ble_eq_true rfl) (fun x hE hQ => ?_)
  have hw := hQ.2
  subst hw
  have hE : YE x cX5_init RX5 none "<init>" 2 { frames := 1, cells := 0, slots := 0, locals := 12 } := hE
  refine y_wk (fun hWK => ?_)
  have hn0 := hWK.1
  refine y_bud (bc' := 0) (bs' := 0) (Nat.le_refl _) (Nat.le_refl _) ?_
  refine y_to (lv' := [(0, .ref (α 5 p)), (1, .int (iI k))]) (st' := []) rfl rfl rfl ?_
  refine y_aload_n hE rfl 0 rfl dX5_init_0 ?_
  refine y_objInit hE q1946 q_oi1 q_oi2 (Nat.le_of_ble_eq_true rfl) (Nat.le_of_ble_eq_true rfl) dX5_init_1 ?_
  refine y_aload_n hE rfl 0 rfl dX5_init_4 ?_
  refine y_iload_n hE rfl 1 rfl dX5_init_5 ?_
  refine pX5_9 hE rfl hp dX5_init_6 ?_
  exact y_vret (r := 0) hE rfl hQ dX5_init_9 Ext.rf ⟨rfl, rfl, rfl, trivial⟩
