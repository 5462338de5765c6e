set_option linter.unusedVariables false
/-- what holds of all but m -/
def WFs (S : SS) : Prop :=
  (0 ≤ S 3 0 ∧ S 3 0 ≤ 8) ∧
  (∀ p : Int, 0 ≤ p → p < 8 → 0 ≤ S 2 p ∧ S 2 p ≤ 2) ∧
  (0 ≤ S 8 0 ∧ S 8 0 ≤ 12) ∧
  (∀ c : Int, 0 ≤ c → c < S 8 0 → 1 ≤ S 4 c ∧ S 4 c ≤ 500) ∧
  (∀ c : Int, 0 ≤ c → c < 12 → 0 ≤ S 5 c ∧ S 5 c ≤ 5 ∧ (S 8 0 ≤ c → S 5 c = 0)) ∧
  (∀ c k : Int, 0 ≤ c → c < S 8 0 → 0 ≤ k → k < S 5 c → 0 ≤ S 6 (5 * c + k) ∧ S 6 (5 * c + k) < S 4 c ∧ 0 ≤ S 7 (5 * c + k) ∧ S 7 (5 * c + k) ≤ 99) ∧
  (0 ≤ S 14 0 ∧ S 14 0 ≤ 20) ∧
  (∀ j : Int, 0 ≤ j → j < S 14 0 → (0 ≤ S 9 j ∧ S 9 j < S 8 0 ∧ S 11 j = 0) ∨ (S 9 j = -1 ∧ 0 ≤ S 10 j ∧ S 10 j < S 3 0 ∧ S 2 (S 10 j) = 0 ∧ 0 ≤ S 11 j ∧ S 11 j ≤ 5)) ∧
  (∀ j : Int, S 14 0 ≤ j → j < 20 → S 11 j = 0) ∧
  (∀ j k : Int, 0 ≤ j → j < S 14 0 → 0 ≤ k → k < S 11 j → 0 ≤ S 12 (5 * j + k) ∧ S 12 (5 * j + k) < j ∧ -100 ≤ S 13 (5 * j + k) ∧ S 13 (5 * j + k) ≤ 100 ∧ (S 9 (S 12 (5 * j + k)) ≠ -1 ∨ 0 < S 11 (S 12 (5 * j + k)))) ∧
  (∀ j k k' : Int, 0 ≤ j → j < S 14 0 → 0 ≤ k → k < S 11 j → 0 ≤ k' → k' < S 11 j → S 13 (5 * j + k) = S 13 (5 * j + k') → k = k') ∧
  (∃ D : Int → Int, ∀ j : Int, 0 ≤ j → j < S 14 0 → 1 ≤ D j ∧ D j ≤ 4 ∧ ∀ k : Int, 0 ≤ k → k < S 11 j → D (S 12 (5 * j + k)) < D j) ∧
  (0 ≤ S 19 0 ∧ S 19 0 ≤ 10) ∧
  (∀ s : Int, 0 ≤ s → s < S 19 0 → 0 ≤ S 15 s ∧ S 15 s < S 14 0 ∧ (S 9 (S 15 s) ≠ -1 ∨ 0 < S 11 (S 15 s)) ∧ 1 ≤ S 16 s ∧ S 16 s ≤ 400 ∧ 0 ≤ S 17 s ∧ S 17 s ≤ 1 ∧ 0 ≤ S 18 s ∧ S 18 s ≤ 3) ∧
  (0 ≤ S 21 0 ∧ S 21 0 ≤ 24) ∧
  (∀ t : Int, 0 ≤ t → t < S 21 0 → -1 ≤ S 20 (17 * t) ∧ S 20 (17 * t) < S 19 0 ∧ 0 ≤ S 20 (17 * t + 1) ∧ S 20 (17 * t + 1) < S 19 0 ∧ 0 ≤ S 20 (17 * t + 2) ∧ S 20 (17 * t + 2) ≤ 60 ∧ -1 ≤ S 20 (17 * t + 3) ∧ S 20 (17 * t + 3) ≤ 300 ∧ 0 ≤ S 20 (17 * t + 4) ∧ S 20 (17 * t + 4) ≤ 99 ∧ 0 ≤ S 20 (17 * t + 5) ∧ S 20 (17 * t + 5) ≤ 4 ∧ 0 ≤ S 20 (17 * t + 6) ∧ S 20 (17 * t + 6) ≤ 1 ∧ 0 ≤ S 20 (17 * t + 7) ∧ S 20 (17 * t + 7) ≤ 3) ∧
  (∀ t k : Int, 0 ≤ t → t < S 21 0 → 0 ≤ k → k < S 20 (17 * t + 7) → 0 ≤ S 20 (17 * t + 8 + 3 * k) ∧ S 20 (17 * t + 8 + 3 * k) < S 3 0 ∧ 0 ≤ S 20 (17 * t + 9 + 3 * k) ∧ S 20 (17 * t + 9 + 3 * k) ≤ 3 ∧ -100 ≤ S 20 (17 * t + 10 + 3 * k) ∧ S 20 (17 * t + 10 + 3 * k) ≤ 100) ∧
  (0 ≤ S 22 0 ∧ S 22 0 ≤ 100) ∧
  (0 ≤ S 24 0 ∧ S 24 0 ≤ 150) ∧
  (∀ j : Int, 0 ≤ j → j < S 24 0 → 0 ≤ S 23 j ∧ S 23 j ≤ 255)
theorem WFs.par {S : SS} (h : WFs S) : 0 ≤ S 3 0 ∧ S 3 0 ≤ 8 := h.1
theorem WFs.kind {S : SS} (h : WFs S) : ∀ p : Int, 0 ≤ p → p < 8 → 0 ≤ S 2 p ∧ S 2 p ≤ 2 := h.2.1
theorem WFs.clips {S : SS} (h : WFs S) : 0 ≤ S 8 0 ∧ S 8 0 ≤ 12 := h.2.2.1
theorem WFs.len {S : SS} (h : WFs S) : ∀ c : Int, 0 ≤ c → c < S 8 0 → 1 ≤ S 4 c ∧ S 4 c ≤ 500 := h.2.2.2.1
theorem WFs.evs {S : SS} (h : WFs S) : ∀ c : Int, 0 ≤ c → c < 12 → 0 ≤ S 5 c ∧ S 5 c ≤ 5 ∧ (S 8 0 ≤ c → S 5 c = 0) := h.2.2.2.2.1
theorem WFs.evt {S : SS} (h : WFs S) : ∀ c k : Int, 0 ≤ c → c < S 8 0 → 0 ≤ k → k < S 5 c → 0 ≤ S 6 (5 * c + k) ∧ S 6 (5 * c + k) < S 4 c ∧ 0 ≤ S 7 (5 * c + k) ∧ S 7 (5 * c + k) ≤ 99 := h.2.2.2.2.2.1
theorem WFs.nodes {S : SS} (h : WFs S) : 0 ≤ S 14 0 ∧ S 14 0 ≤ 20 := h.2.2.2.2.2.2.1
theorem WFs.nod {S : SS} (h : WFs S) : ∀ j : Int, 0 ≤ j → j < S 14 0 → (0 ≤ S 9 j ∧ S 9 j < S 8 0 ∧ S 11 j = 0) ∨ (S 9 j = -1 ∧ 0 ≤ S 10 j ∧ S 10 j < S 3 0 ∧ S 2 (S 10 j) = 0 ∧ 0 ≤ S 11 j ∧ S 11 j ≤ 5) := h.2.2.2.2.2.2.2.1
theorem WFs.nou {S : SS} (h : WFs S) : ∀ j : Int, S 14 0 ≤ j → j < 20 → S 11 j = 0 := h.2.2.2.2.2.2.2.2.1
theorem WFs.chi {S : SS} (h : WFs S) : ∀ j k : Int, 0 ≤ j → j < S 14 0 → 0 ≤ k → k < S 11 j → 0 ≤ S 12 (5 * j + k) ∧ S 12 (5 * j + k) < j ∧ -100 ≤ S 13 (5 * j + k) ∧ S 13 (5 * j + k) ≤ 100 ∧ (S 9 (S 12 (5 * j + k)) ≠ -1 ∨ 0 < S 11 (S 12 (5 * j + k))) := h.2.2.2.2.2.2.2.2.2.1
theorem WFs.dis {S : SS} (h : WFs S) : ∀ j k k' : Int, 0 ≤ j → j < S 14 0 → 0 ≤ k → k < S 11 j → 0 ≤ k' → k' < S 11 j → S 13 (5 * j + k) = S 13 (5 * j + k') → k = k' := h.2.2.2.2.2.2.2.2.2.2.1
theorem WFs.dep {S : SS} (h : WFs S) : ∃ D : Int → Int, ∀ j : Int, 0 ≤ j → j < S 14 0 → 1 ≤ D j ∧ D j ≤ 4 ∧ ∀ k : Int, 0 ≤ k → k < S 11 j → D (S 12 (5 * j + k)) < D j := h.2.2.2.2.2.2.2.2.2.2.2.1
theorem WFs.sts {S : SS} (h : WFs S) : 0 ≤ S 19 0 ∧ S 19 0 ≤ 10 := h.2.2.2.2.2.2.2.2.2.2.2.2.1
theorem WFs.st {S : SS} (h : WFs S) : ∀ s : Int, 0 ≤ s → s < S 19 0 → 0 ≤ S 15 s ∧ S 15 s < S 14 0 ∧ (S 9 (S 15 s) ≠ -1 ∨ 0 < S 11 (S 15 s)) ∧ 1 ≤ S 16 s ∧ S 16 s ≤ 400 ∧ 0 ≤ S 17 s ∧ S 17 s ≤ 1 ∧ 0 ≤ S 18 s ∧ S 18 s ≤ 3 := h.2.2.2.2.2.2.2.2.2.2.2.2.2.1
theorem WFs.trs {S : SS} (h : WFs S) : 0 ≤ S 21 0 ∧ S 21 0 ≤ 24 := h.2.2.2.2.2.2.2.2.2.2.2.2.2.2.1
theorem WFs.tr {S : SS} (h : WFs S) : ∀ t : Int, 0 ≤ t → t < S 21 0 → -1 ≤ S 20 (17 * t) ∧ S 20 (17 * t) < S 19 0 ∧ 0 ≤ S 20 (17 * t + 1) ∧ S 20 (17 * t + 1) < S 19 0 ∧ 0 ≤ S 20 (17 * t + 2) ∧ S 20 (17 * t + 2) ≤ 60 ∧ -1 ≤ S 20 (17 * t + 3) ∧ S 20 (17 * t + 3) ≤ 300 ∧ 0 ≤ S 20 (17 * t + 4) ∧ S 20 (17 * t + 4) ≤ 99 ∧ 0 ≤ S 20 (17 * t + 5) ∧ S 20 (17 * t + 5) ≤ 4 ∧ 0 ≤ S 20 (17 * t + 6) ∧ S 20 (17 * t + 6) ≤ 1 ∧ 0 ≤ S 20 (17 * t + 7) ∧ S 20 (17 * t + 7) ≤ 3 := h.2.2.2.2.2.2.2.2.2.2.2.2.2.2.2.1
theorem WFs.cond {S : SS} (h : WFs S) : ∀ t k : Int, 0 ≤ t → t < S 21 0 → 0 ≤ k → k < S 20 (17 * t + 7) → 0 ≤ S 20 (17 * t + 8 + 3 * k) ∧ S 20 (17 * t + 8 + 3 * k) < S 3 0 ∧ 0 ≤ S 20 (17 * t + 9 + 3 * k) ∧ S 20 (17 * t + 9 + 3 * k) ≤ 3 ∧ -100 ≤ S 20 (17 * t + 10 + 3 * k) ∧ S 20 (17 * t + 10 + 3 * k) ≤ 100 := h.2.2.2.2.2.2.2.2.2.2.2.2.2.2.2.2.1
theorem WFs.thr {S : SS} (h : WFs S) : 0 ≤ S 22 0 ∧ S 22 0 ≤ 100 := h.2.2.2.2.2.2.2.2.2.2.2.2.2.2.2.2.2.1
theorem WFs.txt {S : SS} (h : WFs S) : 0 ≤ S 24 0 ∧ S 24 0 ≤ 150 := h.2.2.2.2.2.2.2.2.2.2.2.2.2.2.2.2.2.2.1
theorem WFs.byt {S : SS} (h : WFs S) : ∀ j : Int, 0 ≤ j → j < S 24 0 → 0 ≤ S 23 j ∧ S 23 j ≤ 255 := h.2.2.2.2.2.2.2.2.2.2.2.2.2.2.2.2.2.2.2
theorem WFs.congr {S S' : SS} (h : WFs S) (he : ∀ f : Nat, f ≠ 0 → S' f = S f) : WFs S' := by
  have e2 := he 2 (by decide); have e3 := he 3 (by decide); have e4 := he 4 (by decide); have e5 := he 5 (by decide); have e6 := he 6 (by decide); have e7 := he 7 (by decide)
  have e8 := he 8 (by decide); have e9 := he 9 (by decide); have e10 := he 10 (by decide); have e11 := he 11 (by decide); have e12 := he 12 (by decide); have e13 := he 13 (by decide)
  have e14 := he 14 (by decide); have e15 := he 15 (by decide); have e16 := he 16 (by decide); have e17 := he 17 (by decide); have e18 := he 18 (by decide); have e19 := he 19 (by decide)
  have e20 := he 20 (by decide); have e21 := he 21 (by decide); have e22 := he 22 (by decide); have e23 := he 23 (by decide); have e24 := he 24 (by decide)
  unfold WFs at *
  simp only [e2, e3, e4, e5, e6, e7, e8, e9, e10, e11, e12, e13, e14, e15, e16, e17, e18, e19, e20, e21, e22, e23, e24]
  exact h
set_option maxHeartbeats 4000000 in
set_option maxRecDepth 100000 in
theorem m_X4_isClip {w : KW} {n : KN} {α : KA} {K : KS} (S : SS) (p : Int) (h40 : (0 : Int) ≤ 0 ∧ 0 < n 4) (hM : MRep S n K) (hp : -2147483648 ≤ p ∧ p ≤ 2147483647) (hc : 0 ≤ S 8 0 ∧ S 8 0 ≤ 12) : KM w yX4_isClip cX4_isClip 2 (some (.boolean)) { frames := 1, cells := 0, slots := 0, locals := 25 } (0, 0) [.ref (α 4 0), .int (iI p)] n α K (fun r n' α' K' => n = n' ∧ α = α' ∧ K = K' ∧ ((r = 1 ∧ (0 ≤ p ∧ p < S 8 0) ∨ r = 0 ∧ ¬ (0 ≤ p ∧ p < S 8 0)))) := by
  refine y_start (by decide) (Nat.le_of_ble_eq_true rfl) (fun x hE hQ => ?_)
  have hw := hQ.2
  subst hw
  have hE : YE x cX4_isClip RX4 (some (.boolean)) "isClip" 2 { frames := 1, cells := 0, slots := 0, locals := 25 } := hE
  refine y_wk (fun hWK => ?_)
  have hn0 := hWK.1
  refine y_bud (bc' := 0) (bs' := 0) (Nat.le_refl _) (Nat.le_refl _) ?_
  refine y_to (lv' := [(0, .ref (α 4 0)), (1, .int (iI p))]) (st' := []) rfl rfl rfl ?_
  refine y_iload_n hE rfl 1 rfl dX4_isClip_0 ?_
  refine y_i2l hE (by omega) dX4_isClip_1 ?_
  refine y_lconst hE 0 (by decide) dX4_isClip_2 ?_
  refine y_aload_n hE rfl 0 rfl dX4_isClip_3 ?_
  refine gX4_120 (z := S 8 0) hE h40 (hM.2.2.2.1) dX4_isClip_4 ?_
  refine y_iconst hE dX4_isClip_7 ?_
  refine y_isub hE dX4_isClip_8 ?_
  refine y_i2l hE (by omega) dX4_isClip_9 ?_
  refine y_callS hE (m_X4_in p 0 ((S 8 0) - 1) (by omega) (by omega) (by omega)) (lw_S q2868 q2869 q133 q2870) (nA := 3) (by decide +kernel) rfl ⟨Nat.le_of_ble_eq_true rfl, Nat.le_of_ble_eq_true rfl⟩ (rest := []) rfl (by decide) dX4_isClip_10 (bc' := 0) (bs' := 0) (Nat.le_refl _) (Nat.le_refl _) (fun r_10 n_10 α_10 K_10 hx_10 hp_10 => ?_)
  obtain ⟨rfl, rfl, rfl, hr_10⟩ := hp_10
  refine y_to (st' := [.int (iI r_10)]) rfl rfl rfl ?_
  exact y_iret hE rfl (nar_b (by omega)).1 hQ dX4_isClip_13 Ext.rf ⟨rfl, rfl, rfl, by omega⟩
set_option maxHeartbeats 4000000 in
set_option maxRecDepth 100000 in
theorem m_X4_isNode {w : KW} {n : KN} {α : KA} {K : KS} (S : SS) (p : Int) (h40 : (0 : Int) ≤ 0 ∧ 0 < n 4) (hM : MRep S n K) (hp : -2147483648 ≤ p ∧ p ≤ 2147483647) (hc : 0 ≤ S 14 0 ∧ S 14 0 ≤ 20) : KM w yX4_isNode cX4_isNode 2 (some (.boolean)) { frames := 1, cells := 0, slots := 0, locals := 25 } (0, 0) [.ref (α 4 0), .int (iI p)] n α K (fun r n' α' K' => n = n' ∧ α = α' ∧ K = K' ∧ ((r = 1 ∧ (0 ≤ p ∧ p < S 14 0) ∨ r = 0 ∧ ¬ (0 ≤ p ∧ p < S 14 0)))) := by
  refine y_start (by decide) (Nat.le_of_ble_eq_true rfl) (fun x hE hQ => ?_)
  have hw := hQ.2
  subst hw
  have hE : YE x cX4_isNode RX4 (some (.boolean)) "isNode" 2 { frames := 1, cells := 0, slots := 0, locals := 25 } := hE
  refine y_wk (fun hWK => ?_)
  have hn0 := hWK.1
  refine y_bud (bc' := 0) (bs' := 0) (Nat.le_refl _) (Nat.le_refl _) ?_
  refine y_to (lv' := [(0, .ref (α 4 0)), (1, .int (iI p))]) (st' := []) rfl rfl rfl ?_
  refine y_iload_n hE rfl 1 rfl dX4_isNode_0 ?_
  refine y_i2l hE (by omega) dX4_isNode_1 ?_
  refine y_lconst hE 0 (by decide) dX4_isNode_2 ?_
  refine y_aload_n hE rfl 0 rfl dX4_isNode_3 ?_
  refine gX4_128 (z := S 14 0) hE h40 (hM.2.2.2.2.1) dX4_isNode_4 ?_
  refine y_iconst hE dX4_isNode_7 ?_
  refine y_isub hE dX4_isNode_8 ?_
  refine y_i2l hE (by omega) dX4_isNode_9 ?_
  refine y_callS hE (m_X4_in p 0 ((S 14 0) - 1) (by omega) (by omega) (by omega)) (lw_S q2868 q2869 q133 q2870) (nA := 3) (by decide +kernel) rfl ⟨Nat.le_of_ble_eq_true rfl, Nat.le_of_ble_eq_true rfl⟩ (rest := []) rfl (by decide) dX4_isNode_10 (bc' := 0) (bs' := 0) (Nat.le_refl _) (Nat.le_refl _) (fun r_10 n_10 α_10 K_10 hx_10 hp_10 => ?_)
  obtain ⟨rfl, rfl, rfl, hr_10⟩ := hp_10
  refine y_to (st' := [.int (iI r_10)]) rfl rfl rfl ?_
  exact y_iret hE rfl (nar_b (by omega)).1 hQ dX4_isNode_13 Ext.rf ⟨rfl, rfl, rfl, by omega⟩
set_option maxHeartbeats 4000000 in
set_option maxRecDepth 100000 in
theorem m_X4_isState {w : KW} {n : KN} {α : KA} {K : KS} (S : SS) (p : Int) (h40 : (0 : Int) ≤ 0 ∧ 0 < n 4) (hM : MRep S n K) (hp : -2147483648 ≤ p ∧ p ≤ 2147483647) (hc : 0 ≤ S 19 0 ∧ S 19 0 ≤ 10) : KM w yX4_isState cX4_isState 2 (some (.boolean)) { frames := 1, cells := 0, slots := 0, locals := 25 } (0, 0) [.ref (α 4 0), .int (iI p)] n α K (fun r n' α' K' => n = n' ∧ α = α' ∧ K = K' ∧ ((r = 1 ∧ (0 ≤ p ∧ p < S 19 0) ∨ r = 0 ∧ ¬ (0 ≤ p ∧ p < S 19 0)))) := by
  refine y_start (by decide) (Nat.le_of_ble_eq_true rfl) (fun x hE hQ => ?_)
  have hw := hQ.2
  subst hw
  have hE : YE x cX4_isState RX4 (some (.boolean)) "isState" 2 { frames := 1, cells := 0, slots := 0, locals := 25 } := hE
  refine y_wk (fun hWK => ?_)
  have hn0 := hWK.1
  refine y_bud (bc' := 0) (bs' := 0) (Nat.le_refl _) (Nat.le_refl _) ?_
  refine y_to (lv' := [(0, .ref (α 4 0)), (1, .int (iI p))]) (st' := []) rfl rfl rfl ?_
  refine y_iload_n hE rfl 1 rfl dX4_isState_0 ?_
  refine y_i2l hE (by omega) dX4_isState_1 ?_
  refine y_lconst hE 0 (by decide) dX4_isState_2 ?_
  refine y_aload_n hE rfl 0 rfl dX4_isState_3 ?_
  refine gX4_145 (z := S 19 0) hE h40 (hM.2.2.2.2.2.1) dX4_isState_4 ?_
  refine y_iconst hE dX4_isState_7 ?_
  refine y_isub hE dX4_isState_8 ?_
  refine y_i2l hE (by omega) dX4_isState_9 ?_
  refine y_callS hE (m_X4_in p 0 ((S 19 0) - 1) (by omega) (by omega) (by omega)) (lw_S q2868 q2869 q133 q2870) (nA := 3) (by decide +kernel) rfl ⟨Nat.le_of_ble_eq_true rfl, Nat.le_of_ble_eq_true rfl⟩ (rest := []) rfl (by decide) dX4_isState_10 (bc' := 0) (bs' := 0) (Nat.le_refl _) (Nat.le_refl _) (fun r_10 n_10 α_10 K_10 hx_10 hp_10 => ?_)
  obtain ⟨rfl, rfl, rfl, hr_10⟩ := hp_10
  refine y_to (st' := [.int (iI r_10)]) rfl rfl rfl ?_
  exact y_iret hE rfl (nar_b (by omega)).1 hQ dX4_isState_13 Ext.rf ⟨rfl, rfl, rfl, by omega⟩
set_option maxHeartbeats 4000000 in
set_option maxRecDepth 100000 in
theorem m_X4_isTransition {w : KW} {n : KN} {α : KA} {K : KS} (S : SS) (p : Int) (h40 : (0 : Int) ≤ 0 ∧ 0 < n 4) (hM : MRep S n K) (hp : -2147483648 ≤ p ∧ p ≤ 2147483647) (hc : 0 ≤ S 21 0 ∧ S 21 0 ≤ 24) : KM w yX4_isTransition cX4_isTransition 2 (some (.boolean)) { frames := 1, cells := 0, slots := 0, locals := 25 } (0, 0) [.ref (α 4 0), .int (iI p)] n α K (fun r n' α' K' => n = n' ∧ α = α' ∧ K = K' ∧ ((r = 1 ∧ (0 ≤ p ∧ p < S 21 0) ∨ r = 0 ∧ ¬ (0 ≤ p ∧ p < S 21 0)))) := by
  refine y_start (by decide) (Nat.le_of_ble_eq_true rfl) (fun x hE hQ => ?_)
  have hw := hQ.2
  subst hw
  have hE : YE x cX4_isTransition RX4 (some (.boolean)) "isTransition" 2 { frames := 1, cells := 0, slots := 0, locals := 25 } := hE
  refine y_wk (fun hWK => ?_)
  have hn0 := hWK.1
  refine y_bud (bc' := 0) (bs' := 0) (Nat.le_refl _) (Nat.le_refl _) ?_
  refine y_to (lv' := [(0, .ref (α 4 0)), (1, .int (iI p))]) (st' := []) rfl rfl rfl ?_
  refine y_iload_n hE rfl 1 rfl dX4_isTransition_0 ?_
  refine y_i2l hE (by omega) dX4_isTransition_1 ?_
  refine y_lconst hE 0 (by decide) dX4_isTransition_2 ?_
  refine y_aload_n hE rfl 0 rfl dX4_isTransition_3 ?_
  refine gX4_159 (z := S 21 0) hE h40 (hM.2.2.2.2.2.2.1) dX4_isTransition_4 ?_
  refine y_iconst hE dX4_isTransition_7 ?_
  refine y_isub hE dX4_isTransition_8 ?_
  refine y_i2l hE (by omega) dX4_isTransition_9 ?_
  refine y_callS hE (m_X4_in p 0 ((S 21 0) - 1) (by omega) (by omega) (by omega)) (lw_S q2868 q2869 q133 q2870) (nA := 3) (by decide +kernel) rfl ⟨Nat.le_of_ble_eq_true rfl, Nat.le_of_ble_eq_true rfl⟩ (rest := []) rfl (by decide) dX4_isTransition_10 (bc' := 0) (bs' := 0) (Nat.le_refl _) (Nat.le_refl _) (fun r_10 n_10 α_10 K_10 hx_10 hp_10 => ?_)
  obtain ⟨rfl, rfl, rfl, hr_10⟩ := hp_10
  refine y_to (st' := [.int (iI r_10)]) rfl rfl rfl ?_
  exact y_iret hE rfl (nar_b (by omega)).1 hQ dX4_isTransition_13 Ext.rf ⟨rfl, rfl, rfl, by omega⟩
set_option maxHeartbeats 4000000 in
set_option maxRecDepth 100000 in
theorem m_X4_isComplete {w : KW} {n : KN} {α : KA} {K : KS} (S : SS) (j : Int) (h40 : (0 : Int) ≤ 0 ∧ 0 < n 4) (hM : MRep S n K) (hj : 0 ≤ j ∧ j < 20) (h9 : -2147483648 ≤ S 9 j ∧ S 9 j ≤ 2147483647) (h11 : -2147483648 ≤ S 11 j ∧ S 11 j ≤ 2147483647) : KM w yX4_isComplete cX4_isComplete 2 (some (.boolean)) { frames := 0, cells := 0, slots := 0, locals := 0 } (0, 0) [.ref (α 4 0), .int (iI j)] n α K (fun r n' α' K' => n = n' ∧ α = α' ∧ K = K' ∧ ((r = 1 ∧ (S 9 j ≠ -1 ∨ 0 < S 11 j) ∨ r = 0 ∧ ¬ (S 9 j ≠ -1 ∨ 0 < S 11 j)))) := by
  refine y_start (by decide) (Nat.le_of_ble_eq_true rfl) (fun x hE hQ => ?_)
  have hw := hQ.2
  subst hw
  have hE : YE x cX4_isComplete RX4 (some (.boolean)) "isComplete" 2 { frames := 0, cells := 0, slots := 0, locals := 0 } := hE
  refine y_wk (fun hWK => ?_)
  have hn0 := hWK.1
  refine y_bud (bc' := 0) (bs' := 0) (Nat.le_refl _) (Nat.le_refl _) ?_
  refine y_to (lv' := [(0, .ref (α 4 0)), (1, .int (iI j))]) (st' := []) rfl rfl rfl ?_
  refine y_aload_n hE rfl 0 rfl dX4_isComplete_0 ?_
  refine gX4_32r (z := 0) hE h40 (MObj.r hM.1 9 (by decide)) (by omega) dX4_isComplete_1 (fun hl_1 => ?_)
  refine y_iload_n hE rfl 1 rfl dX4_isComplete_4 ?_
  refine y_iald hE rfl hl_1 (by have hL : K 109 0 (-1) = 20 := (MObj.l hM.1 9 (by decide)); omega) dX4_isComplete_5 ?_
  refine y_to (st' := [.int (iI (S 9 j))]) rfl rfl (by rw [show K 109 0 j = S 9 j from (MRep.ra hM 9 rfl (by omega) (by first | omega | (show _ < (20 : Int); omega)))]) ?_
  refine y_iconst hE dX4_isComplete_6 ?_
  refine y_icmp_ne hE 19 (by decide) (by omega) (by omega) dX4_isComplete_7 (fun c_7 => ?_) (fun c_7 => ?_)
  · refine y_iconst hE dX4_isComplete_19 ?_
    refine y_goto hE 24 (by decide) dX4_isComplete_20 ?_
    exact y_iret hE rfl (nar_b (by omega)).1 hQ dX4_isComplete_24 Ext.rf ⟨rfl, rfl, rfl, by omega⟩
  · refine y_aload_n hE rfl 0 rfl dX4_isComplete_10 ?_
    refine gX4_38r (z := 0) hE h40 (MObj.r hM.1 11 (by decide)) (by omega) dX4_isComplete_11 (fun hl_11 => ?_)
    refine y_iload_n hE rfl 1 rfl dX4_isComplete_14 ?_
    refine y_iald hE rfl hl_11 (by have hL : K 111 0 (-1) = 20 := (MObj.l hM.1 11 (by decide)); omega) dX4_isComplete_15 ?_
    refine y_to (st' := [.int (iI (S 11 j))]) rfl rfl (by rw [show K 111 0 j = S 11 j from (MRep.ra hM 11 rfl (by omega) (by first | omega | (show _ < (20 : Int); omega)))]) ?_
    refine y_if_le hE 23 (by decide) (by omega) dX4_isComplete_16 (fun c_16 => ?_) (fun c_16 => ?_)
    · refine y_iconst hE dX4_isComplete_23 ?_
      exact y_iret hE rfl (nar_b (by omega)).1 hQ dX4_isComplete_24 Ext.rf ⟨rfl, rfl, rfl, by omega⟩
    · refine y_iconst hE dX4_isComplete_19 ?_
      refine y_goto hE 24 (by decide) dX4_isComplete_20 ?_
      exact y_iret hE rfl (nar_b (by omega)).1 hQ dX4_isComplete_24 Ext.rf ⟨rfl, rfl, rfl, by omega⟩
def oAddClip (S : SS) (v : Int) : Int × Int × SS := if ¬ (1 ≤ v ∧ v ≤ 500) then (1, 0, S) else if S 8 0 = 12 then (2, 0, S) else (0, S 8 0, up2 (up2 S 4 (S 8 0) v) 8 0 (S 8 0 + 1))
def oAddClipNode (S : SS) (c : Int) : Int × Int × SS := if ¬ (0 ≤ c ∧ c < S 8 0) then (1, 0, S) else if S 14 0 = 20 then (2, 0, S) else (0, S 14 0, up2 (up2 S 9 (S 14 0) c) 14 0 (S 14 0 + 1))
def oAddLine (S : SS) (p : Int) : Int × Int × SS := if ¬ (0 ≤ p ∧ p < S 3 0) then (1, 0, S) else if ¬ S 2 p = 0 ∨ S 14 0 = 20 then (2, 0, S) else (0, S 14 0, up2 (up2 (up2 S 9 (S 14 0) (-1)) 10 (S 14 0) p) 14 0 (S 14 0 + 1))
set_option maxHeartbeats 4000000 in
set_option maxRecDepth 100000 in
theorem m_X4_addClip {w : KW} {n : KN} {α : KA} {K : KS} (S : SS) (v : Int) (h40 : (0 : Int) ≤ 0 ∧ 0 < n 4) (hM : MRep S n K) (hW : WFs S) (hv : -2147483648 ≤ v ∧ v ≤ 2147483647) : KM w yX4_addClip cX4_addClip 2 (some (.int)) { frames := 1, cells := 0, slots := 0, locals := 25 } (0, 0) [.ref (α 4 0), .int (iI v)] n α K (fun r n' α' K' => n = n' ∧ α = α' ∧ (MRep (oAddClip S v).2.2 n K' ∧ KO K K' MK ∧ K' 4 0 25 = (oAddClip S v).1 ∧ r = (oAddClip S v).2.1)) := by
  refine y_start (by decide) (Nat.le_of_ble_eq_true rfl) (fun x hE hQ => ?_)
  have hw := hQ.2
  subst hw
  have hE : YE x cX4_addClip RX4 (some (.int)) "addClip" 2 { frames := 1, cells := 0, slots := 0, locals := 25 } := hE
  refine y_wk (fun hWK => ?_)
  have hn0 := hWK.1
  refine y_bud (bc' := 0) (bs' := 0) (Nat.le_refl _) (Nat.le_refl _) ?_
  refine y_to (lv' := [(0, .ref (α 4 0)), (1, .int (iI v))]) (st' := []) rfl rfl rfl ?_
  have wpar := hW.par
  have wclips := hW.clips
  have wnodes := hW.nodes
  have wsts := hW.sts
  have wtrs := hW.trs
  have wthr := hW.thr
  have wtxt := hW.txt
  refine y_aload_n hE rfl 0 rfl dX4_addClip_0 ?_
  refine y_iconst hE dX4_addClip_1 ?_
  refine pX4_94 hE h40 dX4_addClip_2 ?_
  refine y_iload_n hE rfl 1 rfl dX4_addClip_5 ?_
  refine y_i2l hE (by omega) dX4_addClip_6 ?_
  refine y_lconst hE 1 (by decide) dX4_addClip_7 ?_
  refine y_ldc2 hE 500 (v := 500) (by decide) q2893 dX4_addClip_8 ?_
  refine y_callS hE (m_X4_in v 1 500 (by omega) (by omega) (by omega)) (lw_S q2868 q2869 q133 q2870) (nA := 3) (by decide +kernel) rfl ⟨Nat.le_of_ble_eq_true rfl, Nat.le_of_ble_eq_true rfl⟩ (rest := []) rfl (by decide) dX4_addClip_11 (bc' := 0) (bs' := 0) (Nat.le_refl _) (Nat.le_refl _) (fun r_11 n_11 α_11 K_11 hx_11 hp_11 => ?_)
  obtain ⟨rfl, rfl, rfl, hr_11⟩ := hp_11
  refine y_to (st' := [.int (iI r_11)]) rfl rfl rfl ?_
  refine y_if_ne hE 23 (by decide) (by omega) dX4_addClip_14 (fun c_14 => ?_) (fun c_14 => ?_)
  · refine y_aload_n hE rfl 0 rfl dX4_addClip_23 ?_
    refine gX4_120 (z := S 8 0) hE h40 (hM.2.2.2.1) dX4_addClip_24 ?_
    refine y_bipush hE (by decide) dX4_addClip_27 ?_
    refine y_icmp_ne hE 38 (by decide) (by omega) (by omega) dX4_addClip_29 (fun c_29 => ?_) (fun c_29 => ?_)
    · refine y_aload_n hE rfl 0 rfl dX4_addClip_38 ?_
      refine gX4_20r (z := 0) hE h40 (MObj.r hM.1 4 (by decide)) (by omega) dX4_addClip_39 (fun hl_39 => ?_)
      refine y_aload_n hE rfl 0 rfl dX4_addClip_42 ?_
      refine gX4_120 (z := S 8 0) hE h40 (hM.2.2.2.1) dX4_addClip_43 ?_
      refine y_iload_n hE rfl 1 rfl dX4_addClip_46 ?_
      refine y_iast hE (by unfold kC; decide) rfl (by simp [kTag]) hl_39 (by have hL : (up3 K 4 0 25 0) 104 0 (-1) = 12 := (MObj.l hM.1 4 (by decide)); omega) dX4_addClip_47 ?_
      refine y_aload_n hE rfl 0 rfl dX4_addClip_48 ?_
      refine y_dup hE rfl dX4_addClip_49 ?_
      refine gX4_120 (z := S 8 0) hE h40 (hM.2.2.2.1) dX4_addClip_50 ?_
      refine y_iconst hE dX4_addClip_53 ?_
      refine y_iadd hE dX4_addClip_54 ?_
      refine pX4_120 hE h40 dX4_addClip_55 ?_
      refine y_aload_n hE rfl 0 rfl dX4_addClip_58 ?_
      refine gX4_120 (z := (S 8 0) + 1) hE h40 (by simp [up3, upr]) dX4_addClip_59 ?_
      refine y_iconst hE dX4_addClip_62 ?_
      refine y_isub hE dX4_addClip_63 ?_
      refine y_iret hE rfl rfl hQ dX4_addClip_64 Ext.rf ?_
      refine ⟨rfl, rfl, ?_⟩
      unfold oAddClip
      (repeat (first | rw [if_pos (by omega)] | rw [if_neg (by omega)]))
      exact ⟨(MRep.s (MRep.a (MRep.t hM 25 (by decide) 0) 4 rfl (j := S 8 0) (by omega) v) 8 (by decide) ((S 8 0) + 1)), (KO.up (KO.up (KO.up KO.rf (by unfold MK; decide)) (by unfold MK; decide)) (by unfold MK; decide)), by simp [up3], by first | rfl | (dsimp only; omega)⟩
    · refine y_aload_n hE rfl 0 rfl dX4_addClip_32 ?_
      refine y_iconst hE dX4_addClip_33 ?_
      refine y_callV hE (m_X4_fails 2 h40) (lw_V q2871 q2873 qs53 q133 q2874) (nA := 1) (by decide +kernel) rfl ⟨Nat.le_of_ble_eq_true rfl, Nat.le_of_ble_eq_true rfl⟩ (hdd := rfl) (hcc := rfl) (hq := rfl) (hi := h40) (rest := []) rfl (by decide) dX4_addClip_34 (bc' := 0) (bs' := 0) (Nat.le_refl _) (Nat.le_refl _) (fun r_34 n_34 α_34 K_34 hx_34 hp_34 => ?_)
      obtain ⟨rfl, rfl, rfl, hr_34⟩ := hp_34
      refine y_to (st' := [.int (iI r_34)]) rfl rfl rfl ?_
      refine y_iret hE rfl rfl hQ dX4_addClip_37 Ext.rf ?_
      refine ⟨rfl, rfl, ?_⟩
      unfold oAddClip
      (repeat (first | rw [if_pos (by omega)] | rw [if_neg (by omega)]))
      exact ⟨(MRep.t (MRep.t hM 25 (by decide) 0) 25 (by decide) 2), (KO.up (KO.up KO.rf (by unfold MK; decide)) (by unfold MK; decide)), by simp [up3], by first | rfl | (dsimp only; omega)⟩
  · refine y_aload_n hE rfl 0 rfl dX4_addClip_17 ?_
    refine y_iconst hE dX4_addClip_18 ?_
    refine y_callV hE (m_X4_fails 1 h40) (lw_V q2871 q2873 qs53 q133 q2874) (nA := 1) (by decide +kernel) rfl ⟨Nat.le_of_ble_eq_true rfl, Nat.le_of_ble_eq_true rfl⟩ (hdd := rfl) (hcc := rfl) (hq := rfl) (hi := h40) (rest := []) rfl (by decide) dX4_addClip_19 (bc' := 0) (bs' := 0) (Nat.le_refl _) (Nat.le_refl _) (fun r_19 n_19 α_19 K_19 hx_19 hp_19 => ?_)
    obtain ⟨rfl, rfl, rfl, hr_19⟩ := hp_19
    refine y_to (st' := [.int (iI r_19)]) rfl rfl rfl ?_
    refine y_iret hE rfl rfl hQ dX4_addClip_22 Ext.rf ?_
    refine ⟨rfl, rfl, ?_⟩
    unfold oAddClip
    (repeat (first | rw [if_pos (by omega)] | rw [if_neg (by omega)]))
    exact ⟨(MRep.t (MRep.t hM 25 (by decide) 0) 25 (by decide) 1), (KO.up (KO.up KO.rf (by unfold MK; decide)) (by unfold MK; decide)), by simp [up3], by first | rfl | (dsimp only; omega)⟩
set_option maxHeartbeats 4000000 in
set_option maxRecDepth 100000 in
theorem m_X4_addClipNode {w : KW} {n : KN} {α : KA} {K : KS} (S : SS) (c : Int) (h40 : (0 : Int) ≤ 0 ∧ 0 < n 4) (hM : MRep S n K) (hW : WFs S) (hv : -2147483648 ≤ c ∧ c ≤ 2147483647) : KM w yX4_addClipNode cX4_addClipNode 2 (some (.int)) { frames := 2, cells := 0, slots := 0, locals := 46 } (0, 0) [.ref (α 4 0), .int (iI c)] n α K (fun r n' α' K' => n = n' ∧ α = α' ∧ (MRep (oAddClipNode S c).2.2 n K' ∧ KO K K' MK ∧ K' 4 0 25 = (oAddClipNode S c).1 ∧ r = (oAddClipNode S c).2.1)) := by
  refine y_start (by decide) (Nat.le_of_ble_eq_true rfl) (fun x hE hQ => ?_)
  have hw := hQ.2
  subst hw
  have hE : YE x cX4_addClipNode RX4 (some (.int)) "addClipNode" 2 { frames := 2, cells := 0, slots := 0, locals := 46 } := hE
  refine y_wk (fun hWK => ?_)
  have hn0 := hWK.1
  refine y_bud (bc' := 0) (bs' := 0) (Nat.le_refl _) (Nat.le_refl _) ?_
  refine y_to (lv' := [(0, .ref (α 4 0)), (1, .int (iI c))]) (st' := []) rfl rfl rfl ?_
  have wpar := hW.par
  have wclips := hW.clips
  have wnodes := hW.nodes
  have wsts := hW.sts
  have wtrs := hW.trs
  have wthr := hW.thr
  have wtxt := hW.txt
  refine y_aload_n hE rfl 0 rfl dX4_addClipNode_0 ?_
  refine y_iconst hE dX4_addClipNode_1 ?_
  refine pX4_94 hE h40 dX4_addClipNode_2 ?_
  refine y_aload_n hE rfl 0 rfl dX4_addClipNode_5 ?_
  refine y_iload_n hE rfl 1 rfl dX4_addClipNode_6 ?_
  refine y_callV hE (m_X4_isClip S c h40 (MRep.t hM 25 (by decide) 0) (by omega) (by omega)) (lw_V q2898 q2900 qs55 q133 q2901) (nA := 1) (by decide +kernel) rfl ⟨Nat.le_of_ble_eq_true rfl, Nat.le_of_ble_eq_true rfl⟩ (hdd := rfl) (hcc := rfl) (hq := rfl) (hi := h40) (rest := []) rfl (by decide) dX4_addClipNode_7 (bc' := 0) (bs' := 0) (Nat.le_refl _) (Nat.le_refl _) (fun r_7 n_7 α_7 K_7 hx_7 hp_7 => ?_)
  obtain ⟨rfl, rfl, rfl, hr_7⟩ := hp_7
  refine y_to (st' := [.int (iI r_7)]) rfl rfl rfl ?_
  refine y_if_ne hE 19 (by decide) (by omega) dX4_addClipNode_10 (fun c_10 => ?_) (fun c_10 => ?_)
  · refine y_aload_n hE rfl 0 rfl dX4_addClipNode_19 ?_
    refine gX4_128 (z := S 14 0) hE h40 (hM.2.2.2.2.1) dX4_addClipNode_20 ?_
    refine y_bipush hE (by decide) dX4_addClipNode_23 ?_
    refine y_icmp_ne hE 34 (by decide) (by omega) (by omega) dX4_addClipNode_25 (fun c_25 => ?_) (fun c_25 => ?_)
    · refine y_aload_n hE rfl 0 rfl dX4_addClipNode_34 ?_
      refine gX4_32r (z := 0) hE h40 (MObj.r hM.1 9 (by decide)) (by omega) dX4_addClipNode_35 (fun hl_35 => ?_)
      refine y_aload_n hE rfl 0 rfl dX4_addClipNode_38 ?_
      refine gX4_128 (z := S 14 0) hE h40 (hM.2.2.2.2.1) dX4_addClipNode_39 ?_
      refine y_iload_n hE rfl 1 rfl dX4_addClipNode_42 ?_
      refine y_iast hE (by unfold kC; decide) rfl (by simp [kTag]) hl_35 (by have hL : (up3 K 4 0 25 0) 109 0 (-1) = 20 := (MObj.l hM.1 9 (by decide)); omega) dX4_addClipNode_43 ?_
      refine y_aload_n hE rfl 0 rfl dX4_addClipNode_44 ?_
      refine y_dup hE rfl dX4_addClipNode_45 ?_
      refine gX4_128 (z := S 14 0) hE h40 (hM.2.2.2.2.1) dX4_addClipNode_46 ?_
      refine y_iconst hE dX4_addClipNode_49 ?_
      refine y_iadd hE dX4_addClipNode_50 ?_
      refine pX4_128 hE h40 dX4_addClipNode_51 ?_
      refine y_aload_n hE rfl 0 rfl dX4_addClipNode_54 ?_
      refine gX4_128 (z := (S 14 0) + 1) hE h40 (by simp [up3, upr]) dX4_addClipNode_55 ?_
      refine y_iconst hE dX4_addClipNode_58 ?_
      refine y_isub hE dX4_addClipNode_59 ?_
      refine y_iret hE rfl rfl hQ dX4_addClipNode_60 Ext.rf ?_
      refine ⟨rfl, rfl, ?_⟩
      unfold oAddClipNode
      (repeat (first | rw [if_pos (by omega)] | rw [if_neg (by omega)]))
      exact ⟨(MRep.s (MRep.a (MRep.t hM 25 (by decide) 0) 9 rfl (j := S 14 0) (by omega) c) 14 (by decide) ((S 14 0) + 1)), (KO.up (KO.up (KO.up KO.rf (by unfold MK; decide)) (by unfold MK; decide)) (by unfold MK; decide)), by simp [up3], by first | rfl | (dsimp only; omega)⟩
    · refine y_aload_n hE rfl 0 rfl dX4_addClipNode_28 ?_
      refine y_iconst hE dX4_addClipNode_29 ?_
      refine y_callV hE (m_X4_fails 2 h40) (lw_V q2871 q2873 qs53 q133 q2874) (nA := 1) (by decide +kernel) rfl ⟨Nat.le_of_ble_eq_true rfl, Nat.le_of_ble_eq_true rfl⟩ (hdd := rfl) (hcc := rfl) (hq := rfl) (hi := h40) (rest := []) rfl (by decide) dX4_addClipNode_30 (bc' := 0) (bs' := 0) (Nat.le_refl _) (Nat.le_refl _) (fun r_30 n_30 α_30 K_30 hx_30 hp_30 => ?_)
      obtain ⟨rfl, rfl, rfl, hr_30⟩ := hp_30
      refine y_to (st' := [.int (iI r_30)]) rfl rfl rfl ?_
      refine y_iret hE rfl rfl hQ dX4_addClipNode_33 Ext.rf ?_
      refine ⟨rfl, rfl, ?_⟩
      unfold oAddClipNode
      (repeat (first | rw [if_pos (by omega)] | rw [if_neg (by omega)]))
      exact ⟨(MRep.t (MRep.t hM 25 (by decide) 0) 25 (by decide) 2), (KO.up (KO.up KO.rf (by unfold MK; decide)) (by unfold MK; decide)), by simp [up3], by first | rfl | (dsimp only; omega)⟩
  · refine y_aload_n hE rfl 0 rfl dX4_addClipNode_13 ?_
    refine y_iconst hE dX4_addClipNode_14 ?_
    refine y_callV hE (m_X4_fails 1 h40) (lw_V q2871 q2873 qs53 q133 q2874) (nA := 1) (by decide +kernel) rfl ⟨Nat.le_of_ble_eq_true rfl, Nat.le_of_ble_eq_true rfl⟩ (hdd := rfl) (hcc := rfl) (hq := rfl) (hi := h40) (rest := []) rfl (by decide) dX4_addClipNode_15 (bc' := 0) (bs' := 0) (Nat.le_refl _) (Nat.le_refl _) (fun r_15 n_15 α_15 K_15 hx_15 hp_15 => ?_)
    obtain ⟨rfl, rfl, rfl, hr_15⟩ := hp_15
    refine y_to (st' := [.int (iI r_15)]) rfl rfl rfl ?_
    refine y_iret hE rfl rfl hQ dX4_addClipNode_18 Ext.rf ?_
    refine ⟨rfl, rfl, ?_⟩
    unfold oAddClipNode
    (repeat (first | rw [if_pos (by omega)] | rw [if_neg (by omega)]))
    exact ⟨(MRep.t (MRep.t hM 25 (by decide) 0) 25 (by decide) 1), (KO.up (KO.up KO.rf (by unfold MK; decide)) (by unfold MK; decide)), by simp [up3], by first | rfl | (dsimp only; omega)⟩
set_option maxHeartbeats 4000000 in
set_option maxRecDepth 100000 in
theorem m_X4_addLine {w : KW} {n : KN} {α : KA} {K : KS} (S : SS) (p : Int) (h40 : (0 : Int) ≤ 0 ∧ 0 < n 4) (hM : MRep S n K) (hW : WFs S) (hp : -2147483648 ≤ p ∧ p ≤ 2147483647) : KM w yX4_addLine cX4_addLine 2 (some (.int)) { frames := 2, cells := 0, slots := 0, locals := 46 } (0, 0) [.ref (α 4 0), .int (iI p)] n α K (fun r n' α' K' => n = n' ∧ α = α' ∧ (MRep (oAddLine S p).2.2 n K' ∧ KO K K' MK ∧ K' 4 0 25 = (oAddLine S p).1 ∧ r = (oAddLine S p).2.1)) := by
  refine y_start (by decide) (Nat.le_of_ble_eq_true rfl) (fun x hE hQ => ?_)
  have hw := hQ.2
  subst hw
  have hE : YE x cX4_addLine RX4 (some (.int)) "addLine" 2 { frames := 2, cells := 0, slots := 0, locals := 46 } := hE
  refine y_wk (fun hWK => ?_)
  have hn0 := hWK.1
  refine y_bud (bc' := 0) (bs' := 0) (Nat.le_refl _) (Nat.le_refl _) ?_
  refine y_to (lv' := [(0, .ref (α 4 0)), (1, .int (iI p))]) (st' := []) rfl rfl rfl ?_
  have wpar := hW.par
  have wclips := hW.clips
  have wnodes := hW.nodes
  have wsts := hW.sts
  have wtrs := hW.trs
  have wthr := hW.thr
  have wtxt := hW.txt
  refine y_aload_n hE rfl 0 rfl dX4_addLine_0 ?_
  refine y_iconst hE dX4_addLine_1 ?_
  refine pX4_94 hE h40 dX4_addLine_2 ?_
  refine y_aload_n hE rfl 0 rfl dX4_addLine_5 ?_
  refine y_iload_n hE rfl 1 rfl dX4_addLine_6 ?_
  refine y_callV hE (m_X4_isParameter S p h40 (MRep.t hM 25 (by decide) 0) (by omega) (by omega)) (lw_V q2879 q2881 qs54 q133 q2882) (nA := 1) (by decide +kernel) rfl ⟨Nat.le_of_ble_eq_true rfl, Nat.le_of_ble_eq_true rfl⟩ (hdd := rfl) (hcc := rfl) (hq := rfl) (hi := h40) (rest := []) rfl (by decide) dX4_addLine_7 (bc' := 0) (bs' := 0) (Nat.le_refl _) (Nat.le_refl _) (fun r_7 n_7 α_7 K_7 hx_7 hp_7 => ?_)
  obtain ⟨rfl, rfl, rfl, hr_7⟩ := hp_7
  refine y_to (st' := [.int (iI r_7)]) rfl rfl rfl ?_
  refine y_if_ne hE 19 (by decide) (by omega) dX4_addLine_10 (fun c_10 => ?_) (fun c_10 => ?_)
  · have wk := hW.kind p (by omega) (by omega)
    refine y_aload_n hE rfl 0 rfl dX4_addLine_19 ?_
    refine gX4_17r (z := 0) hE h40 (MObj.r hM.1 2 (by decide)) (by omega) dX4_addLine_20 (fun hl_20 => ?_)
    refine y_iload_n hE rfl 1 rfl dX4_addLine_23 ?_
    refine y_iald hE rfl hl_20 (by have hL : (up3 K 4 0 25 0) 102 0 (-1) = 8 := (MObj.l hM.1 2 (by decide)); omega) dX4_addLine_24 ?_
    refine y_to (st' := [.int (iI (S 2 p))]) rfl rfl (by rw [show (up3 K 4 0 25 0) 102 0 p = S 2 p from (MRep.ra hM 2 rfl (by omega) (by first | omega | (show _ < (8 : Int); omega)))]) ?_
    refine y_if_ne hE 37 (by decide) (by omega) dX4_addLine_25 (fun c_25 => ?_) (fun c_25 => ?_)
    · refine y_aload_n hE rfl 0 rfl dX4_addLine_37 ?_
      refine y_iconst hE dX4_addLine_38 ?_
      refine y_callV hE (m_X4_fails 2 h40) (lw_V q2871 q2873 qs53 q133 q2874) (nA := 1) (by decide +kernel) rfl ⟨Nat.le_of_ble_eq_true rfl, Nat.le_of_ble_eq_true rfl⟩ (hdd := rfl) (hcc := rfl) (hq := rfl) (hi := h40) (rest := []) rfl (by decide) dX4_addLine_39 (bc' := 0) (bs' := 0) (Nat.le_refl _) (Nat.le_refl _) (fun r_39 n_39 α_39 K_39 hx_39 hp_39 => ?_)
      obtain ⟨rfl, rfl, rfl, hr_39⟩ := hp_39
      refine y_to (st' := [.int (iI r_39)]) rfl rfl rfl ?_
      refine y_iret hE rfl rfl hQ dX4_addLine_42 Ext.rf ?_
      refine ⟨rfl, rfl, ?_⟩
      unfold oAddLine
      (repeat (first | rw [if_pos (by omega)] | rw [if_neg (by omega)]))
      exact ⟨(MRep.t (MRep.t hM 25 (by decide) 0) 25 (by decide) 2), (KO.up (KO.up KO.rf (by unfold MK; decide)) (by unfold MK; decide)), by simp [up3], by first | rfl | (dsimp only; omega)⟩
    · refine y_aload_n hE rfl 0 rfl dX4_addLine_28 ?_
      refine gX4_128 (z := S 14 0) hE h40 (hM.2.2.2.2.1) dX4_addLine_29 ?_
      refine y_bipush hE (by decide) dX4_addLine_32 ?_
      refine y_icmp_ne hE 43 (by decide) (by omega) (by omega) dX4_addLine_34 (fun c_34 => ?_) (fun c_34 => ?_)
      · refine y_aload_n hE rfl 0 rfl dX4_addLine_43 ?_
        refine gX4_32r (z := 0) hE h40 (MObj.r hM.1 9 (by decide)) (by omega) dX4_addLine_44 (fun hl_44 => ?_)
        refine y_aload_n hE rfl 0 rfl dX4_addLine_47 ?_
        refine gX4_128 (z := S 14 0) hE h40 (hM.2.2.2.2.1) dX4_addLine_48 ?_
        refine y_iconst hE dX4_addLine_51 ?_
        refine y_iast hE (by unfold kC; decide) rfl (by simp [kTag]) hl_44 (by have hL : (up3 K 4 0 25 0) 109 0 (-1) = 20 := (MObj.l hM.1 9 (by decide)); omega) dX4_addLine_52 ?_
        refine y_aload_n hE rfl 0 rfl dX4_addLine_53 ?_
        refine gX4_35r (z := 0) hE h40 (MObj.r hM.1 10 (by decide)) (by omega) dX4_addLine_54 (fun hl_54 => ?_)
        refine y_aload_n hE rfl 0 rfl dX4_addLine_57 ?_
        refine gX4_128 (z := S 14 0) hE h40 (hM.2.2.2.2.1) dX4_addLine_58 ?_
        refine y_iload_n hE rfl 1 rfl dX4_addLine_61 ?_
        refine y_iast hE (by unfold kC; decide) rfl (by simp [kTag]) hl_54 (by have hL : (up3 (up3 K 4 0 25 0) 109 0 (S 14 0) (-1)) 110 0 (-1) = 20 := (MObj.l hM.1 10 (by decide)); omega) dX4_addLine_62 ?_
        refine y_aload_n hE rfl 0 rfl dX4_addLine_63 ?_
        refine y_dup hE rfl dX4_addLine_64 ?_
        refine gX4_128 (z := S 14 0) hE h40 (hM.2.2.2.2.1) dX4_addLine_65 ?_
        refine y_iconst hE dX4_addLine_68 ?_
        refine y_iadd hE dX4_addLine_69 ?_
        refine pX4_128 hE h40 dX4_addLine_70 ?_
        refine y_aload_n hE rfl 0 rfl dX4_addLine_73 ?_
        refine gX4_128 (z := (S 14 0) + 1) hE h40 (by simp [up3, upr]) dX4_addLine_74 ?_
        refine y_iconst hE dX4_addLine_77 ?_
        refine y_isub hE dX4_addLine_78 ?_
        refine y_iret hE rfl rfl hQ dX4_addLine_79 Ext.rf ?_
        refine ⟨rfl, rfl, ?_⟩
        unfold oAddLine
        (repeat (first | rw [if_pos (by omega)] | rw [if_neg (by omega)]))
        exact ⟨(MRep.s (MRep.a (MRep.a (MRep.t hM 25 (by decide) 0) 9 rfl (j := S 14 0) (by omega) (-1)) 10 rfl (j := S 14 0) (by omega) p) 14 (by decide) ((S 14 0) + 1)), (KO.up (KO.up (KO.up (KO.up KO.rf (by unfold MK; decide)) (by unfold MK; decide)) (by unfold MK; decide)) (by unfold MK; decide)), by simp [up3], by first | rfl | (dsimp only; omega)⟩
      · refine y_aload_n hE rfl 0 rfl dX4_addLine_37 ?_
        refine y_iconst hE dX4_addLine_38 ?_
        refine y_callV hE (m_X4_fails 2 h40) (lw_V q2871 q2873 qs53 q133 q2874) (nA := 1) (by decide +kernel) rfl ⟨Nat.le_of_ble_eq_true rfl, Nat.le_of_ble_eq_true rfl⟩ (hdd := rfl) (hcc := rfl) (hq := rfl) (hi := h40) (rest := []) rfl (by decide) dX4_addLine_39 (bc' := 0) (bs' := 0) (Nat.le_refl _) (Nat.le_refl _) (fun r_39_2 n_39_2 α_39_2 K_39_2 hx_39_2 hp_39_2 => ?_)
        obtain ⟨rfl, rfl, rfl, hr_39_2⟩ := hp_39_2
        refine y_to (st' := [.int (iI r_39_2)]) rfl rfl rfl ?_
        refine y_iret hE rfl rfl hQ dX4_addLine_42 Ext.rf ?_
        refine ⟨rfl, rfl, ?_⟩
        unfold oAddLine
        (repeat (first | rw [if_pos (by omega)] | rw [if_neg (by omega)]))
        exact ⟨(MRep.t (MRep.t hM 25 (by decide) 0) 25 (by decide) 2), (KO.up (KO.up KO.rf (by unfold MK; decide)) (by unfold MK; decide)), by simp [up3], by first | rfl | (dsimp only; omega)⟩
  · refine y_aload_n hE rfl 0 rfl dX4_addLine_13 ?_
    refine y_iconst hE dX4_addLine_14 ?_
    refine y_callV hE (m_X4_fails 1 h40) (lw_V q2871 q2873 qs53 q133 q2874) (nA := 1) (by decide +kernel) rfl ⟨Nat.le_of_ble_eq_true rfl, Nat.le_of_ble_eq_true rfl⟩ (hdd := rfl) (hcc := rfl) (hq := rfl) (hi := h40) (rest := []) rfl (by decide) dX4_addLine_15 (bc' := 0) (bs' := 0) (Nat.le_refl _) (Nat.le_refl _) (fun r_15 n_15 α_15 K_15 hx_15 hp_15 => ?_)
    obtain ⟨rfl, rfl, rfl, hr_15⟩ := hp_15
    refine y_to (st' := [.int (iI r_15)]) rfl rfl rfl ?_
    refine y_iret hE rfl rfl hQ dX4_addLine_18 Ext.rf ?_
    refine ⟨rfl, rfl, ?_⟩
    unfold oAddLine
    (repeat (first | rw [if_pos (by omega)] | rw [if_neg (by omega)]))
    exact ⟨(MRep.t (MRep.t hM 25 (by decide) 0) 25 (by decide) 1), (KO.up (KO.up KO.rf (by unfold MK; decide)) (by unfold MK; decide)), by simp [up3], by first | rfl | (dsimp only; omega)⟩
/-- an event's insertion: at the place 5 * c + k, from which those above stand free -/
def evS (S : SS) (c t id : Int) : Nat → SS
  | 0 => up2 (up2 S 6 (5 * c) t) 7 (5 * c) id
  | k + 1 => if S 6 (5 * c + k) > t then evS (up2 (up2 S 6 (5 * c + k + 1) (S 6 (5 * c + k))) 7 (5 * c + k + 1) (S 7 (5 * c + k))) c t id k else up2 (up2 S 6 (5 * c + k + 1) t) 7 (5 * c + k + 1) id
theorem evS_p {S : SS} {c t id a : Int} (h : 5 * c < a) (hg : S 6 (a - 1) > t) : evS S c t id (a - 5 * c).toNat = evS (up2 (up2 S 6 a (S 6 (a - 1))) 7 a (S 7 (a - 1))) c t id (a - 1 - 5 * c).toNat := by
  obtain ⟨k, rfl⟩ : ∃ k : Nat, a = 5 * c + k + 1 := ⟨(a - 5 * c - 1).toNat, by omega⟩
  rw [show (5 * c + (k : Int) + 1 - 5 * c).toNat = k + 1 by omega, show (5 * c + (k : Int) + 1 - 1 - 5 * c).toNat = k by omega, show 5 * c + (k : Int) + 1 - 1 = 5 * c + k by omega] at *
  rw [evS, if_pos hg]
theorem evS_z {S : SS} {c t id a : Int} (h : 5 * c ≤ a) (hg : 5 * c < a → ¬ S 6 (a - 1) > t) : evS S c t id (a - 5 * c).toNat = up2 (up2 S 6 a t) 7 a id := by
  by_cases e : a = 5 * c
  · subst e
    rw [show (5 * c - 5 * c).toNat = 0 by omega, evS]
  · obtain ⟨k, rfl⟩ : ∃ k : Nat, a = 5 * c + k + 1 := ⟨(a - 5 * c - 1).toNat, by omega⟩
    have hg2 := hg (by omega)
    rw [show (5 * c + (k : Int) + 1 - 5 * c).toNat = k + 1 by omega]
    rw [show 5 * c + (k : Int) + 1 - 1 = 5 * c + k by omega] at hg2
    rw [evS, if_neg hg2]
def oAddEvent (S : SS) (c t id : Int) : Int × Int × SS := if ¬ (0 ≤ c ∧ c < S 8 0) then (1, 0, S) else if ¬ (0 ≤ t ∧ t ≤ S 4 c - 1 ∧ 0 ≤ id ∧ id ≤ 99) then (2, 0, S) else if S 5 c = 5 then (3, 0, S) else (0, S 5 c + 1, up2 (evS S c t id (S 5 c).toNat) 5 c (S 5 c + 1))
set_option maxHeartbeats 4000000 in
set_option maxRecDepth 100000 in
theorem m_X4_addEvent {w : KW} {n : KN} {α : KA} {K : KS} (S : SS) (c t id : Int) (h40 : (0 : Int) ≤ 0 ∧ 0 < n 4) (hM : MRep S n K) (hW : WFs S) (hv : -2147483648 ≤ c ∧ c ≤ 2147483647) (ht : -2147483648 ≤ t ∧ t ≤ 2147483647) (hid : -2147483648 ≤ id ∧ id ≤ 2147483647) : KM w yX4_addEvent cX4_addEvent 5 (some (.int)) { frames := 2, cells := 0, slots := 0, locals := 46 } (0, 0) [.ref (α 4 0), .int (iI c), .int (iI t), .int (iI id)] n α K (fun r n' α' K' => n = n' ∧ α = α' ∧ (MRep (oAddEvent S c t id).2.2 n K' ∧ KO K K' MK ∧ K' 4 0 25 = (oAddEvent S c t id).1 ∧ r = (oAddEvent S c t id).2.1)) := by
  refine y_start (by decide) (Nat.le_of_ble_eq_true rfl) (fun x hE hQ => ?_)
  have hw := hQ.2
  subst hw
  have hE : YE x cX4_addEvent RX4 (some (.int)) "addEvent" 5 { frames := 2, cells := 0, slots := 0, locals := 46 } := hE
  refine y_wk (fun hWK => ?_)
  have hn0 := hWK.1
  refine y_bud (bc' := 0) (bs' := 0) (Nat.le_refl _) (Nat.le_refl _) ?_
  refine y_to (lv' := [(0, .ref (α 4 0)), (1, .int (iI c)), (2, .int (iI t)), (3, .int (iI id))]) (st' := []) rfl rfl rfl ?_
  have wpar := hW.par
  have wclips := hW.clips
  have wnodes := hW.nodes
  have wsts := hW.sts
  have wtrs := hW.trs
  have wthr := hW.thr
  have wtxt := hW.txt
  refine y_aload_n hE rfl 0 rfl dX4_addEvent_0 ?_
  refine y_iconst hE dX4_addEvent_1 ?_
  refine pX4_94 hE h40 dX4_addEvent_2 ?_
  refine y_aload_n hE rfl 0 rfl dX4_addEvent_5 ?_
  refine y_iload_n hE rfl 1 rfl dX4_addEvent_6 ?_
  refine y_callV hE (m_X4_isClip S c h40 (MRep.t hM 25 (by decide) 0) (by omega) (by omega)) (lw_V q2898 q2900 qs55 q133 q2901) (nA := 1) (by decide +kernel) rfl ⟨Nat.le_of_ble_eq_true rfl, Nat.le_of_ble_eq_true rfl⟩ (hdd := rfl) (hcc := rfl) (hq := rfl) (hi := h40) (rest := []) rfl (by decide) dX4_addEvent_7 (bc' := 0) (bs' := 0) (Nat.le_refl _) (Nat.le_refl _) (fun r_7 n_7 α_7 K_7 hx_7 hp_7 => ?_)
  obtain ⟨rfl, rfl, rfl, hr_7⟩ := hp_7
  refine y_to (st' := [.int (iI r_7)]) rfl rfl rfl ?_
  refine y_if_ne hE 19 (by decide) (by omega) dX4_addEvent_10 (fun c_10 => ?_) (fun c_10 => ?_)
  · have wl := hW.len c (by omega) (by omega)
    have we := hW.evs c (by omega) (by omega)
    refine y_iload_n hE rfl 2 rfl dX4_addEvent_19 ?_
    refine y_i2l hE (by omega) dX4_addEvent_20 ?_
    refine y_lconst hE 0 (by decide) dX4_addEvent_21 ?_
    refine y_aload_n hE rfl 0 rfl dX4_addEvent_22 ?_
    refine gX4_20r (z := 0) hE h40 (MObj.r hM.1 4 (by decide)) (by omega) dX4_addEvent_23 (fun hl_23 => ?_)
    refine y_iload_n hE rfl 1 rfl dX4_addEvent_26 ?_
    refine y_iald hE rfl hl_23 (by have hL : (up3 K 4 0 25 0) 104 0 (-1) = 12 := (MObj.l hM.1 4 (by decide)); omega) dX4_addEvent_27 ?_
    refine y_to (st' := [.int (iI (S 4 c)), .long (iL 0), .long (iL t)]) rfl rfl (by rw [show (up3 K 4 0 25 0) 104 0 c = S 4 c from (MRep.ra hM 4 rfl (by omega) (by first | omega | (show _ < (12 : Int); omega)))]) ?_
    refine y_iconst hE dX4_addEvent_28 ?_
    refine y_isub hE dX4_addEvent_29 ?_
    refine y_i2l hE (by omega) dX4_addEvent_30 ?_
    refine y_callS hE (m_X4_in t 0 ((S 4 c) - 1) (by omega) (by omega) (by omega)) (lw_S q2868 q2869 q133 q2870) (nA := 3) (by decide +kernel) rfl ⟨Nat.le_of_ble_eq_true rfl, Nat.le_of_ble_eq_true rfl⟩ (rest := []) rfl (by decide) dX4_addEvent_31 (bc' := 0) (bs' := 0) (Nat.le_refl _) (Nat.le_refl _) (fun r_31 n_31 α_31 K_31 hx_31 hp_31 => ?_)
    obtain ⟨rfl, rfl, rfl, hr_31⟩ := hp_31
    refine y_to (st' := [.int (iI r_31)]) rfl rfl rfl ?_
    refine y_if_eq hE 49 (by decide) (by omega) dX4_addEvent_34 (fun c_34 => ?_) (fun c_34 => ?_)
    · refine y_aload_n hE rfl 0 rfl dX4_addEvent_49 ?_
      refine y_iconst hE dX4_addEvent_50 ?_
      refine y_callV hE (m_X4_fails 2 h40) (lw_V q2871 q2873 qs53 q133 q2874) (nA := 1) (by decide +kernel) rfl ⟨Nat.le_of_ble_eq_true rfl, Nat.le_of_ble_eq_true rfl⟩ (hdd := rfl) (hcc := rfl) (hq := rfl) (hi := h40) (rest := []) rfl (by decide) dX4_addEvent_51 (bc' := 0) (bs' := 0) (Nat.le_refl _) (Nat.le_refl _) (fun r_51 n_51 α_51 K_51 hx_51 hp_51 => ?_)
      obtain ⟨rfl, rfl, rfl, hr_51⟩ := hp_51
      refine y_to (st' := [.int (iI r_51)]) rfl rfl rfl ?_
      refine y_iret hE rfl rfl hQ dX4_addEvent_54 Ext.rf ?_
      refine ⟨rfl, rfl, ?_⟩
      unfold oAddEvent
      (repeat (first | rw [if_pos (by omega)] | rw [if_neg (by omega)]))
      exact ⟨(MRep.t (MRep.t hM 25 (by decide) 0) 25 (by decide) 2), (KO.up (KO.up KO.rf (by unfold MK; decide)) (by unfold MK; decide)), by simp [up3], by first | rfl | (dsimp only; omega)⟩
    · refine y_iload_n hE rfl 3 rfl dX4_addEvent_37 ?_
      refine y_i2l hE (by omega) dX4_addEvent_38 ?_
      refine y_lconst hE 0 (by decide) dX4_addEvent_39 ?_
      refine y_ldc2 hE 99 (v := 99) (by decide) q2902 dX4_addEvent_40 ?_
      refine y_callS hE (m_X4_in id 0 99 (by omega) (by omega) (by omega)) (lw_S q2868 q2869 q133 q2870) (nA := 3) (by decide +kernel) rfl ⟨Nat.le_of_ble_eq_true rfl, Nat.le_of_ble_eq_true rfl⟩ (rest := []) rfl (by decide) dX4_addEvent_43 (bc' := 0) (bs' := 0) (Nat.le_refl _) (Nat.le_refl _) (fun r_43 n_43 α_43 K_43 hx_43 hp_43 => ?_)
      obtain ⟨rfl, rfl, rfl, hr_43⟩ := hp_43
      refine y_to (st' := [.int (iI r_43)]) rfl rfl rfl ?_
      refine y_if_ne hE 55 (by decide) (by omega) dX4_addEvent_46 (fun c_46 => ?_) (fun c_46 => ?_)
      · refine y_aload_n hE rfl 0 rfl dX4_addEvent_55 ?_
        refine gX4_23r (z := 0) hE h40 (MObj.r hM.1 5 (by decide)) (by omega) dX4_addEvent_56 (fun hl_56 => ?_)
        refine y_iload_n hE rfl 1 rfl dX4_addEvent_59 ?_
        refine y_iald hE rfl hl_56 (by have hL : (up3 K 4 0 25 0) 105 0 (-1) = 12 := (MObj.l hM.1 5 (by decide)); omega) dX4_addEvent_60 ?_
        refine y_to (st' := [.int (iI (S 5 c))]) rfl rfl (by rw [show (up3 K 4 0 25 0) 105 0 c = S 5 c from (MRep.ra hM 5 rfl (by omega) (by first | omega | (show _ < (12 : Int); omega)))]) ?_
        refine y_iconst hE dX4_addEvent_61 ?_
        refine y_icmp_ne hE 71 (by decide) (by omega) (by omega) dX4_addEvent_62 (fun c_62 => ?_) (fun c_62 => ?_)
        · refine y_iconst hE dX4_addEvent_71 ?_
          refine y_iload_n hE rfl 1 rfl dX4_addEvent_72 ?_
          refine y_imul hE dX4_addEvent_73 ?_
          refine y_aload_n hE rfl 0 rfl dX4_addEvent_74 ?_
          refine gX4_23r (z := 0) hE h40 (MObj.r hM.1 5 (by decide)) (by omega) dX4_addEvent_75 (fun hl_75 => ?_)
          refine y_iload_n hE rfl 1 rfl dX4_addEvent_78 ?_
          refine y_iald hE rfl hl_75 (by have hL : (up3 K 4 0 25 0) 105 0 (-1) = 12 := (MObj.l hM.1 5 (by decide)); omega) dX4_addEvent_79 ?_
          refine y_to (st' := [.int (iI (S 5 c)), .int (iI (5 * c))]) rfl rfl (by rw [show (up3 K 4 0 25 0) 105 0 c = S 5 c from (MRep.ra hM 5 rfl (by omega) (by first | omega | (show _ < (12 : Int); omega)))]) ?_
          refine y_iadd hE dX4_addEvent_80 ?_
          refine y_istore hE [(4, .int (iI ((5 * c) + (S 5 c)))), (0, .ref (α 4 0)), (1, .int (iI c)), (2, .int (iI t)), (3, .int (iI id))] (by decide) rfl dX4_addEvent_81 ?_
          have L83 : ∀ (fuel : Nat) (K2 : KS) (S2 : SS) (a : Int), (MRep S2 n K2) → (KO K K2 MK) → (5 * c ≤ a ∧ a ≤ 5 * c + S 5 c) → (S2 5 = S 5) → (K2 4 0 25 = 0) → (evS S c t id (S 5 c).toNat = evS S2 c t id (a - 5 * c).toNat) → (∀ j, 5 * c ≤ j → j < a → 0 ≤ S2 6 j ∧ S2 6 j ≤ 500) → (a).toNat < fuel → Y x n α K2 0 0 83 [(4, .int (iI a)), (0, .ref (α 4 0)), (1, .int (iI c)), (2, .int (iI t)), (3, .int (iI id))] [] := by
            intro fuel83
            induction fuel83 with
            | zero => intro K2 S2 a hM2 hk2 ha h5 h25 hev hte hfu83; exact absurd hfu83 (Nat.not_lt_zero _)
            | succ fuel83 ih83 =>
              intro K2 S2 a hM2 hk2 ha h5 h25 hev hte hfu83
              refine y_iload hE 0 rfl dX4_addEvent_83 ?_
              refine y_iconst hE dX4_addEvent_85 ?_
              refine y_iload_n hE rfl 2 rfl dX4_addEvent_86 ?_
              refine y_imul hE dX4_addEvent_87 ?_
              refine y_icmp_le hE 142 (by decide) (by omega) (by omega) dX4_addEvent_88 (fun c_88 => ?_) (fun c_88 => ?_)
              · refine y_aload_n hE rfl 1 rfl dX4_addEvent_142 ?_
                refine gX4_26r (z := 0) hE h40 (MObj.r hM2.1 6 (by decide)) (by omega) dX4_addEvent_143 (fun hl_143 => ?_)
                refine y_iload hE 0 rfl dX4_addEvent_146 ?_
                refine y_iload_n hE rfl 3 rfl dX4_addEvent_148 ?_
                refine y_iast hE (by unfold kC; decide) rfl (by simp [kTag]) hl_143 (by have hL : K2 106 0 (-1) = 60 := (MObj.l hM2.1 6 (by decide)); omega) dX4_addEvent_149 ?_
                refine y_aload_n hE rfl 1 rfl dX4_addEvent_150 ?_
                refine gX4_29r (z := 0) hE h40 (MObj.r hM2.1 7 (by decide)) (by omega) dX4_addEvent_151 (fun hl_151 => ?_)
                refine y_iload hE 0 rfl dX4_addEvent_154 ?_
                refine y_iload_n hE rfl 4 rfl dX4_addEvent_156 ?_
                refine y_iast hE (by unfold kC; decide) rfl (by simp [kTag]) hl_151 (by have hL : (up3 K2 106 0 a t) 107 0 (-1) = 60 := (MObj.l hM2.1 7 (by decide)); omega) dX4_addEvent_157 ?_
                refine y_aload_n hE rfl 1 rfl dX4_addEvent_158 ?_
                refine gX4_23r (z := 0) hE h40 (MObj.r hM2.1 5 (by decide)) (by omega) dX4_addEvent_159 (fun hl_159 => ?_)
                refine y_iload_n hE rfl 2 rfl dX4_addEvent_162 ?_
                refine y_dup2 hE rfl rfl dX4_addEvent_163 ?_
                refine y_iald hE rfl hl_159 (by have hL : (up3 (up3 K2 106 0 a t) 107 0 a id) 105 0 (-1) = 12 := (MObj.l hM2.1 5 (by decide)); omega) dX4_addEvent_164 ?_
                refine y_to (st' := [.int (iI (S2 5 c)), .int (iI c), .ref (α 105 0)]) rfl rfl (by rw [show (up3 (up3 K2 106 0 a t) 107 0 a id) 105 0 c = S2 5 c from (MRep.ra hM2 5 rfl (by omega) (by first | omega | (show _ < (12 : Int); omega)))]) ?_
                refine y_iconst hE dX4_addEvent_165 ?_
                refine y_iadd hE dX4_addEvent_166 ?_
                refine y_iast hE (by unfold kC; decide) rfl (by simp [kTag]) hl_159 (by have hL : (up3 (up3 K2 106 0 a t) 107 0 a id) 105 0 (-1) = 12 := (MObj.l hM2.1 5 (by decide)); omega) dX4_addEvent_167 ?_
                refine y_aload_n hE rfl 1 rfl dX4_addEvent_168 ?_
                refine gX4_23r (z := 0) hE h40 (MObj.r hM2.1 5 (by decide)) (by omega) dX4_addEvent_169 (fun hl_169 => ?_)
                refine y_iload_n hE rfl 2 rfl dX4_addEvent_172 ?_
                refine y_iald hE rfl hl_169 (by have hL : (up3 (up3 (up3 K2 106 0 a t) 107 0 a id) 105 0 c ((S2 5 c) + 1)) 105 0 (-1) = 12 := (MObj.l (MRep.a (MRep.a (MRep.a hM2 6 rfl (j := a) (by omega) t) 7 rfl (j := a) (by omega) id) 5 rfl (j := c) (by omega) ((S2 5 c) + 1)).1 5 (by decide)); omega) dX4_addEvent_173 ?_
                refine y_to (st' := [.int (iI ((S2 5 c) + 1))]) rfl rfl (by rw [show (up3 (up3 (up3 K2 106 0 a t) 107 0 a id) 105 0 c ((S2 5 c) + 1)) 105 0 c = (S2 5 c) + 1 from (by simp [up3, upr])]) ?_
                refine y_iret hE rfl rfl hQ dX4_addEvent_174 Ext.rf ?_
                refine ⟨rfl, rfl, ?_⟩
                unfold oAddEvent
                (repeat (first | rw [if_pos (by omega)] | rw [if_neg (by omega)]))
                rw [hev, evS_z (by omega) (by intro _; omega), ← h5]
                exact ⟨(MRep.a (MRep.a (MRep.a hM2 6 rfl (j := a) (by omega) t) 7 rfl (j := a) (by omega) id) 5 rfl (j := c) (by omega) ((S2 5 c) + 1)), (KO.up (KO.up (KO.up hk2 (by unfold MK; decide)) (by unfold MK; decide)) (by unfold MK; decide)), by simp [up3, h25], rfl⟩
              · refine y_aload_n hE rfl 1 rfl dX4_addEvent_91 ?_
                refine gX4_26r (z := 0) hE h40 (MObj.r hM2.1 6 (by decide)) (by omega) dX4_addEvent_92 (fun hl_92 => ?_)
                refine y_iload hE 0 rfl dX4_addEvent_95 ?_
                refine y_iconst hE dX4_addEvent_97 ?_
                refine y_isub hE dX4_addEvent_98 ?_
                refine y_iald hE rfl hl_92 (by have hL : K2 106 0 (-1) = 60 := (MObj.l hM2.1 6 (by decide)); omega) dX4_addEvent_99 ?_
                refine y_to (st' := [.int (iI (S2 6 (a - 1)))]) rfl rfl (by rw [show K2 106 0 (a - 1) = S2 6 (a - 1) from (MRep.ra hM2 6 rfl (by omega) (by first | omega | (show _ < (60 : Int); omega)))]) ?_
                refine y_iload_n hE rfl 3 rfl dX4_addEvent_100 ?_
                refine y_icmp_le hE 142 (by decide) (by have := hte (a - 1) (by omega) (by omega); omega) (by omega) dX4_addEvent_101 (fun c_101 => ?_) (fun c_101 => ?_)
                · have x_g := c_101
                  refine y_aload_n hE rfl 1 rfl dX4_addEvent_142 ?_
                  refine gX4_26r (z := 0) hE h40 (MObj.r hM2.1 6 (by decide)) (by omega) dX4_addEvent_143 (fun hl_143_2 => ?_)
                  refine y_iload hE 0 rfl dX4_addEvent_146 ?_
                  refine y_iload_n hE rfl 3 rfl dX4_addEvent_148 ?_
                  refine y_iast hE (by unfold kC; decide) rfl (by simp [kTag]) hl_143_2 (by have hL : K2 106 0 (-1) = 60 := (MObj.l hM2.1 6 (by decide)); omega) dX4_addEvent_149 ?_
                  refine y_aload_n hE rfl 1 rfl dX4_addEvent_150 ?_
                  refine gX4_29r (z := 0) hE h40 (MObj.r hM2.1 7 (by decide)) (by omega) dX4_addEvent_151 (fun hl_151_2 => ?_)
                  refine y_iload hE 0 rfl dX4_addEvent_154 ?_
                  refine y_iload_n hE rfl 4 rfl dX4_addEvent_156 ?_
                  refine y_iast hE (by unfold kC; decide) rfl (by simp [kTag]) hl_151_2 (by have hL : (up3 K2 106 0 a t) 107 0 (-1) = 60 := (MObj.l hM2.1 7 (by decide)); omega) dX4_addEvent_157 ?_
                  refine y_aload_n hE rfl 1 rfl dX4_addEvent_158 ?_
                  refine gX4_23r (z := 0) hE h40 (MObj.r hM2.1 5 (by decide)) (by omega) dX4_addEvent_159 (fun hl_159_2 => ?_)
                  refine y_iload_n hE rfl 2 rfl dX4_addEvent_162 ?_
                  refine y_dup2 hE rfl rfl dX4_addEvent_163 ?_
                  refine y_iald hE rfl hl_159_2 (by have hL : (up3 (up3 K2 106 0 a t) 107 0 a id) 105 0 (-1) = 12 := (MObj.l hM2.1 5 (by decide)); omega) dX4_addEvent_164 ?_
                  refine y_to (st' := [.int (iI (S2 5 c)), .int (iI c), .ref (α 105 0)]) rfl rfl (by rw [show (up3 (up3 K2 106 0 a t) 107 0 a id) 105 0 c = S2 5 c from (MRep.ra hM2 5 rfl (by omega) (by first | omega | (show _ < (12 : Int); omega)))]) ?_
                  refine y_iconst hE dX4_addEvent_165 ?_
                  refine y_iadd hE dX4_addEvent_166 ?_
                  refine y_iast hE (by unfold kC; decide) rfl (by simp [kTag]) hl_159_2 (by have hL : (up3 (up3 K2 106 0 a t) 107 0 a id) 105 0 (-1) = 12 := (MObj.l hM2.1 5 (by decide)); omega) dX4_addEvent_167 ?_
                  refine y_aload_n hE rfl 1 rfl dX4_addEvent_168 ?_
                  refine gX4_23r (z := 0) hE h40 (MObj.r hM2.1 5 (by decide)) (by omega) dX4_addEvent_169 (fun hl_169_2 => ?_)
                  refine y_iload_n hE rfl 2 rfl dX4_addEvent_172 ?_
                  refine y_iald hE rfl hl_169_2 (by have hL : (up3 (up3 (up3 K2 106 0 a t) 107 0 a id) 105 0 c ((S2 5 c) + 1)) 105 0 (-1) = 12 := (MObj.l (MRep.a (MRep.a (MRep.a hM2 6 rfl (j := a) (by omega) t) 7 rfl (j := a) (by omega) id) 5 rfl (j := c) (by omega) ((S2 5 c) + 1)).1 5 (by decide)); omega) dX4_addEvent_173 ?_
                  refine y_to (st' := [.int (iI ((S2 5 c) + 1))]) rfl rfl (by rw [show (up3 (up3 (up3 K2 106 0 a t) 107 0 a id) 105 0 c ((S2 5 c) + 1)) 105 0 c = (S2 5 c) + 1 from (by simp [up3, upr])]) ?_
                  refine y_iret hE rfl rfl hQ dX4_addEvent_174 Ext.rf ?_
                  refine ⟨rfl, rfl, ?_⟩
                  unfold oAddEvent
                  (repeat (first | rw [if_pos (by omega)] | rw [if_neg (by omega)]))
                  rw [hev, evS_z (by omega) (by intro _; omega), ← h5]
                  exact ⟨(MRep.a (MRep.a (MRep.a hM2 6 rfl (j := a) (by omega) t) 7 rfl (j := a) (by omega) id) 5 rfl (j := c) (by omega) ((S2 5 c) + 1)), (KO.up (KO.up (KO.up hk2 (by unfold MK; decide)) (by unfold MK; decide)) (by unfold MK; decide)), by simp [up3, h25], rfl⟩
                · have x_g := c_101
                  refine y_aload_n hE rfl 1 rfl dX4_addEvent_104 ?_
                  refine gX4_26r (z := 0) hE h40 (MObj.r hM2.1 6 (by decide)) (by omega) dX4_addEvent_105 (fun hl_105 => ?_)
                  refine y_iload hE 0 rfl dX4_addEvent_108 ?_
                  refine y_aload_n hE rfl 1 rfl dX4_addEvent_110 ?_
                  refine gX4_26r (z := 0) hE h40 (MObj.r hM2.1 6 (by decide)) (by omega) dX4_addEvent_111 (fun hl_111 => ?_)
                  refine y_iload hE 0 rfl dX4_addEvent_114 ?_
                  refine y_iconst hE dX4_addEvent_116 ?_
                  refine y_isub hE dX4_addEvent_117 ?_
                  refine y_iald hE rfl hl_111 (by have hL : K2 106 0 (-1) = 60 := (MObj.l hM2.1 6 (by decide)); omega) dX4_addEvent_118 ?_
                  refine y_to (st' := [.int (iI (S2 6 (a - 1))), .int (iI a), .ref (α 106 0)]) rfl rfl (by rw [show K2 106 0 (a - 1) = S2 6 (a - 1) from (MRep.ra hM2 6 rfl (by omega) (by first | omega | (show _ < (60 : Int); omega)))]) ?_
                  refine y_iast hE (by unfold kC; decide) rfl (by simp [kTag]) hl_105 (by have hL : K2 106 0 (-1) = 60 := (MObj.l hM2.1 6 (by decide)); omega) dX4_addEvent_119 ?_
                  refine y_aload_n hE rfl 1 rfl dX4_addEvent_120 ?_
                  refine gX4_29r (z := 0) hE h40 (MObj.r hM2.1 7 (by decide)) (by omega) dX4_addEvent_121 (fun hl_121 => ?_)
                  refine y_iload hE 0 rfl dX4_addEvent_124 ?_
                  refine y_aload_n hE rfl 1 rfl dX4_addEvent_126 ?_
                  refine gX4_29r (z := 0) hE h40 (MObj.r hM2.1 7 (by decide)) (by omega) dX4_addEvent_127 (fun hl_127 => ?_)
                  refine y_iload hE 0 rfl dX4_addEvent_130 ?_
                  refine y_iconst hE dX4_addEvent_132 ?_
                  refine y_isub hE dX4_addEvent_133 ?_
                  refine y_iald hE rfl hl_127 (by have hL : (up3 K2 106 0 a (S2 6 (a - 1))) 107 0 (-1) = 60 := (MObj.l hM2.1 7 (by decide)); omega) dX4_addEvent_134 ?_
                  refine y_to (st' := [.int (iI (S2 7 (a - 1))), .int (iI a), .ref (α 107 0)]) rfl rfl (by rw [show (up3 K2 106 0 a (S2 6 (a - 1))) 107 0 (a - 1) = S2 7 (a - 1) from (MRep.ra hM2 7 rfl (by omega) (by first | omega | (show _ < (60 : Int); omega)))]) ?_
                  refine y_iast hE (by unfold kC; decide) rfl (by simp [kTag]) hl_121 (by have hL : (up3 K2 106 0 a (S2 6 (a - 1))) 107 0 (-1) = 60 := (MObj.l hM2.1 7 (by decide)); omega) dX4_addEvent_135 ?_
                  refine y_iinc hE 0 rfl [(4, .int (iI (a + (-1)))), (0, .ref (α 4 0)), (1, .int (iI c)), (2, .int (iI t)), (3, .int (iI id))] (by decide) rfl dX4_addEvent_136 ?_
                  refine y_goto hE 83 (by decide) dX4_addEvent_139 ?_
                  exact ih83 (up3 (up3 K2 106 0 a (S2 6 (a - 1))) 107 0 a (S2 7 (a - 1))) (up2 (up2 S2 6 a (S2 6 (a - 1))) 7 a (S2 7 (a - 1))) (a + (-1)) ((MRep.a (MRep.a hM2 6 rfl (j := a) (by omega) (S2 6 (a - 1))) 7 rfl (j := a) (by omega) (S2 7 (a - 1)))) ((KO.up (KO.up hk2 (by unfold MK; decide)) (by unfold MK; decide))) (by omega) (by rw [← h5]; funext z; simp [up2]) (by simp [up3, h25]) (hev.trans (evS_p (by omega) (by omega))) (fun j j0 j1 => by rw [up2_f _ _ _ _ (by decide), up2_j _ _ _ _ (by omega)]; exact hte j j0 (by omega)) (by omega)
          exact L83 _ (up3 K 4 0 25 0) S ((5 * c) + (S 5 c)) ((MRep.t hM 25 (by decide) 0)) ((KO.up KO.rf (by unfold MK; decide))) (by omega) (rfl) (by simp [up3]) (by rw [show (5 * c) + (S 5 c) - 5 * c = S 5 c by omega]) (fun j j0 j1 => by have h := hW.evt c (j - 5 * c) (by omega) (by omega) (by omega) (by omega); rw [show 5 * c + (j - 5 * c) = j by omega] at h; omega) (Nat.lt_succ_self _)
        · refine y_aload_n hE rfl 0 rfl dX4_addEvent_65 ?_
          refine y_iconst hE dX4_addEvent_66 ?_
          refine y_callV hE (m_X4_fails 3 h40) (lw_V q2871 q2873 qs53 q133 q2874) (nA := 1) (by decide +kernel) rfl ⟨Nat.le_of_ble_eq_true rfl, Nat.le_of_ble_eq_true rfl⟩ (hdd := rfl) (hcc := rfl) (hq := rfl) (hi := h40) (rest := []) rfl (by decide) dX4_addEvent_67 (bc' := 0) (bs' := 0) (Nat.le_refl _) (Nat.le_refl _) (fun r_67 n_67 α_67 K_67 hx_67 hp_67 => ?_)
          obtain ⟨rfl, rfl, rfl, hr_67⟩ := hp_67
          refine y_to (st' := [.int (iI r_67)]) rfl rfl rfl ?_
          refine y_iret hE rfl rfl hQ dX4_addEvent_70 Ext.rf ?_
          refine ⟨rfl, rfl, ?_⟩
          unfold oAddEvent
          (repeat (first | rw [if_pos (by omega)] | rw [if_neg (by omega)]))
          exact ⟨(MRep.t (MRep.t hM 25 (by decide) 0) 25 (by decide) 3), (KO.up (KO.up KO.rf (by unfold MK; decide)) (by unfold MK; decide)), by simp [up3], by first | rfl | (dsimp only; omega)⟩
      · refine y_aload_n hE rfl 0 rfl dX4_addEvent_49 ?_
        refine y_iconst hE dX4_addEvent_50 ?_
        refine y_callV hE (m_X4_fails 2 h40) (lw_V q2871 q2873 qs53 q133 q2874) (nA := 1) (by decide +kernel) rfl ⟨Nat.le_of_ble_eq_true rfl, Nat.le_of_ble_eq_true rfl⟩ (hdd := rfl) (hcc := rfl) (hq := rfl) (hi := h40) (rest := []) rfl (by decide) dX4_addEvent_51 (bc' := 0) (bs' := 0) (Nat.le_refl _) (Nat.le_refl _) (fun r_51_2 n_51_2 α_51_2 K_51_2 hx_51_2 hp_51_2 => ?_)
        obtain ⟨rfl, rfl, rfl, hr_51_2⟩ := hp_51_2
        refine y_to (st' := [.int (iI r_51_2)]) rfl rfl rfl ?_
        refine y_iret hE rfl rfl hQ dX4_addEvent_54 Ext.rf ?_
        refine ⟨rfl, rfl, ?_⟩
        unfold oAddEvent
        (repeat (first | rw [if_pos (by omega)] | rw [if_neg (by omega)]))
        exact ⟨(MRep.t (MRep.t hM 25 (by decide) 0) 25 (by decide) 2), (KO.up (KO.up KO.rf (by unfold MK; decide)) (by unfold MK; decide)), by simp [up3], by first | rfl | (dsimp only; omega)⟩
  · refine y_aload_n hE rfl 0 rfl dX4_addEvent_13 ?_
    refine y_iconst hE dX4_addEvent_14 ?_
    refine y_callV hE (m_X4_fails 1 h40) (lw_V q2871 q2873 qs53 q133 q2874) (nA := 1) (by decide +kernel) rfl ⟨Nat.le_of_ble_eq_true rfl, Nat.le_of_ble_eq_true rfl⟩ (hdd := rfl) (hcc := rfl) (hq := rfl) (hi := h40) (rest := []) rfl (by decide) dX4_addEvent_15 (bc' := 0) (bs' := 0) (Nat.le_refl _) (Nat.le_refl _) (fun r_15 n_15 α_15 K_15 hx_15 hp_15 => ?_)
    obtain ⟨rfl, rfl, rfl, hr_15⟩ := hp_15
    refine y_to (st' := [.int (iI r_15)]) rfl rfl rfl ?_
    refine y_iret hE rfl rfl hQ dX4_addEvent_18 Ext.rf ?_
    refine ⟨rfl, rfl, ?_⟩
    unfold oAddEvent
    (repeat (first | rw [if_pos (by omega)] | rw [if_neg (by omega)]))
    exact ⟨(MRep.t (MRep.t hM 25 (by decide) 0) 25 (by decide) 1), (KO.up (KO.up KO.rf (by unfold MK; decide)) (by unfold MK; decide)), by simp [up3], by first | rfl | (dsimp only; omega)⟩
/-- depths of the nodes if ln had one more child nd: of a node over its first k children; of a node; of all below; the greatest -/
def dch (S : SS) (D : Int → Int) (i : Int) : Nat → Int
  | 0 => 1
  | k + 1 => max (dch S D i k) (1 + D (S 12 (5 * i + k)))
def dst (S : SS) (ln nd : Int) (D : Int → Int) (i : Int) : Int := if i = ln ∧ 1 + D nd > dch S D i (S 11 i).toNat then 1 + D nd else dch S D i (S 11 i).toNat
def dtab (S : SS) (ln nd : Int) : Nat → Int → Int
  | 0 => fun _ => 0
  | k + 1 => fun j => if j = k then dst S ln nd (dtab S ln nd k) k else dtab S ln nd k j
def dmx (S : SS) (ln nd : Int) : Nat → Int
  | 0 => 0
  | k + 1 => max (dmx S ln nd k) (dst S ln nd (dtab S ln nd k) k)
theorem dch_s {S : SS} {D : Int → Int} {i k : Int} (h : 0 ≤ k) : dch S D i (k + 1).toNat = max (dch S D i k.toNat) (1 + D (S 12 (5 * i + k))) := by
  rw [show (k + 1).toNat = k.toNat + 1 by omega, dch, show ((k.toNat : Nat) : Int) = k by omega]
theorem dtab_s {S : SS} {ln nd i : Int} (h : 0 ≤ i) (j : Int) : dtab S ln nd (i + 1).toNat j = if j = i then dst S ln nd (dtab S ln nd i.toNat) i else dtab S ln nd i.toNat j := by
  rw [show (i + 1).toNat = i.toNat + 1 by omega, dtab, show ((i.toNat : Nat) : Int) = i by omega]
theorem dmx_s {S : SS} {ln nd i : Int} (h : 0 ≤ i) : dmx S ln nd (i + 1).toNat = max (dmx S ln nd i.toNat) (dst S ln nd (dtab S ln nd i.toNat) i) := by
  rw [show (i + 1).toNat = i.toNat + 1 by omega, dmx, show ((i.toNat : Nat) : Int) = i by omega]
set_option maxHeartbeats 4000000 in
set_option maxRecDepth 100000 in
theorem m_X4_greatestDepth {w : KW} {n : KN} {α : KA} {K : KS} (S : SS) (ln nd : Int) (h40 : (0 : Int) ≤ 0 ∧ 0 < n 4) (hM : MRep S n K) (hW : WFs S) (hln : 0 ≤ ln ∧ ln < S 14 0) (hnd : 0 ≤ nd ∧ nd < ln) : KM w yX4_greatestDepth cX4_greatestDepth 7 (some (.int)) { frames := 0, cells := 0, slots := 0, locals := 0 } (0, 0) [.ref (α 4 0), .int (iI ln), .int (iI nd)] n α K (fun r n' α' K' => n = n' ∧ α = α' ∧ MRep (S) n K' ∧ KO K K' (fun k _ => k = 126) ∧ (r = dmx S ln nd (S 14 0).toNat ∧ 0 ≤ r ∧ r ≤ 22)) := by
  refine y_start (by decide) (Nat.le_of_ble_eq_true rfl) (fun x hE hQ => ?_)
  have hw := hQ.2
  subst hw
  have hE : YE x cX4_greatestDepth RX4 (some (.int)) "greatestDepth" 7 { frames := 0, cells := 0, slots := 0, locals := 0 } := hE
  refine y_wk (fun hWK => ?_)
  have hn0 := hWK.1
  refine y_bud (bc' := 0) (bs' := 0) (Nat.le_refl _) (Nat.le_refl _) ?_
  refine y_to (lv' := [(0, .ref (α 4 0)), (1, .int (iI ln)), (2, .int (iI nd))]) (st' := []) rfl rfl rfl ?_
  have wpar := hW.par
  have wclips := hW.clips
  have wnodes := hW.nodes
  have wsts := hW.sts
  have wtrs := hW.trs
  have wthr := hW.thr
  have wtxt := hW.txt
  refine y_iconst hE dX4_greatestDepth_0 ?_
  refine y_istore_n hE rfl [(3, .int (iI 0)), (0, .ref (α 4 0)), (1, .int (iI ln)), (2, .int (iI nd))] (by decide) rfl dX4_greatestDepth_1 ?_
  refine y_iconst hE dX4_greatestDepth_2 ?_
  refine y_istore hE [(4, .int (iI 0)), (3, .int (iI 0)), (0, .ref (α 4 0)), (1, .int (iI ln)), (2, .int (iI nd))] (by decide) rfl dX4_greatestDepth_3 ?_
  have L5 : ∀ (fuel : Nat) (K2 : KS) (i m : Int), (MRep S n K2) → (KO K K2 (fun k _ => k = 126)) → (0 ≤ i ∧ i ≤ S 14 0) → (∀ j, 0 ≤ j → j < i → K2 126 0 j = dtab S ln nd i.toNat j) → (∀ j, 0 ≤ j → j < i → 1 ≤ dtab S ln nd i.toNat j ∧ dtab S ln nd i.toNat j ≤ j + 1) → (m = dmx S ln nd i.toNat) → (0 ≤ m ∧ m ≤ 22) → (S 14 0 - i).toNat < fuel → Y x n α K2 0 0 5 [(4, .int (iI i)), (3, .int (iI m)), (0, .ref (α 4 0)), (1, .int (iI ln)), (2, .int (iI nd))] [] := by
    intro fuel5
    induction fuel5 with
    | zero => intro K2 i m hM2 hk2 hi hT hB hm hm2 hfu5; exact absurd hfu5 (Nat.not_lt_zero _)
    | succ fuel5 ih5 =>
      intro K2 i m hM2 hk2 hi hT hB hm hm2 hfu5
      refine y_iload hE 0 rfl dX4_greatestDepth_5 ?_
      refine y_aload_n hE rfl 2 rfl dX4_greatestDepth_7 ?_
      refine gX4_128 (z := S 14 0) hE h40 (hM2.2.2.2.2.1) dX4_greatestDepth_8 ?_
      refine y_icmp_ge hE 173 (by decide) (by omega) (by omega) dX4_greatestDepth_11 (fun c_11 => ?_) (fun c_11 => ?_)
      · refine y_iload_n hE rfl 1 rfl dX4_greatestDepth_173 ?_
        exact y_iret hE rfl rfl hQ dX4_greatestDepth_174 Ext.rf ⟨rfl, rfl, hM2, hk2, by rw [show S 14 0 = i by omega]; exact hm, by omega, by omega⟩
      · have wn := hW.nod i (by omega) (by omega)
        obtain ⟨D, hD⟩ : ∃ z, z = dtab S ln nd i.toNat := ⟨_, rfl⟩
        rw [← hD] at hT hB
        refine y_aload_n hE rfl 2 rfl dX4_greatestDepth_14 ?_
        refine gX4_69r (z := 0) hE h40 (MObj.r hM2.1 26 (by decide)) (by omega) dX4_greatestDepth_15 (fun hl_15 => ?_)
        refine y_iload hE 0 rfl dX4_greatestDepth_18 ?_
        refine y_iconst hE dX4_greatestDepth_20 ?_
        refine y_iast hE (by unfold kC; decide) rfl (by simp [kTag]) hl_15 (by have hL : K2 126 0 (-1) = 20 := (MObj.l hM2.1 26 (by decide)); omega) dX4_greatestDepth_21 ?_
        refine y_iconst hE dX4_greatestDepth_22 ?_
        refine y_istore hE [(5, .int (iI 0)), (4, .int (iI i)), (3, .int (iI m)), (0, .ref (α 4 0)), (1, .int (iI ln)), (2, .int (iI nd))] (by decide) rfl dX4_greatestDepth_23 ?_
        have L25 : ∀ (fuel : Nat) (K3 : KS) (k d : Int), (MRep S n K3) → (KO K K3 (fun k _ => k = 126)) → (0 ≤ k ∧ k ≤ S 11 i) → (∀ j, 0 ≤ j → j < i → K3 126 0 j = D j) → (K3 126 0 i = d) → (d = dch S D i k.toNat) → (1 ≤ d ∧ d ≤ i + 1) → (S 11 i - k).toNat < fuel → Y x n α K3 0 0 25 [(5, .int (iI k)), (4, .int (iI i)), (3, .int (iI m)), (0, .ref (α 4 0)), (1, .int (iI ln)), (2, .int (iI nd))] [] := by
          intro fuel25
          induction fuel25 with
          | zero => intro K3 k d hM3 hk3 hk hD3 hdd hd2 hd3 hfu25; exact absurd hfu25 (Nat.not_lt_zero _)
          | succ fuel25 ih25 =>
            intro K3 k d hM3 hk3 hk hD3 hdd hd2 hd3 hfu25
            refine y_iload hE 0 rfl dX4_greatestDepth_25 ?_
            refine y_aload_n hE rfl 3 rfl dX4_greatestDepth_27 ?_
            refine gX4_38r (z := 0) hE h40 (MObj.r hM3.1 11 (by decide)) (by omega) dX4_greatestDepth_28 (fun hl_28 => ?_)
            refine y_iload hE 1 rfl dX4_greatestDepth_31 ?_
            refine y_iald hE rfl hl_28 (by have hL : K3 111 0 (-1) = 20 := (MObj.l hM3.1 11 (by decide)); omega) dX4_greatestDepth_33 ?_
            refine y_to (st' := [.int (iI (S 11 i)), .int (iI k)]) rfl rfl (by rw [show K3 111 0 i = S 11 i from (MRep.ra hM3 11 rfl (by omega) (by first | omega | (show _ < (20 : Int); omega)))]) ?_
            refine y_icmp_ge hE 95 (by decide) (by omega) (by omega) dX4_greatestDepth_34 (fun c_34 => ?_) (fun c_34 => ?_)
            · have hkk : k = S 11 i := by omega
              have hds : dst S ln nd D i = if i = ln ∧ 1 + D nd > d then 1 + D nd else d := by unfold dst; rw [← hkk, ← hd2]
              refine y_aload_n hE rfl 3 rfl dX4_greatestDepth_95 ?_
              refine gX4_69r (z := 0) hE h40 (MObj.r hM3.1 26 (by decide)) (by omega) dX4_greatestDepth_96 (fun hl_96 => ?_)
              refine y_iload hE 1 rfl dX4_greatestDepth_99 ?_
              refine y_iload hE 1 rfl dX4_greatestDepth_101 ?_
              refine y_iload_n hE rfl 4 rfl dX4_greatestDepth_103 ?_
              have J143 : ∀ (v : Int), (v = dst S ln nd D i) → (1 ≤ v ∧ v ≤ i + 1) → Y x n α K3 0 0 143 [(5, .int (iI k)), (4, .int (iI i)), (3, .int (iI m)), (0, .ref (α 4 0)), (1, .int (iI ln)), (2, .int (iI nd))] [.int (iI v), .int (iI i), .ref (α 126 0)] := by
                intro v hv hv2
                refine y_iast hE (by unfold kC; decide) rfl (by simp [kTag]) hl_96 (by have hL : K3 126 0 (-1) = 20 := (MObj.l hM3.1 26 (by decide)); omega) dX4_greatestDepth_143 ?_
                refine y_aload_n hE rfl 3 rfl dX4_greatestDepth_144 ?_
                refine gX4_69r (z := 0) hE h40 (MObj.r hM3.1 26 (by decide)) (by omega) dX4_greatestDepth_145 (fun hl_145 => ?_)
                refine y_iload hE 1 rfl dX4_greatestDepth_148 ?_
                refine y_iald hE rfl hl_145 (by have hL : (up3 K3 126 0 i v) 126 0 (-1) = 20 := (MObj.l (MRep.u hM3 26 (by decide) (j := i) (by omega) v).1 26 (by decide)); omega) dX4_greatestDepth_150 ?_
                refine y_to (st' := [.int (iI v)]) rfl rfl (by rw [show (up3 K3 126 0 i v) 126 0 i = v from (by simp [up3, upr])]) ?_
                refine y_iload_n hE rfl 2 rfl dX4_greatestDepth_151 ?_
                have J166 : ∀ (u : Int), (u = max m v) → Y x n α (up3 K3 126 0 i v) 0 0 166 [(5, .int (iI k)), (4, .int (iI i)), (3, .int (iI m)), (0, .ref (α 4 0)), (1, .int (iI ln)), (2, .int (iI nd))] [.int (iI u)] := by
                  intro u hu
                  refine y_istore_n hE rfl [(3, .int (iI u)), (5, .int (iI k)), (4, .int (iI i)), (0, .ref (α 4 0)), (1, .int (iI ln)), (2, .int (iI nd))] (by decide) rfl dX4_greatestDepth_166 ?_
                  refine y_iinc hE 2 rfl [(4, .int (iI (i + 1))), (3, .int (iI u)), (5, .int (iI k)), (0, .ref (α 4 0)), (1, .int (iI ln)), (2, .int (iI nd))] (by decide) rfl dX4_greatestDepth_167 ?_
                  refine y_goto hE 5 (by decide) dX4_greatestDepth_170 ?_
                  refine y_lv [0, 1, 3, 4, 5] [(4, .int (iI (i + 1))), (3, .int (iI u)), (0, .ref (α 4 0)), (1, .int (iI ln)), (2, .int (iI nd))] rfl ?_
                  exact ih5 (up3 K3 126 0 i v) (i + 1) u ((MRep.u hM3 26 (by decide) (j := i) (by omega) v)) ((KO.up hk3 (by decide))) (by omega) (fun j j0 j1 => by rw [dtab_s (by omega), ← hD]; by_cases e : j = i; (rw [if_pos e, e, ← hv]; simp [up3]); (rw [if_neg e, up3_f _ _ _ _ _ _ e]; exact hD3 j j0 (by omega))) (fun j j0 j1 => by rw [dtab_s (by omega), ← hD]; by_cases e : j = i; (rw [if_pos e, e, ← hv]; omega); (rw [if_neg e]; exact hB j j0 (by omega))) (by rw [dmx_s (by omega), ← hD, ← hm, ← hv]; exact hu) (by omega) (by omega)
                refine y_icmp_le hE 165 (by decide) (by omega) (by omega) dX4_greatestDepth_152 (fun c_152 => ?_) (fun c_152 => ?_)
                · refine y_iload_n hE rfl 2 rfl dX4_greatestDepth_165 ?_
                  exact J166 m (by omega)
                · refine y_aload_n hE rfl 3 rfl dX4_greatestDepth_155 ?_
                  refine gX4_69r (z := 0) hE h40 (MObj.r hM3.1 26 (by decide)) (by omega) dX4_greatestDepth_156 (fun hl_156 => ?_)
                  refine y_iload hE 1 rfl dX4_greatestDepth_159 ?_
                  refine y_iald hE rfl hl_156 (by have hL : (up3 K3 126 0 i v) 126 0 (-1) = 20 := (MObj.l (MRep.u hM3 26 (by decide) (j := i) (by omega) v).1 26 (by decide)); omega) dX4_greatestDepth_161 ?_
                  refine y_to (st' := [.int (iI v)]) rfl rfl (by rw [show (up3 K3 126 0 i v) 126 0 i = v from (by simp [up3, upr])]) ?_
                  refine y_goto hE 166 (by decide) dX4_greatestDepth_162 ?_
                  exact J166 v (by omega)
              refine y_icmp_ne hE 136 (by decide) (by omega) (by omega) dX4_greatestDepth_104 (fun c_104 => ?_) (fun c_104 => ?_)
              · refine y_aload_n hE rfl 3 rfl dX4_greatestDepth_136 ?_
                refine gX4_69r (z := 0) hE h40 (MObj.r hM3.1 26 (by decide)) (by omega) dX4_greatestDepth_137 (fun hl_137 => ?_)
                refine y_iload hE 1 rfl dX4_greatestDepth_140 ?_
                refine y_iald hE rfl hl_137 (by have hL : K3 126 0 (-1) = 20 := (MObj.l hM3.1 26 (by decide)); omega) dX4_greatestDepth_142 ?_
                exact J143 (K3 126 0 i) (by rw [hds]; first | (rw [if_pos (by omega)]; omega) | (rw [if_neg (by omega)]; omega)) (by omega)
              · have hx := hD3 nd (by omega) (by omega)
                have hy := hB nd (by omega) (by omega)
                refine y_iconst hE dX4_greatestDepth_107 ?_
                refine y_aload_n hE rfl 3 rfl dX4_greatestDepth_108 ?_
                refine gX4_69r (z := 0) hE h40 (MObj.r hM3.1 26 (by decide)) (by omega) dX4_greatestDepth_109 (fun hl_109 => ?_)
                refine y_iload_n hE rfl 5 rfl dX4_greatestDepth_112 ?_
                refine y_iald hE rfl hl_109 (by have hL : K3 126 0 (-1) = 20 := (MObj.l hM3.1 26 (by decide)); omega) dX4_greatestDepth_113 ?_
                refine y_iadd hE dX4_greatestDepth_114 ?_
                refine y_aload_n hE rfl 3 rfl dX4_greatestDepth_115 ?_
                refine gX4_69r (z := 0) hE h40 (MObj.r hM3.1 26 (by decide)) (by omega) dX4_greatestDepth_116 (fun hl_116 => ?_)
                refine y_iload hE 1 rfl dX4_greatestDepth_119 ?_
                refine y_iald hE rfl hl_116 (by have hL : K3 126 0 (-1) = 20 := (MObj.l hM3.1 26 (by decide)); omega) dX4_greatestDepth_121 ?_
                refine y_icmp_le hE 136 (by decide) (by omega) (by omega) dX4_greatestDepth_122 (fun c_122 => ?_) (fun c_122 => ?_)
                · refine y_aload_n hE rfl 3 rfl dX4_greatestDepth_136 ?_
                  refine gX4_69r (z := 0) hE h40 (MObj.r hM3.1 26 (by decide)) (by omega) dX4_greatestDepth_137 (fun hl_137_2 => ?_)
                  refine y_iload hE 1 rfl dX4_greatestDepth_140 ?_
                  refine y_iald hE rfl hl_137_2 (by have hL : K3 126 0 (-1) = 20 := (MObj.l hM3.1 26 (by decide)); omega) dX4_greatestDepth_142 ?_
                  exact J143 (K3 126 0 i) (by rw [hds]; first | (rw [if_pos (by omega)]; omega) | (rw [if_neg (by omega)]; omega)) (by omega)
                · refine y_iconst hE dX4_greatestDepth_125 ?_
                  refine y_aload_n hE rfl 3 rfl dX4_greatestDepth_126 ?_
                  refine gX4_69r (z := 0) hE h40 (MObj.r hM3.1 26 (by decide)) (by omega) dX4_greatestDepth_127 (fun hl_127 => ?_)
                  refine y_iload_n hE rfl 5 rfl dX4_greatestDepth_130 ?_
                  refine y_iald hE rfl hl_127 (by have hL : K3 126 0 (-1) = 20 := (MObj.l hM3.1 26 (by decide)); omega) dX4_greatestDepth_131 ?_
                  refine y_iadd hE dX4_greatestDepth_132 ?_
                  refine y_goto hE 143 (by decide) dX4_greatestDepth_133 ?_
                  exact J143 (1 + (K3 126 0 nd)) (by rw [hds]; first | (rw [if_pos (by omega)]; omega) | (rw [if_neg (by omega)]; omega)) (by omega)
            · have wc := hW.chi i k (by omega) (by omega) (by omega) (by omega)
              have hx := hD3 (S 12 (5 * i + k)) (by omega) (by omega)
              have hy := hB (S 12 (5 * i + k)) (by omega) (by omega)
              have hs := dch_s (S := S) (D := D) (i := i) (show 0 ≤ k by omega)
              refine y_iconst hE dX4_greatestDepth_37 ?_
              refine y_aload_n hE rfl 3 rfl dX4_greatestDepth_38 ?_
              refine gX4_69r (z := 0) hE h40 (MObj.r hM3.1 26 (by decide)) (by omega) dX4_greatestDepth_39 (fun hl_39 => ?_)
              refine y_aload_n hE rfl 3 rfl dX4_greatestDepth_42 ?_
              refine gX4_41r (z := 0) hE h40 (MObj.r hM3.1 12 (by decide)) (by omega) dX4_greatestDepth_43 (fun hl_43 => ?_)
              refine y_iconst hE dX4_greatestDepth_46 ?_
              refine y_iload hE 1 rfl dX4_greatestDepth_47 ?_
              refine y_imul hE dX4_greatestDepth_49 ?_
              refine y_iload hE 0 rfl dX4_greatestDepth_50 ?_
              refine y_iadd hE dX4_greatestDepth_52 ?_
              refine y_iald hE rfl hl_43 (by have hL : K3 112 0 (-1) = 100 := (MObj.l hM3.1 12 (by decide)); omega) dX4_greatestDepth_53 ?_
              refine y_to (st' := [.int (iI (S 12 ((5 * i) + k))), .ref (α 126 0), .int (iI 1)]) rfl rfl (by rw [show K3 112 0 ((5 * i) + k) = S 12 ((5 * i) + k) from (MRep.ra hM3 12 rfl (by omega) (by first | omega | (show _ < (100 : Int); omega)))]) ?_
              refine y_iald hE rfl hl_39 (by have hL : K3 126 0 (-1) = 20 := (MObj.l hM3.1 26 (by decide)); omega) dX4_greatestDepth_54 ?_
              refine y_iadd hE dX4_greatestDepth_55 ?_
              refine y_istore hE [(6, .int (iI (1 + (K3 126 0 (S 12 ((5 * i) + k)))))), (5, .int (iI k)), (4, .int (iI i)), (3, .int (iI m)), (0, .ref (α 4 0)), (1, .int (iI ln)), (2, .int (iI nd))] (by decide) rfl dX4_greatestDepth_56 ?_
              refine y_aload_n hE rfl 4 rfl dX4_greatestDepth_58 ?_
              refine gX4_69r (z := 0) hE h40 (MObj.r hM3.1 26 (by decide)) (by omega) dX4_greatestDepth_59 (fun hl_59 => ?_)
              refine y_iload hE 2 rfl dX4_greatestDepth_62 ?_
              refine y_iload hE 0 rfl dX4_greatestDepth_64 ?_
              refine y_aload_n hE rfl 4 rfl dX4_greatestDepth_66 ?_
              refine gX4_69r (z := 0) hE h40 (MObj.r hM3.1 26 (by decide)) (by omega) dX4_greatestDepth_67 (fun hl_67 => ?_)
              refine y_iload hE 2 rfl dX4_greatestDepth_70 ?_
              refine y_iald hE rfl hl_67 (by have hL : K3 126 0 (-1) = 20 := (MObj.l hM3.1 26 (by decide)); omega) dX4_greatestDepth_72 ?_
              have J88 : ∀ (v : Int), (v = max d (1 + D (S 12 (5 * i + k)))) → Y x n α K3 0 0 88 [(6, .int (iI (1 + (K3 126 0 (S 12 ((5 * i) + k)))))), (5, .int (iI k)), (4, .int (iI i)), (3, .int (iI m)), (0, .ref (α 4 0)), (1, .int (iI ln)), (2, .int (iI nd))] [.int (iI v), .int (iI i), .ref (α 126 0)] := by
                intro v hv
                refine y_iast hE (by unfold kC; decide) rfl (by simp [kTag]) hl_59 (by have hL : K3 126 0 (-1) = 20 := (MObj.l hM3.1 26 (by decide)); omega) dX4_greatestDepth_88 ?_
                refine y_iinc hE 1 rfl [(5, .int (iI (k + 1))), (6, .int (iI (1 + (K3 126 0 (S 12 ((5 * i) + k)))))), (4, .int (iI i)), (3, .int (iI m)), (0, .ref (α 4 0)), (1, .int (iI ln)), (2, .int (iI nd))] (by decide) rfl dX4_greatestDepth_89 ?_
                refine y_goto hE 25 (by decide) dX4_greatestDepth_92 ?_
                refine y_lv [0, 2, 3, 4, 5, 6] [(5, .int (iI (k + 1))), (4, .int (iI i)), (3, .int (iI m)), (0, .ref (α 4 0)), (1, .int (iI ln)), (2, .int (iI nd))] rfl ?_
                exact ih25 (up3 K3 126 0 i v) (k + 1) v ((MRep.u hM3 26 (by decide) (j := i) (by omega) v)) ((KO.up hk3 (by decide))) (by omega) (fun j j0 j1 => by rw [up3_f _ _ _ _ _ _ (by omega)]; exact hD3 j j0 j1) (by simp [up3]) (by rw [hs, ← hd2]; omega) (by omega) (by omega)
              refine y_icmp_le hE 81 (by decide) (by omega) (by omega) dX4_greatestDepth_73 (fun c_73 => ?_) (fun c_73 => ?_)
              · refine y_aload_n hE rfl 4 rfl dX4_greatestDepth_81 ?_
                refine gX4_69r (z := 0) hE h40 (MObj.r hM3.1 26 (by decide)) (by omega) dX4_greatestDepth_82 (fun hl_82 => ?_)
                refine y_iload hE 2 rfl dX4_greatestDepth_85 ?_
                refine y_iald hE rfl hl_82 (by have hL : K3 126 0 (-1) = 20 := (MObj.l hM3.1 26 (by decide)); omega) dX4_greatestDepth_87 ?_
                exact J88 (K3 126 0 i) (by omega)
              · refine y_iload hE 0 rfl dX4_greatestDepth_76 ?_
                refine y_goto hE 88 (by decide) dX4_greatestDepth_78 ?_
                exact J88 (1 + (K3 126 0 (S 12 ((5 * i) + k)))) (by omega)
        exact L25 _ (up3 K2 126 0 i 1) 0 1 ((MRep.u hM2 26 (by decide) (j := i) (by omega) 1)) ((KO.up hk2 (by decide))) (by omega) (fun j j0 j1 => by rw [up3_f _ _ _ _ _ _ (by omega)]; exact hT j j0 j1) (by simp [up3]) (rfl) (by omega) (Nat.lt_succ_self _)
  exact L5 _ K 0 0 (hM) (KO.rf) (by omega) (fun j j0 j1 => by omega) (fun j j0 j1 => by omega) (rfl) (by omega) (Nat.lt_succ_self _)
