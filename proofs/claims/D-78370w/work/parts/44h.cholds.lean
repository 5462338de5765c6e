set_option linter.unusedVariables false
set_option maxHeartbeats 4000000 in
set_option maxRecDepth 100000 in
theorem m_X15_holds {w : KW} {n : KN} {α : KA} {K : KS} (S : SS) (c p ts op wv : Int) (hR : Rst S n K) (hW : WFs S) (hv0 : WFv S) (hc : 0 ≤ c ∧ c < n 15) (e0 : K 15 c 0 = p) (e1 : K 15 c 1 = ts) (hp : 0 ≤ p ∧ p < S 3 0) (hts : 0 ≤ ts) (e9 : K 16 ts 9 = op) (ew : K 16 ts 0 = wv) (el : K 16 ts (-1) = 1) (hop : 0 ≤ op ∧ op ≤ 3) (hwv : -100 ≤ wv ∧ wv ≤ 100) : KM w yX15_holds cX15_holds 1 (some (.boolean)) { frames := 2, cells := 0, slots := 0, locals := 60 } (0, 0) [.ref (α 15 c)] n α K (fun r n' α' K' => n = n' ∧ α = α' ∧ K = K' ∧ (r = tsI op (S 0 p) wv)) := by
  refine y_start (by decide) (Nat.le_of_ble_eq_true rfl) (fun x hE hQ => ?_)
  have hw := hQ.2
  subst hw
  have hE : YE x cX15_holds RX15 (some (.boolean)) "holds" 1 { frames := 2, cells := 0, slots := 0, locals := 60 } := hE
  refine y_wk (fun hWK => ?_)
  have hn0 := hWK.1
  refine y_bud (bc' := 0) (bs' := 0) (Nat.le_refl _) (Nat.le_refl _) ?_
  refine y_to (lv' := [(0, .ref (α 15 c))]) (st' := []) rfl rfl rfl ?_
  have n5 := hR.n5
  have wpar := hW.par
  have wv2 := hv0 p (by omega) (by omega)
  have h01 := tsI_01 op (S 0 p) wv
  refine y_aload_n hE rfl 0 rfl dX15_holds_0 ?_
  refine gX15_13r (z := ts) hE hc e1 (by omega) dX15_holds_1 (fun hl_1 => ?_)
  refine y_aload_n hE rfl 0 rfl dX15_holds_4 ?_
  refine gX15_7r (z := p) hE hc e0 (by omega) dX15_holds_5 (fun hl_5 => ?_)
  refine gX15_17 (z := (S 0 p)) hE hl_5 (hR.p1 (i := p) (by omega)) dX15_holds_8 ?_
  refine y_holds hE (op := op) (wv := wv) (v := (S 0 p)) hop e9 ew el hl_1 (by omega) (by omega) (Nat.le_of_ble_eq_true rfl) (Nat.le_of_ble_eq_true rfl) rfl (by decide) dX15_holds_11 ?_
  exact y_iret hE rfl (nar_b (by omega)).1 hQ dX15_holds_16 Ext.rf ⟨rfl, rfl, rfl, rfl⟩
