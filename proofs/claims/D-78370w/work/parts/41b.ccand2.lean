set_option linter.unusedVariables false
set_option maxHeartbeats 4000000 in
set_option maxRecDepth 100000 in
theorem m_X12_isCandidate {w : KW} {n : KN} {α : KA} {K : KS} (S : SS) (mi ta tb fa fb : Int) (t mc : Int) (hR : Rst S n K) (hW : WFs S) (hlm : 0 ≤ mi ∧ mi < n 12) (hV : MV S n K mi ta tb fa fb) (hmc : K 12 mi 13 = mc) (hm : 0 ≤ mc ∧ mc ≤ 48) (ht : 0 ≤ t ∧ t < 24) (h36 : ∀ k : Int, 0 ≤ k → k < mc → 0 ≤ K 36 mi k ∧ K 36 mi k < 24) : KM w yX12_isCandidate cX12_isCandidate 4 (some (.boolean)) { frames := 0, cells := 0, slots := 0, locals := 0 } (0, 0) [.ref (α 12 mi), .int (iI t)] n α K (fun r n' α' K' => n = n' ∧ α = α' ∧ K = K' ∧ (r = inC (K 36 mi) t mc.toNat)) := by
  refine y_start (by decide) (Nat.le_of_ble_eq_true rfl) (fun x hE hQ => ?_)
  have hw := hQ.2
  subst hw
  have hE : YE x cX12_isCandidate RX12 (some (.boolean)) "isCandidate" 4 { frames := 0, cells := 0, slots := 0, locals := 0 } := hE
  refine y_wk (fun hWK => ?_)
  have hn0 := hWK.1
  refine y_bud (bc' := 0) (bs' := 0) (Nat.le_refl _) (Nat.le_refl _) ?_
  refine y_to (lv' := [(0, .ref (α 12 mi)), (1, .int (iI t))]) (st' := []) rfl rfl rfl ?_
  have wcl := hW.clips
  have n1 := hR.n1
  have n3 := hR.n3
  have n34 := hR.n34
  have n6 := hR.n6
  have n21 := hR.n21
  have n51 := hR.n51
  have n8 := hR.n8
  have n11 := hR.n11
  have wsts := hW.sts
  have wnodes := hW.nodes
  have va := hV.a
  have vb := hV.b
  have vs := hV.st
  have vl := hV.lg
  have n36 := hR.n36
  refine y_iconst hE dX12_isCandidate_0 ?_
  refine y_istore_n hE rfl [(2, .int (iI 0)), (0, .ref (α 12 mi)), (1, .int (iI t))] (by decide) rfl dX12_isCandidate_1 ?_
  refine y_iconst hE dX12_isCandidate_2 ?_
  refine y_istore_n hE rfl [(3, .int (iI 0)), (2, .int (iI 0)), (0, .ref (α 12 mi)), (1, .int (iI t))] (by decide) rfl dX12_isCandidate_3 ?_
  have L4 : ∀ (fuel : Nat) (b k : Int), (0 ≤ k ∧ k ≤ mc) → (b = inC (K 36 mi) t k.toNat) → (b = 0 ∨ b = 1) → (mc - k).toNat < fuel → Y x n α K 0 0 4 [(3, .int (iI k)), (2, .int (iI b)), (0, .ref (α 12 mi)), (1, .int (iI t))] [] := by
    intro fuel4
    induction fuel4 with
    | zero => intro b k hk hb hb1 hfu4; exact absurd hfu4 (Nat.not_lt_zero _)
    | succ fuel4 ih4 =>
      intro b k hk hb hb1 hfu4
      refine y_iload_n hE rfl 0 rfl dX12_isCandidate_4 ?_
      refine y_aload_n hE rfl 2 rfl dX12_isCandidate_5 ?_
      refine gX12_114 (z := mc) hE hlm hmc dX12_isCandidate_6 ?_
      refine y_icmp_ge hE 38 (by decide) (by omega) (by omega) dX12_isCandidate_9 (fun c_9 => ?_) (fun c_9 => ?_)
      · refine y_iload_n hE rfl 1 rfl dX12_isCandidate_38 ?_
        exact y_iret hE rfl (nar_b (by omega)).1 hQ dX12_isCandidate_39 Ext.rf ⟨rfl, rfl, rfl, by rw [show mc = k by omega]; exact hb⟩
      · have h36k := h36 k (by omega) (by omega)
        have J31 : ∀ (c : Int), (c = if b ≠ 0 ∨ K 36 mi k = t then 1 else 0) → (c = 0 ∨ c = 1) → Y x n α K 0 0 31 [(3, .int (iI k)), (2, .int (iI b)), (0, .ref (α 12 mi)), (1, .int (iI t))] [.int (iI c)] := by
          intro c hc0 hc1
          refine y_istore_n hE rfl [(2, .int (iI c)), (3, .int (iI k)), (0, .ref (α 12 mi)), (1, .int (iI t))] (by decide) rfl dX12_isCandidate_31 ?_
          refine y_iinc hE 1 rfl [(3, .int (iI (k + 1))), (2, .int (iI c)), (0, .ref (α 12 mi)), (1, .int (iI t))] (by decide) rfl dX12_isCandidate_32 ?_
          refine y_goto hE 4 (by decide) dX12_isCandidate_35 ?_
          exact ih4 c (k + 1) (by omega) (by rw [inC_s (by omega), ← hb]; exact hc0) (by omega) (by omega)
        refine y_iload_n hE rfl 1 rfl dX12_isCandidate_12 ?_
        refine y_if_ne hE 26 (by decide) (by omega) dX12_isCandidate_13 (fun c_13 => ?_) (fun c_13 => ?_)
        · refine y_iconst hE dX12_isCandidate_26 ?_
          refine y_goto hE 31 (by decide) dX12_isCandidate_27 ?_
          exact J31 1 (by first | rw [if_pos (by omega)] | rw [if_neg (by omega)]) (by omega)
        · refine y_aload_n hE rfl 2 rfl dX12_isCandidate_16 ?_
          refine gX12_38r (z := mi) hE hlm (hR.m11 (i := mi) (by omega)) (by omega) dX12_isCandidate_17 (fun hl_17 => ?_)
          refine y_iload_n hE rfl 0 rfl dX12_isCandidate_20 ?_
          refine y_iald hE rfl hl_17 (by have hL : K 36 mi (-1) = 48 := (hR.m36 (i := mi) (by omega)); omega) dX12_isCandidate_21 ?_
          refine y_iload_n hE rfl 3 rfl dX12_isCandidate_22 ?_
          refine y_icmp_ne hE 30 (by decide) (by omega) (by omega) dX12_isCandidate_23 (fun c_23 => ?_) (fun c_23 => ?_)
          · refine y_iconst hE dX12_isCandidate_30 ?_
            exact J31 0 (by first | rw [if_pos (by omega)] | rw [if_neg (by omega)]) (by omega)
          · refine y_iconst hE dX12_isCandidate_26 ?_
            refine y_goto hE 31 (by decide) dX12_isCandidate_27 ?_
            exact J31 1 (by first | rw [if_pos (by omega)] | rw [if_neg (by omega)]) (by omega)
  exact L4 _ 0 0 (by omega) (rfl) (by omega) (Nat.lt_succ_self _)
