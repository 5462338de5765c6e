set_option linter.unusedVariables false
theorem q_oi1 : Cond.instanceMethod Lib.objectInit ∈ lw_all := q170
theorem q_oi2 : Cond.code Lib.objectInit ⟨#[0xb1]⟩ 1 none ∈ lw_all := q171
theorem upn_self {n : KN} (h : ∀ k, 0 ≤ n k) (k : Nat) : 0 ≤ n k ∧ n k < upn n k k := by
  unfold upn
  rw [if_pos rfl]
  have := h k
  omega
theorem ext_v {n n' : KN} {α α' : KA} (h : Ext n α n' α') {k : Nat} {i : Int} (hi : i < n k) : refV α k i = refV α' k i := by
  by_cases h0 : i < 0
  · rw [refV_n h0, refV_n h0]
  · rw [refV_s (by omega), refV_s (by omega), ext_r h ⟨by omega, hi⟩]
/-- a condition as the JVM has it -/
def b2i (p : Prop) [Decidable p] : Int := if p then 1 else 0
theorem b2i_t {p : Prop} [Decidable p] (h : p) : b2i p = 1 := if_pos h
theorem b2i_f {p : Prop} [Decidable p] (h : ¬ p) : b2i p = 0 := if_neg h
theorem b2i_01 (p : Prop) [Decidable p] : b2i p = 0 ∨ b2i p = 1 := by
  by_cases h : p
  · exact Or.inr (b2i_t h)
  · exact Or.inl (b2i_f h)
theorem b2i_e {p : Prop} [Decidable p] : b2i p = 0 ↔ ¬ p := by
  by_cases h : p
  · rw [b2i_t h]; simp [h]
  · rw [b2i_f h]; simp [h]
theorem b2i_n {p : Prop} [Decidable p] : b2i p ≠ 0 ↔ p := by rw [ne_eq, b2i_e, Decidable.not_not]
section KMATH
variable {x : YX} {cc : ByteArray} {own nm : String} {ret : Option FieldType} {nL : Nat} {RM : Room} {n : KN} {α : KA} {K : KS} {bc bs pc : Nat} {lv : List (Nat × Value)} {st : List Value}
theorem y_mmin (hE : YE x cc own ret nm nL RM) {a b : Int} {index : Nat} (hq : Cond.methodLink own index Lib.Math.min.name ∈ lw_all) (ha : -2147483648 ≤ a ∧ a ≤ 2147483647) (hb : -2147483648 ≤ b ∧ b ≤ 2147483647) (hf : 1 ≤ RM.frames) (hlo : (st.map fun v => v.category).sum + 13 ≤ RM.locals) (d : decode cc pc = .ok (.invokestatic index, 3)) (kk : Y x n α K bc bs (pc + 3) lv (.int (iI (min a b)) :: st)) : Y x n α K bc bs pc lv (.int (iI b) :: .int (iI a) :: st) := by
  intro H locs ls cells slots hR hS hl hcb hs
  obtain ⟨hx, hcb2, hml, hown, hts, -, -, -, hRM, hnL, -⟩ := id hE
  refine va_mmin hx hcb2 (by rw [hml, hl.1, hnL]) hown (hts _ hq) (hts _ q306) (hts _ q121) (hts _ q307) (by rw [hRM]; exact hf) (by rw [hRM]; exact hlo) (by omega) (by omega) d ?_
  have e : (if iI b < iI a then iI b else iI a) = iI (min a b) := by
    by_cases h : b < a
    · rw [if_pos ((iI_lt hb ha).mpr h)]; congr 1; omega
    · rw [if_neg (mt (iI_lt hb ha).mp h)]; congr 1; omega
  rw [e]
  exact kk H locs ls cells slots hR hS hl hcb hs
theorem y_mmax (hE : YE x cc own ret nm nL RM) {a b : Int} {index : Nat} (hq : Cond.methodLink own index Lib.Math.max.name ∈ lw_all) (ha : -2147483648 ≤ a ∧ a ≤ 2147483647) (hb : -2147483648 ≤ b ∧ b ≤ 2147483647) (hf : 1 ≤ RM.frames) (hlo : (st.map fun v => v.category).sum + 13 ≤ RM.locals) (d : decode cc pc = .ok (.invokestatic index, 3)) (kk : Y x n α K bc bs (pc + 3) lv (.int (iI (max a b)) :: st)) : Y x n α K bc bs pc lv (.int (iI b) :: .int (iI a) :: st) := by
  intro H locs ls cells slots hR hS hl hcb hs
  obtain ⟨hx, hcb2, hml, hown, hts, -, -, -, hRM, hnL, -⟩ := id hE
  refine va_mmax hx hcb2 (by rw [hml, hl.1, hnL]) hown (hts _ hq) (hts _ q288) (hts _ q121) (hts _ q289) (by rw [hRM]; exact hf) (by rw [hRM]; exact hlo) (by omega) (by omega) d ?_
  have e : (if iI a < iI b then iI b else iI a) = iI (max a b) := by
    by_cases h : a < b
    · rw [if_pos ((iI_lt ha hb).mpr h)]; congr 1; omega
    · rw [if_neg (mt (iI_lt ha hb).mp h)]; congr 1; omega
  rw [e]
  exact kk H locs ls cells slots hR hS hl hcb hs
theorem y_mminL (hE : YE x cc own ret nm nL RM) {a b : Int} {index : Nat} (hq : Cond.methodLink own index Lib.MathLoose.min_long.x ∈ lw_all) (ha : -9223372036854775808 ≤ a ∧ a ≤ 9223372036854775807) (hb : -9223372036854775808 ≤ b ∧ b ≤ 9223372036854775807) (hf : 1 ≤ RM.frames) (hlo : (st.map fun v => v.category).sum + 15 ≤ RM.locals) (d : decode cc pc = .ok (.invokestatic index, 3)) (kk : Y x n α K bc bs (pc + 3) lv (.long (iL (min a b)) :: st)) : Y x n α K bc bs pc lv (.long (iL b) :: .long (iL a) :: st) := by
  intro H locs ls cells slots hR hS hl hcb hs
  obtain ⟨hx, hcb2, hml, hown, hts, -, -, -, hRM, hnL, -⟩ := id hE
  refine va_mmin_long hx hcb2 (by rw [hml, hl.1, hnL]) hown (hts _ hq) (hts _ q2434) (hts _ q121) (hts _ q2435) (by rw [hRM]; exact hf) (by rw [hRM]; exact hlo) (by omega) (by omega) d ?_
  have e : (if iL b < iL a then iL b else iL a) = iL (min a b) := by
    by_cases h : b < a
    · rw [if_pos ((iL_lt hb ha).mpr h)]; congr 1; omega
    · rw [if_neg (mt (iL_lt hb ha).mp h)]; congr 1; omega
  rw [e]
  exact kk H locs ls cells slots hR hS hl hcb hs
theorem y_mmaxL (hE : YE x cc own ret nm nL RM) {a b : Int} {index : Nat} (hq : Cond.methodLink own index Lib.MathLoose.max_long.x ∈ lw_all) (ha : -9223372036854775808 ≤ a ∧ a ≤ 9223372036854775807) (hb : -9223372036854775808 ≤ b ∧ b ≤ 9223372036854775807) (hf : 1 ≤ RM.frames) (hlo : (st.map fun v => v.category).sum + 15 ≤ RM.locals) (d : decode cc pc = .ok (.invokestatic index, 3)) (kk : Y x n α K bc bs (pc + 3) lv (.long (iL (max a b)) :: st)) : Y x n α K bc bs pc lv (.long (iL b) :: .long (iL a) :: st) := by
  intro H locs ls cells slots hR hS hl hcb hs
  obtain ⟨hx, hcb2, hml, hown, hts, -, -, -, hRM, hnL, -⟩ := id hE
  refine va_mmax_long hx hcb2 (by rw [hml, hl.1, hnL]) hown (hts _ hq) (hts _ q2421) (hts _ q121) (hts _ q2422) (by rw [hRM]; exact hf) (by rw [hRM]; exact hlo) (by omega) (by omega) d ?_
  have e : (if iL b < iL a then iL a else iL b) = iL (max a b) := by
    by_cases h : b < a
    · rw [if_pos ((iL_lt hb ha).mpr h)]; congr 1; omega
    · rw [if_neg (mt (iL_lt hb ha).mp h)]; congr 1; omega
  rw [e]
  exact kk H locs ls cells slots hR hS hl hcb hs
end KMATH
set_option maxHeartbeats 4000000 in
set_option maxRecDepth 100000 in
theorem m_X1_in {w : KW} {n : KN} {α : KA} {K : KS} (v lo hi : Int) (hv : -9223372036854775808 ≤ v ∧ v ≤ 9223372036854775807) (hlo : -9223372036854775808 ≤ lo ∧ lo ≤ 9223372036854775807) (hhi : -9223372036854775808 ≤ hi ∧ hi ≤ 9223372036854775807) : KM w yX1_in cX1_in 6 (some (.boolean)) { frames := 0, cells := 0, slots := 0, locals := 0 } (0, 0) [.long (iL v), .long (iL lo), .long (iL hi)] n α K (fun r n' α' K' => n = n' ∧ α = α' ∧ K = K' ∧ ((r = 1 ∧ (lo ≤ v ∧ v ≤ hi) ∨ r = 0 ∧ ¬ (lo ≤ v ∧ v ≤ hi)))) := by
  refine y_start (by decide) (Nat.le_of_ble_eq_true rfl) (fun x hE hQ => ?_)
  have hw := hQ.2
  subst hw
  have hE : YE x cX1_in RX1 (some (.boolean)) "in" 6 { frames := 0, cells := 0, slots := 0, locals := 0 } := hE
  refine y_wk (fun hWK => ?_)
  have hn0 := hWK.1
  refine y_bud (bc' := 0) (bs' := 0) (Nat.le_refl _) (Nat.le_refl _) ?_
  refine y_to (lv' := [(0, .long (iL v)), (2, .long (iL lo)), (4, .long (iL hi))]) (st' := []) rfl rfl rfl ?_
  refine y_lload_n hE rfl 0 rfl dX1_in_0 ?_
  refine y_lload_n hE rfl 1 rfl dX1_in_1 ?_
  refine y_lcmp_lt hE 17 (by decide) (by omega) (by omega) dX1_in_2 dX1_in_3 (fun c_2 => ?_) (fun c_2 => ?_)
  · refine y_iconst hE dX1_in_17 ?_
    exact y_iret hE rfl (nar_b (by omega)).1 hQ dX1_in_18 Ext.rf ⟨rfl, rfl, rfl, by omega⟩
  · refine y_lload_n hE rfl 0 rfl dX1_in_6 ?_
    refine y_lload hE 2 rfl dX1_in_7 ?_
    refine y_lcmp_gt hE 17 (by decide) (by omega) (by omega) dX1_in_9 dX1_in_10 (fun c_9 => ?_) (fun c_9 => ?_)
    · refine y_iconst hE dX1_in_17 ?_
      exact y_iret hE rfl (nar_b (by omega)).1 hQ dX1_in_18 Ext.rf ⟨rfl, rfl, rfl, by omega⟩
    · refine y_iconst hE dX1_in_13 ?_
      refine y_goto hE 18 (by decide) dX1_in_14 ?_
      exact y_iret hE rfl (nar_b (by omega)).1 hQ dX1_in_18 Ext.rf ⟨rfl, rfl, rfl, by omega⟩
set_option maxHeartbeats 4000000 in
set_option maxRecDepth 100000 in
theorem m_X1_share {w : KW} {n : KN} {α : KA} {K : KS} (a b c : Int) (hc : 0 < c ∧ c ≤ 9223372036854775807) (hab : 0 ≤ a * b ∧ a * b ≤ 9223372036854775807) : KM w yX1_share cX1_share 6 (some (.int)) { frames := 0, cells := 0, slots := 0, locals := 0 } (0, 0) [.long (iL a), .long (iL b), .long (iL c)] n α K (fun r n' α' K' => n = n' ∧ α = α' ∧ K = K' ∧ (r = a * b / c)) := by
  refine y_start (by decide) (Nat.le_of_ble_eq_true rfl) (fun x hE hQ => ?_)
  have hw := hQ.2
  subst hw
  have hE : YE x cX1_share RX1 (some (.int)) "share" 6 { frames := 0, cells := 0, slots := 0, locals := 0 } := hE
  refine y_wk (fun hWK => ?_)
  have hn0 := hWK.1
  refine y_bud (bc' := 0) (bs' := 0) (Nat.le_refl _) (Nat.le_refl _) ?_
  refine y_to (lv' := [(0, .long (iL a)), (2, .long (iL b)), (4, .long (iL c))]) (st' := []) rfl rfl rfl ?_
  refine y_lload_n hE rfl 0 rfl dX1_share_0 ?_
  refine y_lload_n hE rfl 1 rfl dX1_share_1 ?_
  refine y_lmul hE dX1_share_2 ?_
  refine y_lload hE 2 rfl dX1_share_3 ?_
  refine y_ldiv hE (by omega) (by omega) dX1_share_5 ?_
  refine y_l2i hE dX1_share_6 ?_
  exact y_iret hE rfl rfl hQ dX1_share_7 Ext.rf ⟨rfl, rfl, rfl, rfl⟩
set_option maxHeartbeats 4000000 in
set_option maxRecDepth 100000 in
theorem m_X13_progress {w : KW} {n : KN} {α : KA} {K : KS} (t : Int) (ht : 0 ≤ t ∧ t < n 13) (h1 : 0 ≤ K 13 t 1 ∧ K 13 t 1 ≤ 1000000000) (h2 : 0 ≤ K 13 t 2 ∧ K 13 t 2 ≤ 1000000) : KM w yX13_progress cX13_progress 1 (some (.long)) { frames := 0, cells := 0, slots := 0, locals := 0 } (1, 0) [.ref (α 13 t)] n α K (fun r n' α' K' => n = n' ∧ α = α' ∧ K = K' ∧ (r = K 13 t 1 * 1000000 + K 13 t 2)) := by
  refine y_start (by decide) (Nat.le_of_ble_eq_true rfl) (fun x hE hQ => ?_)
  have hw := hQ.2
  subst hw
  have hE : YE x cX13_progress RX13 (some (.long)) "progress" 1 { frames := 0, cells := 0, slots := 0, locals := 0 } := hE
  refine y_wk (fun hWK => ?_)
  have hn0 := hWK.1
  refine y_bud (bc' := 0) (bs' := 0) (Nat.le_refl _) (Nat.le_refl _) ?_
  refine y_to (lv' := [(0, .ref (α 13 t))]) (st' := []) rfl rfl rfl ?_
  refine y_aload_n hE rfl 0 rfl dX13_progress_0 ?_
  refine gX13_26 (z := K 13 t 1) hE ht rfl dX13_progress_1 ?_
  refine y_i2l hE (by omega) dX13_progress_4 ?_
  refine y_ldc2 hE 1000000 (v := 1000000) (by decide) q2364 dX13_progress_5 ?_
  refine y_lmul hE dX13_progress_8 ?_
  refine y_aload_n hE rfl 0 rfl dX13_progress_9 ?_
  refine gX13_19 (z := K 13 t 2) hE ht rfl dX13_progress_10 ?_
  refine y_i2l hE (by omega) dX13_progress_13 ?_
  refine y_ladd hE dX13_progress_14 ?_
  exact y_lret hE rfl hQ dX13_progress_15 Ext.rf ⟨rfl, rfl, rfl, by omega⟩
set_option maxHeartbeats 4000000 in
set_option maxRecDepth 100000 in
theorem m_X5_takes {w : KW} {n : KN} {α : KA} {K : KS} (p v : Int) (hp : 0 ≤ p ∧ p < n 5) (hk : 0 ≤ K 5 p 0 ∧ K 5 p 0 ≤ 2) (hv : -2147483648 ≤ v ∧ v ≤ 2147483647) : KM w yX5_takes cX5_takes 2 (some (.boolean)) { frames := 1, cells := 0, slots := 0, locals := 25 } (0, 0) [.ref (α 5 p), .int (iI v)] n α K (fun r n' α' K' => n = n' ∧ α = α' ∧ K = K' ∧ ((r = 1 ∧ (K 5 p 0 = 0 ∧ -100 ≤ v ∧ v ≤ 100 ∨ ¬ K 5 p 0 = 0 ∧ 0 ≤ v ∧ v ≤ 1) ∨ r = 0 ∧ ¬ (K 5 p 0 = 0 ∧ -100 ≤ v ∧ v ≤ 100 ∨ ¬ K 5 p 0 = 0 ∧ 0 ≤ v ∧ v ≤ 1)))) := by
  refine y_start (by decide) (Nat.le_of_ble_eq_true rfl) (fun x hE hQ => ?_)
  have hw := hQ.2
  subst hw
  have hE : YE x cX5_takes RX5 (some (.boolean)) "takes" 2 { frames := 1, cells := 0, slots := 0, locals := 25 } := hE
  refine y_wk (fun hWK => ?_)
  have hn0 := hWK.1
  refine y_bud (bc' := 0) (bs' := 0) (Nat.le_refl _) (Nat.le_refl _) ?_
  refine y_to (lv' := [(0, .ref (α 5 p)), (1, .int (iI v))]) (st' := []) rfl rfl rfl ?_
  refine y_aload_n hE rfl 0 rfl dX5_takes_0 ?_
  refine gX5_9 (z := K 5 p 0) hE hp rfl dX5_takes_1 ?_
  refine y_if_ne hE 21 (by decide) (by omega) dX5_takes_4 (fun c_4 => ?_) (fun c_4 => ?_)
  · refine y_iload_n hE rfl 1 rfl dX5_takes_21 ?_
    refine y_i2l hE (by omega) dX5_takes_22 ?_
    refine y_lconst hE 0 (by decide) dX5_takes_23 ?_
    refine y_lconst hE 1 (by decide) dX5_takes_24 ?_
    refine y_callSN hE (m_X1_in v 0 1 (by omega) (by omega) (by omega)) q1999 q1024 q108 q1025 (nA := 3) (by decide +kernel) rfl ⟨Nat.le_of_ble_eq_true rfl, Nat.le_of_ble_eq_true rfl⟩ (rest := []) rfl (by decide) dX5_takes_25 (bc' := 0) (bs' := 0) (Nat.le_refl _) (Nat.le_refl _) (fun r_25 n_25 α_25 K_25 hx_25 hp_25 => ?_)
    obtain ⟨rfl, rfl, rfl, hr_25⟩ := hp_25
    refine y_to (st' := [.int (iI r_25)]) rfl rfl rfl ?_
    exact y_iret hE rfl (nar_b (by omega)).1 hQ dX5_takes_28 Ext.rf ⟨rfl, rfl, rfl, by omega⟩
  · refine y_iload_n hE rfl 1 rfl dX5_takes_7 ?_
    refine y_i2l hE (by omega) dX5_takes_8 ?_
    refine y_ldc2 hE (-100) (v := -100) (by decide) q1997 dX5_takes_9 ?_
    refine y_ldc2 hE 100 (v := 100) (by decide) q1998 dX5_takes_12 ?_
    refine y_callSN hE (m_X1_in v (-100) 100 (by omega) (by omega) (by omega)) q1999 q1024 q108 q1025 (nA := 3) (by decide +kernel) rfl ⟨Nat.le_of_ble_eq_true rfl, Nat.le_of_ble_eq_true rfl⟩ (rest := []) rfl (by decide) dX5_takes_15 (bc' := 0) (bs' := 0) (Nat.le_refl _) (Nat.le_refl _) (fun r_15 n_15 α_15 K_15 hx_15 hp_15 => ?_)
    obtain ⟨rfl, rfl, rfl, hr_15⟩ := hp_15
    refine y_to (st' := [.int (iI r_15)]) rfl rfl rfl ?_
    refine y_goto hE 28 (by decide) dX5_takes_18 ?_
    exact y_iret hE rfl (nar_b (by omega)).1 hQ dX5_takes_28 Ext.rf ⟨rfl, rfl, rfl, by omega⟩
