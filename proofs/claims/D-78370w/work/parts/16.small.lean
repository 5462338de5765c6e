set_option linter.unusedVariables false
theorem up3_ko {K : KS} {k k' : Nat} {i i' f v f' : Int} (h : ¬ (k' = k ∧ i' = i)) : up3 K k i f v k' i' f' = K k' i' f' := by
  unfold up3
  rw [if_neg]
  rintro ⟨h1, -, h2⟩
  exact h ⟨h1, h2⟩
/-- nothing but P's objects is written -/
def KO (K K' : KS) (P : Nat → Int → Prop) : Prop := ∀ (k : Nat) (i : Int), ¬ P k i → ∀ f : Int, K' k i f = K k i f
theorem KO.rf {K : KS} {P : Nat → Int → Prop} : KO K K P := fun _ _ _ _ => rfl
theorem KO.tr {K K1 K2 : KS} {P : Nat → Int → Prop} (h : KO K K1 P) (h2 : KO K1 K2 P) : KO K K2 P := fun k i hp f => (h2 k i hp f).trans (h k i hp f)
theorem KO.mono {K K' : KS} {P Q : Nat → Int → Prop} (h : KO K K' P) (hq : ∀ k i, P k i → Q k i) : KO K K' Q := fun k i hp f => h k i (fun z => hp (hq k i z)) f
theorem KO.up {K K' : KS} {P : Nat → Int → Prop} (h : KO K K' P) {k : Nat} {i f v : Int} (hp : P k i) : KO K (up3 K' k i f v) P := fun k' i' hn f' => by
  rw [up3_ko (fun z => hn (by rw [z.1, z.2]; exact hp))]
  exact h k' i' hn f'
/-- a run of places of one object is written -/
def upr (K : KS) (k : Nat) (i lo hi : Int) (g : Int → Int) : KS := fun k' i' f' => if k' = k ∧ i' = i ∧ lo ≤ f' ∧ f' < hi then g f' else K k' i' f'
theorem upr_in {K : KS} {k : Nat} {i lo hi : Int} {g : Int → Int} {f : Int} (h : lo ≤ f ∧ f < hi) : upr K k i lo hi g k i f = g f := if_pos ⟨rfl, rfl, h⟩
theorem upr_out {K : KS} {k k' : Nat} {i lo hi i' : Int} {g : Int → Int} {f : Int} (h : ¬ (k' = k ∧ i' = i ∧ lo ≤ f ∧ f < hi)) : upr K k i lo hi g k' i' f = K k' i' f := if_neg h
theorem upr_ko {K : KS} {k k' : Nat} {i lo hi i' : Int} {g : Int → Int} {f : Int} (h : ¬ (k' = k ∧ i' = i)) : upr K k i lo hi g k' i' f = K k' i' f := if_neg fun z => h ⟨z.1, z.2.1⟩
set_option maxHeartbeats 4000000 in
set_option maxRecDepth 100000 in
theorem m_X13_init {w : KW} {n : KN} {α : KA} {K : KS} (t st ph : Int) (ht : 0 ≤ t ∧ t < n 13) (hst : 0 ≤ st ∧ st < n 11) : KM w yX13_init cX13_init 3 none { frames := 1, cells := 0, slots := 0, locals := 12 } (3, 0) [.ref (α 13 t), .ref (α 11 st), .int (iI ph)] n α K (fun r n' α' K' => n = n' ∧ α = α' ∧ (up3 (up3 (up3 K 13 t 3 1) 13 t 0 st) 13 t 2 ph) = K' ∧ (True)) := by
  refine y_start (by decide) (Nat.le_of_ble_eq_true rfl) (fun x hE hQ => ?_)
  have hw := hQ.2
  subst hw
  have hE : YE x cX13_init RX13 none "<init>" 3 { frames := 1, cells := 0, slots := 0, locals := 12 } := hE
  refine y_wk (fun hWK => ?_)
  have hn0 := hWK.1
  refine y_bud (bc' := 0) (bs' := 0) (Nat.le_refl _) (Nat.le_refl _) ?_
  refine y_to (lv' := [(0, .ref (α 13 t)), (1, .ref (α 11 st)), (2, .int (iI ph))]) (st' := []) rfl rfl rfl ?_
  refine y_aload_n hE rfl 0 rfl dX13_init_0 ?_
  refine y_objInit hE q698 q_oi1 q_oi2 (Nat.le_of_ble_eq_true rfl) (Nat.le_of_ble_eq_true rfl) dX13_init_1 ?_
  refine y_aload_n hE rfl 0 rfl dX13_init_4 ?_
  refine y_iconst hE dX13_init_5 ?_
  refine pX13_9 hE ht (by omega) dX13_init_6 ?_
  refine y_aload_n hE rfl 0 rfl dX13_init_9 ?_
  refine y_aload_n hE rfl 1 rfl dX13_init_10 ?_
  refine pX13_15r hE rfl ht hst dX13_init_11 ?_
  refine y_aload_n hE rfl 0 rfl dX13_init_14 ?_
  refine y_iload_n hE rfl 2 rfl dX13_init_15 ?_
  refine pX13_19 hE ht dX13_init_16 ?_
  exact y_vret (r := 0) hE rfl hQ dX13_init_19 Ext.rf ⟨rfl, rfl, rfl, trivial⟩
set_option maxHeartbeats 4000000 in
set_option maxRecDepth 100000 in
theorem m_X13_advance {w : KW} {n : KN} {α : KA} {K : KS} (t step : Int) (ht : 0 ≤ t ∧ t < n 13) (h1 : 0 ≤ K 13 t 1 ∧ K 13 t 1 ≤ 1000000000) (h2 : 0 ≤ K 13 t 2 ∧ K 13 t 2 ≤ 1000000) (hs0 : 0 ≤ K 13 t 0) (hsp : 0 ≤ step ∧ step ≤ 1000000000) (hlo : K 11 (K 13 t 0) 3 = 0 ∨ K 11 (K 13 t 0) 3 = 1) : KM w yX13_advance cX13_advance 5 none { frames := 1, cells := 0, slots := 0, locals := 20 } (3, 0) [.ref (α 13 t), .long (iL step)] n α K (fun r n' α' K' => n = n' ∧ α = α' ∧ (KO K K' (fun k i => k = 13 ∧ i = t) ∧ K' 13 t 0 = K 13 t 0 ∧ K' 13 t 1 = (if K 11 (K 13 t 0) 3 = 0 then K 13 t 1 else K 13 t 1 + (K 13 t 2 + step) / 1000000) ∧ K' 13 t 2 = (if K 11 (K 13 t 0) 3 = 0 then min 1000000 (K 13 t 2 + step) else (K 13 t 2 + step) % 1000000) ∧ K' 13 t 3 = K 13 t 3 ∧ K' 13 t 4 = K 13 t 1 * 1000000 + K 13 t 2)) := by
  refine y_start (by decide) (Nat.le_of_ble_eq_true rfl) (fun x hE hQ => ?_)
  have hw := hQ.2
  subst hw
  have hE : YE x cX13_advance RX13 none "advance" 5 { frames := 1, cells := 0, slots := 0, locals := 20 } := hE
  refine y_wk (fun hWK => ?_)
  have hn0 := hWK.1
  refine y_bud (bc' := 0) (bs' := 0) (Nat.le_refl _) (Nat.le_refl _) ?_
  refine y_to (lv' := [(0, .ref (α 13 t)), (1, .long (iL step))]) (st' := []) rfl rfl rfl ?_
  refine y_aload_n hE rfl 0 rfl dX13_advance_0 ?_
  refine y_aload_n hE rfl 0 rfl dX13_advance_1 ?_
  refine y_callV hE (m_X13_progress t ht h1 h2) (lw_V q2432 q2361 q2362 q146 q2363) (nA := 0) (by decide +kernel) rfl ⟨Nat.le_of_ble_eq_true rfl, Nat.le_of_ble_eq_true rfl⟩ (hdd := rfl) (hcc := rfl) (hq := rfl) (hi := ht) (rest := [.ref (α 13 t)]) rfl (by simp [refV_cat, Value.category]) dX13_advance_2 (bc' := 0) (bs' := 0) (Nat.le_refl _) (Nat.le_refl _) (fun r_2 n_2 α_2 K_2 hx_2 hp_2 => ?_)
  obtain ⟨rfl, rfl, rfl, hr_2⟩ := hp_2
  refine y_to (st' := [.long (iL r_2), .ref (α 13 t)]) rfl rfl rfl ?_
  refine pX13_29 hE ht dX13_advance_5 ?_
  refine y_aload_n hE rfl 0 rfl dX13_advance_8 ?_
  refine gX13_19 (z := K 13 t 2) hE ht rfl dX13_advance_9 ?_
  refine y_i2l hE (by omega) dX13_advance_12 ?_
  refine y_lload_n hE rfl 1 rfl dX13_advance_13 ?_
  refine y_ladd hE dX13_advance_14 ?_
  refine y_lstore_n hE rfl [(3, .long (iL ((K 13 t 2) + step))), (0, .ref (α 13 t)), (1, .long (iL step))] (by decide) rfl dX13_advance_15 ?_
  refine y_aload_n hE rfl 1 rfl dX13_advance_16 ?_
  refine gX13_15r (z := K 13 t 0) hE ht rfl (by omega) dX13_advance_17 (fun hl_17 => ?_)
  refine gX13_39 (z := K 11 (K 13 t 0) 3) hE hl_17 rfl dX13_advance_20 ?_
  refine y_if_eq hE 54 (by decide) (by omega) dX13_advance_23 (fun c_23 => ?_) (fun c_23 => ?_)
  · refine y_aload_n hE rfl 1 rfl dX13_advance_54 ?_
    refine y_ldc2 hE 1000000 (v := 1000000) (by decide) q2364 dX13_advance_55 ?_
    refine y_lload_n hE rfl 0 rfl dX13_advance_58 ?_
    refine y_mminL hE q2433 (by omega) (by omega) (Nat.le_of_ble_eq_true rfl) (Nat.le_of_ble_eq_true rfl) dX13_advance_59 ?_
    refine y_l2i hE dX13_advance_62 ?_
    refine pX13_19 hE ht dX13_advance_63 ?_
    refine y_vret (r := 0) hE rfl hQ dX13_advance_66 Ext.rf ?_
    refine ⟨rfl, rfl, fun k i h f => by simp only [up3_ko h], ?_⟩
    simp [up3, c_23, hr_2]
  · refine y_aload_n hE rfl 1 rfl dX13_advance_26 ?_
    refine y_dup hE rfl dX13_advance_27 ?_
    refine gX13_26 (z := K 13 t 1) hE ht rfl dX13_advance_28 ?_
    refine y_lload_n hE rfl 0 rfl dX13_advance_31 ?_
    refine y_ldc2 hE 1000000 (v := 1000000) (by decide) q2364 dX13_advance_32 ?_
    refine y_ldiv hE (by omega) (by omega) dX13_advance_35 ?_
    refine y_l2i hE dX13_advance_36 ?_
    refine y_iadd hE dX13_advance_37 ?_
    refine pX13_26 hE ht dX13_advance_38 ?_
    refine y_aload_n hE rfl 1 rfl dX13_advance_41 ?_
    refine y_lload_n hE rfl 0 rfl dX13_advance_42 ?_
    refine y_ldc2 hE 1000000 (v := 1000000) (by decide) q2364 dX13_advance_43 ?_
    refine y_lrem hE (by omega) (by omega) dX13_advance_46 ?_
    refine y_l2i hE dX13_advance_47 ?_
    refine pX13_19 hE ht dX13_advance_48 ?_
    refine y_goto hE 66 (by decide) dX13_advance_51 ?_
    refine y_vret (r := 0) hE rfl hQ dX13_advance_66 Ext.rf ?_
    refine ⟨rfl, rfl, fun k i h f => by simp only [up3_ko h], ?_⟩
    simp [up3, c_23, hr_2]
set_option maxHeartbeats 4000000 in
set_option maxRecDepth 100000 in
theorem m_X13_passed {w : KW} {n : KN} {α : KA} {K : KS} (t z : Int) (ht : 0 ≤ t ∧ t < n 13) (h1 : 0 ≤ K 13 t 1 ∧ K 13 t 1 ≤ 1000000000) (h2 : 0 ≤ K 13 t 2 ∧ K 13 t 2 ≤ 1000000) (h4 : 0 ≤ K 13 t 4 ∧ K 13 t 4 ≤ 2000000000000000) (h3 : K 13 t 3 = 0 ∨ K 13 t 3 = 1) (hs0 : 0 ≤ K 13 t 0) (hlo : K 11 (K 13 t 0) 3 = 0 ∨ K 11 (K 13 t 0) 3 = 1) (hz : 0 ≤ z ∧ z ≤ 1000000) : KM w yX13_passed cX13_passed 6 (some (.boolean)) { frames := 1, cells := 0, slots := 0, locals := 25 } (0, 0) [.ref (α 13 t), .int (iI z)] n α K (fun r n' α' K' => n = n' ∧ α = α' ∧ K = K' ∧ ((r = 1 ∧ ((if K 11 (K 13 t 0) 3 = 0 then (if K 13 t 3 = 0 then K 13 t 4 + 1 else K 13 t 4) ≤ z ∧ z ≤ (K 13 t 1 * 1000000 + K 13 t 2) else z ≤ (K 13 t 1 * 1000000 + K 13 t 2) ∧ (if K 13 t 3 = 0 then K 13 t 4 + 1 else K 13 t 4) ≤ ((K 13 t 1 * 1000000 + K 13 t 2) - z) / 1000000 * 1000000 + z)) ∨ r = 0 ∧ ¬ ((if K 11 (K 13 t 0) 3 = 0 then (if K 13 t 3 = 0 then K 13 t 4 + 1 else K 13 t 4) ≤ z ∧ z ≤ (K 13 t 1 * 1000000 + K 13 t 2) else z ≤ (K 13 t 1 * 1000000 + K 13 t 2) ∧ (if K 13 t 3 = 0 then K 13 t 4 + 1 else K 13 t 4) ≤ ((K 13 t 1 * 1000000 + K 13 t 2) - z) / 1000000 * 1000000 + z))))) := by
  refine y_start (by decide) (Nat.le_of_ble_eq_true rfl) (fun x hE hQ => ?_)
  have hw := hQ.2
  subst hw
  have hE : YE x cX13_passed RX13 (some (.boolean)) "passed" 6 { frames := 1, cells := 0, slots := 0, locals := 25 } := hE
  refine y_wk (fun hWK => ?_)
  have hn0 := hWK.1
  refine y_bud (bc' := 0) (bs' := 0) (Nat.le_refl _) (Nat.le_refl _) ?_
  refine y_to (lv' := [(0, .ref (α 13 t)), (1, .int (iI z))]) (st' := []) rfl rfl rfl ?_
  refine y_aload_n hE rfl 0 rfl dX13_passed_0 ?_
  refine gX13_9 (z := K 13 t 3) hE ht rfl dX13_passed_1 ?_
  have J20 : ∀ (lst : Int), (lst = (if K 13 t 3 = 0 then K 13 t 4 + 1 else K 13 t 4)) → Y x n α K 0 0 20 [(0, .ref (α 13 t)), (1, .int (iI z))] [.long (iL lst)] := by
    intro lst hlst
    have hlb : 0 ≤ lst ∧ lst ≤ 2000000000000001 := by rw [hlst]; split <;> omega
    refine y_lstore_n hE rfl [(2, .long (iL lst)), (0, .ref (α 13 t)), (1, .int (iI z))] (by decide) rfl dX13_passed_20 ?_
    refine y_aload_n hE rfl 1 rfl dX13_passed_21 ?_
    refine y_callV hE (m_X13_progress t ht h1 h2) (lw_V q2432 q2361 q2362 q146 q2363) (nA := 0) (by decide +kernel) rfl ⟨Nat.le_of_ble_eq_true rfl, Nat.le_of_ble_eq_true rfl⟩ (hdd := rfl) (hcc := rfl) (hq := rfl) (hi := ht) (rest := []) rfl (by decide) dX13_passed_22 (bc' := 0) (bs' := 0) (Nat.le_refl _) (Nat.le_refl _) (fun r_22 n_22 α_22 K_22 hx_22 hp_22 => ?_)
    obtain ⟨rfl, rfl, rfl, hr_22⟩ := hp_22
    refine y_to (st' := [.long (iL r_22)]) rfl rfl rfl ?_
    refine y_lstore hE [(4, .long (iL r_22)), (2, .long (iL lst)), (0, .ref (α 13 t)), (1, .int (iI z))] (by decide) rfl dX13_passed_25 ?_
    refine y_aload_n hE rfl 2 rfl dX13_passed_27 ?_
    refine gX13_15r (z := K 13 t 0) hE ht rfl (by omega) dX13_passed_28 (fun hl_28 => ?_)
    refine gX13_39 (z := K 11 (K 13 t 0) 3) hE hl_28 rfl dX13_passed_31 ?_
    refine y_if_ne hE 46 (by decide) (by omega) dX13_passed_34 (fun c_34 => ?_) (fun c_34 => ?_)
    · have J80 : ∀ (b : Int), (b = 1 ∧ z ≤ r_22 ∧ lst ≤ (r_22 - z) / 1000000 * 1000000 + z ∨ b = 0 ∧ ¬ (z ≤ r_22 ∧ lst ≤ (r_22 - z) / 1000000 * 1000000 + z)) → Y x n α K 0 0 80 [(4, .long (iL r_22)), (2, .long (iL lst)), (0, .ref (α 13 t)), (1, .int (iI z))] [.int (iI b)] := by
        intro b hb
        refine y_iret hE rfl (nar_b (by omega)).1 hQ dX13_passed_80 Ext.rf ?_
        refine ⟨rfl, rfl, rfl, ?_⟩
        rw [← hlst, ← hr_22, if_neg c_34]
        omega
      refine y_lload hE 0 rfl dX13_passed_46 ?_
      refine y_iload_n hE rfl 3 rfl dX13_passed_48 ?_
      refine y_i2l hE (by omega) dX13_passed_49 ?_
      refine y_lcmp_lt hE 79 (by decide) (by omega) (by omega) dX13_passed_50 dX13_passed_51 (fun c_50 => ?_) (fun c_50 => ?_)
      · refine y_iconst hE dX13_passed_79 ?_
        exact J80 0 (by omega)
      · refine y_lload hE 0 rfl dX13_passed_54 ?_
        refine y_iload_n hE rfl 3 rfl dX13_passed_56 ?_
        refine y_i2l hE (by omega) dX13_passed_57 ?_
        refine y_lsub hE dX13_passed_58 ?_
        refine y_ldc2 hE 1000000 (v := 1000000) (by decide) q2364 dX13_passed_59 ?_
        refine y_ldiv hE (by omega) (by omega) dX13_passed_62 ?_
        refine y_ldc2 hE 1000000 (v := 1000000) (by decide) q2364 dX13_passed_63 ?_
        refine y_lmul hE dX13_passed_66 ?_
        refine y_iload_n hE rfl 3 rfl dX13_passed_67 ?_
        refine y_i2l hE (by omega) dX13_passed_68 ?_
        refine y_ladd hE dX13_passed_69 ?_
        refine y_lload_n hE rfl 1 rfl dX13_passed_70 ?_
        refine y_lcmp_lt hE 79 (by decide) (by omega) (by omega) dX13_passed_71 dX13_passed_72 (fun c_71 => ?_) (fun c_71 => ?_)
        · refine y_iconst hE dX13_passed_79 ?_
          exact J80 0 (by omega)
        · refine y_iconst hE dX13_passed_75 ?_
          refine y_goto hE 80 (by decide) dX13_passed_76 ?_
          exact J80 1 (by omega)
    · refine y_iload_n hE rfl 3 rfl dX13_passed_37 ?_
      refine y_i2l hE (by omega) dX13_passed_38 ?_
      refine y_lload_n hE rfl 1 rfl dX13_passed_39 ?_
      refine y_lload hE 0 rfl dX13_passed_40 ?_
      refine y_callSN hE (m_X1_in z lst r_22 (by omega) (by omega) (by omega)) q2457 q1024 q108 q1025 (nA := 3) (by decide +kernel) rfl ⟨Nat.le_of_ble_eq_true rfl, Nat.le_of_ble_eq_true rfl⟩ (rest := []) rfl (by decide) dX13_passed_42 (bc' := 0) (bs' := 0) (Nat.le_refl _) (Nat.le_refl _) (fun r_42 n_42 α_42 K_42 hx_42 hp_42 => ?_)
      obtain ⟨rfl, rfl, rfl, hr_42⟩ := hp_42
      refine y_to (st' := [.int (iI r_42)]) rfl rfl rfl ?_
      refine y_iret hE rfl (nar_b (by omega)).1 hQ dX13_passed_45 Ext.rf ?_
      refine ⟨rfl, rfl, rfl, ?_⟩
      rw [← hlst, ← hr_22, if_pos c_34]
      omega
  refine y_if_eq hE 14 (by decide) (by omega) dX13_passed_4 (fun c_4 => ?_) (fun c_4 => ?_)
  · refine y_aload_n hE rfl 0 rfl dX13_passed_14 ?_
    refine gX13_29 (z := K 13 t 4) hE ht rfl dX13_passed_15 ?_
    refine y_lconst hE 1 (by decide) dX13_passed_18 ?_
    refine y_ladd hE dX13_passed_19 ?_
    exact J20 ((K 13 t 4) + 1) (by simp [c_4])
  · refine y_aload_n hE rfl 0 rfl dX13_passed_7 ?_
    refine gX13_29 (z := K 13 t 4) hE ht rfl dX13_passed_8 ?_
    refine y_goto hE 20 (by decide) dX13_passed_11 ?_
    exact J20 (K 13 t 4) (by simp [c_4])
