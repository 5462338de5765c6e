set_option linter.unusedVariables false
theorem st_nd {S : SS} (hW : WFs S) {s : Int} (hs : 0 ≤ s ∧ s < S 19 0) : NdOk S (S 15 s) := by
  have h := hW.st s hs.1 hs.2
  exact ⟨h.1, h.2.1, h.2.2.1⟩
theorem sumTo_s {g : Int → Int} {k : Int} (h : 0 ≤ k) : sumTo g (k + 1).toNat = sumTo g k.toNat + g k := by
  rw [show (k + 1).toNat = k.toNat + 1 by omega, sumTo, show ((k.toNat : Nat) : Int) = k by omega]
theorem sumTo_nn {g : Int → Int} (hg : ∀ j : Int, 0 ≤ g j) : ∀ k : Nat, 0 ≤ sumTo g k
  | 0 => Int.le_refl _
  | k + 1 => by have := sumTo_nn hg k; have := hg k; rw [sumTo]; omega
theorem sumTo_mono {g : Int → Int} (hg : ∀ j : Int, 0 ≤ g j) {k : Nat} : ∀ d : Nat, sumTo g k ≤ sumTo g (k + d)
  | 0 => Int.le_refl _
  | d + 1 => by have := sumTo_mono hg (k := k) d; have := hg ((k + d : Nat) : Int); rw [show k + (d + 1) = k + d + 1 by omega, sumTo]; omega
theorem sumTo_le {g l : Int → Int} {m : Int} (hg : ∀ j : Int, 0 ≤ g j) : ∀ k : Nat, (∀ j : Int, 0 ≤ j → j < k → 0 ≤ l j ∧ l j ≤ m) → 0 ≤ sumTo (fun c => g c * l c) k ∧ sumTo (fun c => g c * l c) k ≤ sumTo g k * m
  | 0, _ => by rw [sumTo, sumTo, Int.zero_mul]; exact ⟨Int.le_refl _, Int.le_refl _⟩
  | k + 1, h => by
    have h1 := sumTo_le hg k (fun j a b => h j a (by omega))
    have h2 := h k (by omega) (by omega)
    have h3 := Int.mul_le_mul_of_nonneg_left h2.2 (hg k)
    have h4 := Int.mul_nonneg (hg k) h2.1
    rw [sumTo, sumTo, Int.add_mul]
    omega
/-- the length of a state's blend -/
def lsum (S : SS) (s : Int) : Int := sumTo (fun c => wt S 4 (S 15 s) 1000000 c * S 4 c) (S 8 0).toNat
def lenS (S : SS) (s : Int) : Int := if lsum S s / 1000000 < 1 then 1 else lsum S s / 1000000
theorem lpart_in {S : SS} (hW : WFs S) {s : Int} (hs : 0 ≤ s ∧ s < S 19 0) {c : Int} (hc : 0 ≤ c ∧ c ≤ S 8 0) : 0 ≤ sumTo (fun c => wt S 4 (S 15 s) 1000000 c * S 4 c) c.toNat ∧ sumTo (fun c => wt S 4 (S 15 s) 1000000 c * S 4 c) c.toNat ≤ 500000000 := by
  obtain ⟨D, hD⟩ : ∃ D, DOk S D := hW.dep
  have hn := st_nd hW hs
  have hcl := hW.clips
  have hg : ∀ j : Int, 0 ≤ wt S 4 (S 15 s) 1000000 j := fun j => (wt_nn hW hD 4 _ _ j hn).1
  have h1 := sumTo_le (l := S 4) (m := 500) hg c.toNat (fun j a b => by have := hW.len j a (by omega); omega)
  have h2 := sumTo_mono hg (k := c.toNat) (12 - c.toNat)
  rw [show c.toNat + (12 - c.toNat) = 12 by omega] at h2
  have h3 := wt_sum hW hD 4 (S 15 s) 1000000 hn (by omega)
  omega
theorem lenS_in {S : SS} (hW : WFs S) {s : Int} (hs : 0 ≤ s ∧ s < S 19 0) : 1 ≤ lenS S s ∧ lenS S s ≤ 500 := by
  have hcl := hW.clips
  have h := lpart_in hW hs (c := S 8 0) ⟨by omega, Int.le_refl _⟩
  rw [← lsum] at h
  unfold lenS
  split <;> omega
def oLen (S : SS) (s : Int) : Int × Int × SS := if ¬ (0 ≤ s ∧ s < S 19 0) then (1, 0, S) else (0, lenS S s, S)
def oPart (S : SS) (s c : Int) : Int × Int × SS := if ¬ (0 ≤ s ∧ s < S 19 0 ∧ 0 ≤ c ∧ c < S 8 0) then (1, 0, S) else (0, wt S 4 (S 15 s) 1000000 c, S)
def stpS (S : SS) (s : Int) : Int := 1000000 * S 16 s / (100 * lenS S s)
def shS (S : SS) : Int := 1000000 * S 0 10 / S 20 (17 * S 0 9 + 2)
theorem shS_in {S : SS} (h : 0 ≤ S 0 10 ∧ S 0 10 ≤ S 20 (17 * S 0 9 + 2) ∧ 0 < S 20 (17 * S 0 9 + 2)) : 0 ≤ shS S ∧ shS S ≤ 1000000 := by
  unfold shS
  exact ⟨Int.ediv_nonneg (by omega) (by omega), Int.ediv_le_of_le_mul (by omega) (by have := Int.mul_le_mul_of_nonneg_left h.2.1 (show (0 : Int) ≤ 1000000 by omega); omega)⟩
theorem stpS_in {S : SS} (hW : WFs S) {s : Int} (hs : 0 ≤ s ∧ s < S 19 0) : 0 ≤ stpS S s ∧ stpS S s ≤ 4000000 := by
  have h := lenS_in hW hs
  have h2 := hW.st s hs.1 hs.2
  unfold stpS
  exact ⟨Int.ediv_nonneg (by omega) (by omega), Int.ediv_le_of_le_mul (by omega) (by omega)⟩
set_option maxHeartbeats 4000000 in
set_option maxRecDepth 100000 in
theorem m_X4_lengthOf {w : KW} {n : KN} {α : KA} {K : KS} (S : SS) (s : Int) (h40 : (0 : Int) ≤ 0 ∧ 0 < n 4) (hM : MRep S n K) (hW : WFs S) (hv0 : WFv S) (hs : 0 ≤ s ∧ s < S 19 0) : KM w yX4_lengthOf cX4_lengthOf 5 (some (.long)) { frames := 2, cells := 0, slots := 0, locals := 56 } (1, 0) [.ref (α 4 0), .int (iI s)] n α K (fun r n' α' K' => n = n' ∧ α = α' ∧ MRep (S) n K' ∧ KO K K' (fun k _ => k = 127 ∨ k = 128 ∨ k = 129) ∧ (r = lenS S s ∧ 1 ≤ r ∧ r ≤ 500)) := by
  refine y_start (by decide) (Nat.le_of_ble_eq_true rfl) (fun x hE hQ => ?_)
  have hw := hQ.2
  subst hw
  have hE : YE x cX4_lengthOf RX4 (some (.long)) "lengthOf" 5 { frames := 2, cells := 0, slots := 0, locals := 56 } := hE
  refine y_wk (fun hWK => ?_)
  have hn0 := hWK.1
  refine y_bud (bc' := 0) (bs' := 0) (Nat.le_refl _) (Nat.le_refl _) ?_
  refine y_to (lv' := [(0, .ref (α 4 0)), (1, .int (iI s))]) (st' := []) rfl rfl rfl ?_
  have wpar := hW.par
  have wclips := hW.clips
  have wnodes := hW.nodes
  have wsts := hW.sts
  have wtrs := hW.trs
  have wthr := hW.thr
  have wtxt := hW.txt
  have ws := hW.st s hs.1 hs.2
  have hli := lenS_in hW hs
  refine y_aload_n hE rfl 0 rfl dX4_lengthOf_0 ?_
  refine y_aload_n hE rfl 0 rfl dX4_lengthOf_1 ?_
  refine gX4_47r (z := 0) hE h40 (MObj.r hM.1 15 (by decide)) (by omega) dX4_lengthOf_2 (fun hl_2 => ?_)
  refine y_iload_n hE rfl 1 rfl dX4_lengthOf_5 ?_
  refine y_iald hE rfl hl_2 (by have hL : K 115 0 (-1) = 10 := (MObj.l hM.1 15 (by decide)); omega) dX4_lengthOf_6 ?_
  refine y_to (st' := [.int (iI (S 15 s)), .ref (α 4 0)]) rfl rfl (by rw [show K 115 0 s = S 15 s from (MRep.ra hM 15 rfl (by omega) (by first | omega | (show _ < (10 : Int); omega)))]) ?_
  refine y_ldc2 hE 1000000 (v := 1000000) (by decide) q3052 dX4_lengthOf_7 ?_
  have hnd := st_nd hW hs
  refine y_callV hE (m_X4_blends S (S 15 s) 1000000 h40 hM (by first | exact hW | omega) (by first | exact hv0 | omega) (by assumption) (by omega)) (lw_V q3057 q3059 qs78 q133 q3060) (nA := 2) (by decide +kernel) rfl ⟨Nat.le_of_ble_eq_true rfl, Nat.le_of_ble_eq_true rfl⟩ (hdd := rfl) (hcc := rfl) (hq := rfl) (hi := h40) (rest := []) rfl (by decide) dX4_lengthOf_10 (bc' := 0) (bs' := 0) (Nat.le_refl _) (Nat.le_refl _) (fun r_10 n_10 α_10 K_10 hx_10 hp_10 => ?_)
  obtain ⟨rfl, rfl, hM_10, hk_10, hr_10⟩ := hp_10
  refine y_to (st' := []) rfl rfl rfl ?_
  refine y_lconst hE 0 (by decide) dX4_lengthOf_13 ?_
  refine y_lstore_n hE rfl [(2, .long (iL 0)), (0, .ref (α 4 0)), (1, .int (iI s))] (by decide) rfl dX4_lengthOf_14 ?_
  refine y_iconst hE dX4_lengthOf_15 ?_
  refine y_istore hE [(4, .int (iI 0)), (2, .long (iL 0)), (0, .ref (α 4 0)), (1, .int (iI s))] (by decide) rfl dX4_lengthOf_16 ?_
  have L18 : ∀ (fuel : Nat) (c sm : Int), (0 ≤ c ∧ c ≤ S 8 0) → (sm = sumTo (fun c => wt S 4 (S 15 s) 1000000 c * S 4 c) c.toNat) → (S 8 0 - c).toNat < fuel → Y x n α K_10 0 0 18 [(4, .int (iI c)), (2, .long (iL sm)), (0, .ref (α 4 0)), (1, .int (iI s))] [] := by
    intro fuel18
    induction fuel18 with
    | zero => intro c sm hk hsm hfu18; exact absurd hfu18 (Nat.not_lt_zero _)
    | succ fuel18 ih18 =>
      intro c sm hk hsm hfu18
      have hsb := lpart_in hW hs hk
      rw [← hsm] at hsb
      refine y_iload hE 0 rfl dX4_lengthOf_18 ?_
      refine y_aload_n hE rfl 2 rfl dX4_lengthOf_20 ?_
      refine gX4_120 (z := S 8 0) hE h40 (hM_10.2.2.2.1) dX4_lengthOf_21 ?_
      refine y_icmp_ge hE 52 (by decide) (by omega) (by omega) dX4_lengthOf_24 (fun c_24 => ?_) (fun c_24 => ?_)
      · rw [show c = S 8 0 by omega, ← lsum] at hsm
        refine y_lload_n hE rfl 1 rfl dX4_lengthOf_52 ?_
        refine y_ldc2 hE 1000000 (v := 1000000) (by decide) q3052 dX4_lengthOf_53 ?_
        refine y_ldiv hE (by omega) (by omega) dX4_lengthOf_56 ?_
        refine y_lconst hE 1 (by decide) dX4_lengthOf_57 ?_
        refine y_lcmp_ge hE 66 (by decide) (by omega) (by omega) dX4_lengthOf_58 dX4_lengthOf_59 (fun c_58 => ?_) (fun c_58 => ?_)
        · refine y_lload_n hE rfl 1 rfl dX4_lengthOf_66 ?_
          refine y_ldc2 hE 1000000 (v := 1000000) (by decide) q3052 dX4_lengthOf_67 ?_
          refine y_ldiv hE (by omega) (by omega) dX4_lengthOf_70 ?_
          exact y_lret hE rfl hQ dX4_lengthOf_71 Ext.rf ⟨rfl, rfl, hM_10, hk_10, by unfold lenS; rw [← hsm]; first | rw [if_pos (by omega)] | rw [if_neg (by omega)], by omega, by omega⟩
        · refine y_lconst hE 1 (by decide) dX4_lengthOf_62 ?_
          refine y_goto hE 71 (by decide) dX4_lengthOf_63 ?_
          exact y_lret hE rfl hQ dX4_lengthOf_71 Ext.rf ⟨rfl, rfl, hM_10, hk_10, by unfold lenS; rw [← hsm]; first | rw [if_pos (by omega)] | rw [if_neg (by omega)], by omega, by omega⟩
      · have wl := hW.len c (by omega) (by omega)
        refine y_lload_n hE rfl 1 rfl dX4_lengthOf_27 ?_
        refine y_aload_n hE rfl 2 rfl dX4_lengthOf_28 ?_
        refine gX4_72r (z := 0) hE h40 (MObj.r hM_10.1 27 (by decide)) (by omega) dX4_lengthOf_29 (fun hl_29 => ?_)
        refine y_iload hE 0 rfl dX4_lengthOf_32 ?_
        refine y_lald hE rfl hl_29 (by have hL : K_10 127 0 (-1) = 12 := (MObj.l hM_10.1 27 (by decide)); omega) dX4_lengthOf_34 ?_
        refine y_aload_n hE rfl 2 rfl dX4_lengthOf_35 ?_
        refine gX4_20r (z := 0) hE h40 (MObj.r hM_10.1 4 (by decide)) (by omega) dX4_lengthOf_36 (fun hl_36 => ?_)
        refine y_iload hE 0 rfl dX4_lengthOf_39 ?_
        refine y_iald hE rfl hl_36 (by have hL : K_10 104 0 (-1) = 12 := (MObj.l hM_10.1 4 (by decide)); omega) dX4_lengthOf_41 ?_
        refine y_to (st' := [.int (iI (S 4 c)), .long (iL (K_10 127 0 c)), .long (iL sm)]) rfl rfl (by rw [show K_10 104 0 c = S 4 c from (MRep.ra hM_10 4 rfl (by omega) (by first | omega | (show _ < (12 : Int); omega)))]) ?_
        refine y_i2l hE (by omega) dX4_lengthOf_42 ?_
        refine y_lmul hE dX4_lengthOf_43 ?_
        refine y_ladd hE dX4_lengthOf_44 ?_
        refine y_lstore_n hE rfl [(2, .long (iL (sm + ((K_10 127 0 c) * (S 4 c))))), (4, .int (iI c)), (0, .ref (α 4 0)), (1, .int (iI s))] (by decide) rfl dX4_lengthOf_45 ?_
        refine y_iinc hE 1 rfl [(4, .int (iI (c + 1))), (2, .long (iL (sm + ((K_10 127 0 c) * (S 4 c))))), (0, .ref (α 4 0)), (1, .int (iI s))] (by decide) rfl dX4_lengthOf_46 ?_
        refine y_goto hE 18 (by decide) dX4_lengthOf_49 ?_
        exact ih18 (c + 1) (sm + ((K_10 127 0 c) * (S 4 c))) (by omega) (by rw [sumTo_s (by omega), ← hsm, hr_10 c (by omega) (by omega)]) (by omega)
  exact L18 _ 0 0 (by omega) (rfl) (Nat.lt_succ_self _)
set_option maxHeartbeats 4000000 in
set_option maxRecDepth 100000 in
theorem m_X4_stateLength {w : KW} {n : KN} {α : KA} {K : KS} (S : SS) (T : Int) (s : Int) (h40 : (0 : Int) ≤ 0 ∧ 0 < n 4) (hM : MRep S n K) (hW : WFs S) (hX : WFm S 0 T) (hv0 : WFv S) (hs0 : -2147483648 ≤ s ∧ s ≤ 2147483647) : KM w yX4_stateLength cX4_stateLength 2 (some (.int)) { frames := 3, cells := 0, slots := 0, locals := 80 } (0, 0) [.ref (α 4 0), .int (iI s)] n α K (fun r n' α' K' => n = n' ∧ α = α' ∧ (MRep (oLen S s).2.2 n K' ∧ KO K K' MK ∧ K' 4 0 25 = (oLen S s).1 ∧ r = (oLen S s).2.1)) := by
  refine y_start (by decide) (Nat.le_of_ble_eq_true rfl) (fun x hE hQ => ?_)
  have hw := hQ.2
  subst hw
  have hE : YE x cX4_stateLength RX4 (some (.int)) "stateLength" 2 { frames := 3, cells := 0, slots := 0, locals := 80 } := hE
  refine y_wk (fun hWK => ?_)
  have hn0 := hWK.1
  refine y_bud (bc' := 0) (bs' := 0) (Nat.le_refl _) (Nat.le_refl _) ?_
  refine y_to (lv' := [(0, .ref (α 4 0)), (1, .int (iI s))]) (st' := []) rfl rfl rfl ?_
  have wpar := hW.par
  have wclips := hW.clips
  have wnodes := hW.nodes
  have wsts := hW.sts
  have wtrs := hW.trs
  have wthr := hW.thr
  have wtxt := hW.txt
  have xinn := hX.inn
  have xcuts := hX.cuts
  have xfro := hX.fro
  have xmany := hX.many
  have xevn := hX.evn
  have xtks := hX.tks
  simp only [Int.zero_add] at xinn xcuts xfro xmany xevn xtks
  refine y_aload_n hE rfl 0 rfl dX4_stateLength_0 ?_
  refine y_iconst hE dX4_stateLength_1 ?_
  refine pX4_94 hE h40 dX4_stateLength_2 ?_
  refine y_aload_n hE rfl 0 rfl dX4_stateLength_5 ?_
  refine y_iload_n hE rfl 1 rfl dX4_stateLength_6 ?_
  refine y_callV hE (m_X4_isState S s h40 (MRep.t hM 25 (by decide) 0) (by omega) (by omega)) (lw_V q2945 q2947 qs61 q133 q2948) (nA := 1) (by decide +kernel) rfl ⟨Nat.le_of_ble_eq_true rfl, Nat.le_of_ble_eq_true rfl⟩ (hdd := rfl) (hcc := rfl) (hq := rfl) (hi := h40) (rest := []) rfl (by decide) dX4_stateLength_7 (bc' := 0) (bs' := 0) (Nat.le_refl _) (Nat.le_refl _) (fun r_7 n_7 α_7 K_7 hx_7 hp_7 => ?_)
  obtain ⟨rfl, rfl, rfl, hr_7⟩ := hp_7
  refine y_to (st' := [.int (iI r_7)]) rfl rfl rfl ?_
  refine y_if_eq hE 22 (by decide) (by omega) dX4_stateLength_10 (fun c_10 => ?_) (fun c_10 => ?_)
  · refine y_aload_n hE rfl 0 rfl dX4_stateLength_22 ?_
    refine y_iconst hE dX4_stateLength_23 ?_
    refine y_callV hE (m_X4_fails 1 h40) (lw_V q2871 q2873 qs53 q133 q2874) (nA := 1) (by decide +kernel) rfl ⟨Nat.le_of_ble_eq_true rfl, Nat.le_of_ble_eq_true rfl⟩ (hdd := rfl) (hcc := rfl) (hq := rfl) (hi := h40) (rest := []) rfl (by decide) dX4_stateLength_24 (bc' := 0) (bs' := 0) (Nat.le_refl _) (Nat.le_refl _) (fun r_24 n_24 α_24 K_24 hx_24 hp_24 => ?_)
    obtain ⟨rfl, rfl, rfl, hr_24⟩ := hp_24
    refine y_to (st' := [.int (iI r_24)]) rfl rfl rfl ?_
    refine y_iret hE rfl rfl hQ dX4_stateLength_27 Ext.rf ?_
    refine ⟨rfl, rfl, ?_⟩
    unfold oLen
    (repeat (first | rw [if_pos (by omega)] | rw [if_neg (by omega)]))
    exact ⟨(MRep.t (MRep.t hM 25 (by decide) 0) 25 (by decide) 1), (KO.up (KO.up KO.rf (by unfold MK; decide)) (by unfold MK; decide)), by first | (simp [up3]; done) | (rw [hk4]; simp [up3]), by first | rfl | (dsimp only; omega)⟩
  · refine y_aload_n hE rfl 0 rfl dX4_stateLength_13 ?_
    refine y_iload_n hE rfl 1 rfl dX4_stateLength_14 ?_
    have hz4 : (up3 K 4 0 25 0) 4 0 25 = 0 := by first | (simp [up3]; done) | (simp [up3]; assumption)
    refine y_callV hE (m_X4_lengthOf S s h40 (MRep.t hM 25 (by decide) 0) (by assumption) (by assumption) (by omega)) (lw_V q3172 q3174 qs101 q133 q3175) (nA := 1) (by decide +kernel) rfl ⟨Nat.le_of_ble_eq_true rfl, Nat.le_of_ble_eq_true rfl⟩ (hdd := rfl) (hcc := rfl) (hq := rfl) (hi := h40) (rest := []) rfl (by decide) dX4_stateLength_15 (bc' := 0) (bs' := 0) (Nat.le_refl _) (Nat.le_refl _) (fun r_15 n_15 α_15 K_15 hx_15 hp_15 => ?_)
    obtain ⟨rfl, rfl, hM_15, hk_15, hr_15⟩ := hp_15
    have hk4 := hk_15 4 0 (by decide) 25
    have e_15 : lenS S s = r_15 := Eq.symm (by rw [hr_15.1])
    subst e_15
    refine y_to (st' := [.long (iL (lenS S s))]) rfl rfl rfl ?_
    refine y_l2i hE dX4_stateLength_18 ?_
    refine y_goto hE 27 (by decide) dX4_stateLength_19 ?_
    refine y_iret hE rfl rfl hQ dX4_stateLength_27 Ext.rf ?_
    refine ⟨rfl, rfl, ?_⟩
    unfold oLen
    (repeat (first | rw [if_pos (by omega)] | rw [if_neg (by omega)]))
    exact ⟨hM_15, ((KO.up KO.rf (by unfold MK; decide)).tr (KO.mono hk_15 (fun k i z => by unfold MK; (try dsimp only at z); (try dsimp only); omega))), by first | (simp [up3]; done) | (rw [hk4]; simp [up3]), by first | rfl | (dsimp only; omega)⟩
set_option maxHeartbeats 4000000 in
set_option maxRecDepth 100000 in
theorem m_X4_partWeight {w : KW} {n : KN} {α : KA} {K : KS} (S : SS) (T : Int) (s c : Int) (h40 : (0 : Int) ≤ 0 ∧ 0 < n 4) (hM : MRep S n K) (hW : WFs S) (hX : WFm S 0 T) (hv0 : WFv S) (hs0 : -2147483648 ≤ s ∧ s ≤ 2147483647) (hc0 : -2147483648 ≤ c ∧ c ≤ 2147483647) : KM w yX4_partWeight cX4_partWeight 3 (some (.int)) { frames := 2, cells := 0, slots := 0, locals := 56 } (0, 0) [.ref (α 4 0), .int (iI s), .int (iI c)] n α K (fun r n' α' K' => n = n' ∧ α = α' ∧ (MRep (oPart S s c).2.2 n K' ∧ KO K K' MK ∧ K' 4 0 25 = (oPart S s c).1 ∧ r = (oPart S s c).2.1)) := by
  refine y_start (by decide) (Nat.le_of_ble_eq_true rfl) (fun x hE hQ => ?_)
  have hw := hQ.2
  subst hw
  have hE : YE x cX4_partWeight RX4 (some (.int)) "partWeight" 3 { frames := 2, cells := 0, slots := 0, locals := 56 } := hE
  refine y_wk (fun hWK => ?_)
  have hn0 := hWK.1
  refine y_bud (bc' := 0) (bs' := 0) (Nat.le_refl _) (Nat.le_refl _) ?_
  refine y_to (lv' := [(0, .ref (α 4 0)), (1, .int (iI s)), (2, .int (iI c))]) (st' := []) rfl rfl rfl ?_
  have wpar := hW.par
  have wclips := hW.clips
  have wnodes := hW.nodes
  have wsts := hW.sts
  have wtrs := hW.trs
  have wthr := hW.thr
  have wtxt := hW.txt
  have xinn := hX.inn
  have xcuts := hX.cuts
  have xfro := hX.fro
  have xmany := hX.many
  have xevn := hX.evn
  have xtks := hX.tks
  simp only [Int.zero_add] at xinn xcuts xfro xmany xevn xtks
  refine y_aload_n hE rfl 0 rfl dX4_partWeight_0 ?_
  refine y_iconst hE dX4_partWeight_1 ?_
  refine pX4_94 hE h40 dX4_partWeight_2 ?_
  refine y_aload_n hE rfl 0 rfl dX4_partWeight_5 ?_
  refine y_iload_n hE rfl 1 rfl dX4_partWeight_6 ?_
  refine y_callV hE (m_X4_isState S s h40 (MRep.t hM 25 (by decide) 0) (by omega) (by omega)) (lw_V q2945 q2947 qs61 q133 q2948) (nA := 1) (by decide +kernel) rfl ⟨Nat.le_of_ble_eq_true rfl, Nat.le_of_ble_eq_true rfl⟩ (hdd := rfl) (hcc := rfl) (hq := rfl) (hi := h40) (rest := []) rfl (by decide) dX4_partWeight_7 (bc' := 0) (bs' := 0) (Nat.le_refl _) (Nat.le_refl _) (fun r_7 n_7 α_7 K_7 hx_7 hp_7 => ?_)
  obtain ⟨rfl, rfl, rfl, hr_7⟩ := hp_7
  refine y_to (st' := [.int (iI r_7)]) rfl rfl rfl ?_
  refine y_if_eq hE 21 (by decide) (by omega) dX4_partWeight_10 (fun c_10 => ?_) (fun c_10 => ?_)
  · refine y_aload_n hE rfl 0 rfl dX4_partWeight_21 ?_
    refine y_iconst hE dX4_partWeight_22 ?_
    refine y_callV hE (m_X4_fails 1 h40) (lw_V q2871 q2873 qs53 q133 q2874) (nA := 1) (by decide +kernel) rfl ⟨Nat.le_of_ble_eq_true rfl, Nat.le_of_ble_eq_true rfl⟩ (hdd := rfl) (hcc := rfl) (hq := rfl) (hi := h40) (rest := []) rfl (by decide) dX4_partWeight_23 (bc' := 0) (bs' := 0) (Nat.le_refl _) (Nat.le_refl _) (fun r_23 n_23 α_23 K_23 hx_23 hp_23 => ?_)
    obtain ⟨rfl, rfl, rfl, hr_23⟩ := hp_23
    refine y_to (st' := [.int (iI r_23)]) rfl rfl rfl ?_
    refine y_iret hE rfl rfl hQ dX4_partWeight_26 Ext.rf ?_
    refine ⟨rfl, rfl, ?_⟩
    unfold oPart
    (repeat (first | rw [if_pos (by omega)] | rw [if_neg (by omega)]))
    exact ⟨(MRep.t (MRep.t hM 25 (by decide) 0) 25 (by decide) 1), (KO.up (KO.up KO.rf (by unfold MK; decide)) (by unfold MK; decide)), by first | (simp [up3]; done) | (rw [hk4]; simp [up3]), by first | rfl | (dsimp only; omega)⟩
  · refine y_aload_n hE rfl 0 rfl dX4_partWeight_13 ?_
    refine y_iload_n hE rfl 2 rfl dX4_partWeight_14 ?_
    refine y_callV hE (m_X4_isClip S c h40 (MRep.t hM 25 (by decide) 0) (by omega) (by omega)) (lw_V q2898 q2900 qs55 q133 q2901) (nA := 1) (by decide +kernel) rfl ⟨Nat.le_of_ble_eq_true rfl, Nat.le_of_ble_eq_true rfl⟩ (hdd := rfl) (hcc := rfl) (hq := rfl) (hi := h40) (rest := []) rfl (by decide) dX4_partWeight_15 (bc' := 0) (bs' := 0) (Nat.le_refl _) (Nat.le_refl _) (fun r_15 n_15 α_15 K_15 hx_15 hp_15 => ?_)
    obtain ⟨rfl, rfl, rfl, hr_15⟩ := hp_15
    refine y_to (st' := [.int (iI r_15)]) rfl rfl rfl ?_
    refine y_if_ne hE 27 (by decide) (by omega) dX4_partWeight_18 (fun c_18 => ?_) (fun c_18 => ?_)
    · refine y_aload_n hE rfl 0 rfl dX4_partWeight_27 ?_
      refine y_aload_n hE rfl 0 rfl dX4_partWeight_28 ?_
      have ws := hW.st s (by omega) (by omega)
      refine gX4_47r (z := 0) hE h40 (MObj.r hM.1 15 (by decide)) (by omega) dX4_partWeight_29 (fun hl_29 => ?_)
      refine y_iload_n hE rfl 1 rfl dX4_partWeight_32 ?_
      refine y_iald hE rfl hl_29 (by have hL : (up3 K 4 0 25 0) 115 0 (-1) = 10 := (MObj.l hM.1 15 (by decide)); omega) dX4_partWeight_33 ?_
      refine y_to (st' := [.int (iI (S 15 s)), .ref (α 4 0)]) rfl rfl (by rw [show (up3 K 4 0 25 0) 115 0 s = S 15 s from (MRep.ra hM 15 rfl (by omega) (by first | omega | (show _ < (10 : Int); omega)))]) ?_
      refine y_ldc2 hE 1000000 (v := 1000000) (by decide) q3052 dX4_partWeight_34 ?_
      have hz4 : (up3 K 4 0 25 0) 4 0 25 = 0 := by first | (simp [up3]; done) | (simp [up3]; assumption)
      have hnd := st_nd hW (s := s) (by omega)
      refine y_callV hE (m_X4_blends S (S 15 s) 1000000 h40 (MRep.t hM 25 (by decide) 0) (by assumption) (by assumption) (by assumption) (by omega)) (lw_V q3057 q3059 qs78 q133 q3060) (nA := 2) (by decide +kernel) rfl ⟨Nat.le_of_ble_eq_true rfl, Nat.le_of_ble_eq_true rfl⟩ (hdd := rfl) (hcc := rfl) (hq := rfl) (hi := h40) (rest := []) rfl (by decide) dX4_partWeight_37 (bc' := 0) (bs' := 0) (Nat.le_refl _) (Nat.le_refl _) (fun r_37 n_37 α_37 K_37 hx_37 hp_37 => ?_)
      obtain ⟨rfl, rfl, hM_37, hk_37, hr_37⟩ := hp_37
      have hk4 := hk_37 4 0 (by decide) 25
      have hpc := hr_37 c (by omega) (by omega)
      refine y_to (st' := []) rfl rfl rfl ?_
      refine y_aload_n hE rfl 0 rfl dX4_partWeight_40 ?_
      refine gX4_72r (z := 0) hE h40 (MObj.r hM_37.1 27 (by decide)) (by omega) dX4_partWeight_41 (fun hl_41 => ?_)
      refine y_iload_n hE rfl 2 rfl dX4_partWeight_44 ?_
      refine y_lald hE rfl hl_41 (by have hL : K_37 127 0 (-1) = 12 := (MObj.l hM_37.1 27 (by decide)); omega) dX4_partWeight_45 ?_
      refine y_l2i hE dX4_partWeight_46 ?_
      refine y_iret hE rfl rfl hQ dX4_partWeight_47 Ext.rf ?_
      refine ⟨rfl, rfl, ?_⟩
      unfold oPart
      (repeat (first | rw [if_pos (by omega)] | rw [if_neg (by omega)]))
      exact ⟨hM_37, ((KO.up KO.rf (by unfold MK; decide)).tr (KO.mono hk_37 (fun k i z => by unfold MK; (try dsimp only at z); (try dsimp only); omega))), by rw [hk4]; exact hz4, hpc⟩
    · refine y_aload_n hE rfl 0 rfl dX4_partWeight_21 ?_
      refine y_iconst hE dX4_partWeight_22 ?_
      refine y_callV hE (m_X4_fails 1 h40) (lw_V q2871 q2873 qs53 q133 q2874) (nA := 1) (by decide +kernel) rfl ⟨Nat.le_of_ble_eq_true rfl, Nat.le_of_ble_eq_true rfl⟩ (hdd := rfl) (hcc := rfl) (hq := rfl) (hi := h40) (rest := []) rfl (by decide) dX4_partWeight_23 (bc' := 0) (bs' := 0) (Nat.le_refl _) (Nat.le_refl _) (fun r_23_2 n_23_2 α_23_2 K_23_2 hx_23_2 hp_23_2 => ?_)
      obtain ⟨rfl, rfl, rfl, hr_23_2⟩ := hp_23_2
      refine y_to (st' := [.int (iI r_23_2)]) rfl rfl rfl ?_
      refine y_iret hE rfl rfl hQ dX4_partWeight_26 Ext.rf ?_
      refine ⟨rfl, rfl, ?_⟩
      unfold oPart
      (repeat (first | rw [if_pos (by omega)] | rw [if_neg (by omega)]))
      exact ⟨(MRep.t (MRep.t hM 25 (by decide) 0) 25 (by decide) 1), (KO.up (KO.up KO.rf (by unfold MK; decide)) (by unfold MK; decide)), by first | (simp [up3]; done) | (rw [hk4]; simp [up3]), by first | rfl | (dsimp only; omega)⟩
set_option maxHeartbeats 4000000 in
set_option maxRecDepth 100000 in
theorem m_X4_stepOf {w : KW} {n : KN} {α : KA} {K : KS} (S : SS) (a : Int) (h40 : (0 : Int) ≤ 0 ∧ 0 < n 4) (hM : MRep S n K) (hW : WFs S) (hv0 : WFv S) (ha : 0 ≤ a ∧ a < 1160) (hs : 0 ≤ S 0 a ∧ S 0 a < S 19 0) : KM w yX4_stepOf cX4_stepOf 3 (some (.long)) { frames := 3, cells := 0, slots := 0, locals := 80 } (1, 0) [.ref (α 4 0), .int (iI a)] n α K (fun r n' α' K' => n = n' ∧ α = α' ∧ MRep (S) n K' ∧ KO K K' (fun k _ => k = 127 ∨ k = 128 ∨ k = 129) ∧ (r = stpS S (S 0 a) ∧ 0 ≤ r ∧ r ≤ 4000000)) := by
  refine y_start (by decide) (Nat.le_of_ble_eq_true rfl) (fun x hE hQ => ?_)
  have hw := hQ.2
  subst hw
  have hE : YE x cX4_stepOf RX4 (some (.long)) "stepOf" 3 { frames := 3, cells := 0, slots := 0, locals := 80 } := hE
  refine y_wk (fun hWK => ?_)
  have hn0 := hWK.1
  refine y_bud (bc' := 0) (bs' := 0) (Nat.le_refl _) (Nat.le_refl _) ?_
  refine y_to (lv' := [(0, .ref (α 4 0)), (1, .int (iI a))]) (st' := []) rfl rfl rfl ?_
  have wpar := hW.par
  have wclips := hW.clips
  have wnodes := hW.nodes
  have wsts := hW.sts
  have wtrs := hW.trs
  have wthr := hW.thr
  have wtxt := hW.txt
  have ws := hW.st (S 0 a) hs.1 hs.2
  have hli := lenS_in hW hs
  have hsi := stpS_in hW hs
  refine y_aload_n hE rfl 0 rfl dX4_stepOf_0 ?_
  refine gX4_7r (z := 0) hE h40 (MObj.r hM.1 0 (by decide)) (by omega) dX4_stepOf_1 (fun hl_1 => ?_)
  refine y_iload_n hE rfl 1 rfl dX4_stepOf_4 ?_
  refine y_iconst hE dX4_stepOf_5 ?_
  refine y_iadd hE dX4_stepOf_6 ?_
  refine y_to (st' := [.int (iI a), .ref (α 100 0)]) rfl rfl (by rw [Int.add_zero]) ?_
  refine y_iald hE rfl hl_1 (by have hL : K 100 0 (-1) = 1160 := (MObj.l hM.1 0 (by decide)); omega) dX4_stepOf_7 ?_
  refine y_to (st' := [.int (iI (S 0 a))]) rfl rfl (by rw [show K 100 0 a = S 0 a from (MRep.ra hM 0 rfl (by omega) (by first | omega | (show _ < (1160 : Int); omega)))]) ?_
  refine y_istore_n hE rfl [(2, .int (iI (S 0 a))), (0, .ref (α 4 0)), (1, .int (iI a))] (by decide) rfl dX4_stepOf_8 ?_
  refine y_ldc2 hE 1000000 (v := 1000000) (by decide) q3052 dX4_stepOf_9 ?_
  refine y_aload_n hE rfl 1 rfl dX4_stepOf_12 ?_
  refine gX4_50r (z := 0) hE h40 (MObj.r hM.1 16 (by decide)) (by omega) dX4_stepOf_13 (fun hl_13 => ?_)
  refine y_iload_n hE rfl 0 rfl dX4_stepOf_16 ?_
  refine y_iald hE rfl hl_13 (by have hL : K 116 0 (-1) = 10 := (MObj.l hM.1 16 (by decide)); omega) dX4_stepOf_17 ?_
  refine y_to (st' := [.int (iI (S 16 (S 0 a))), .long (iL 1000000)]) rfl rfl (by rw [show K 116 0 (S 0 a) = S 16 (S 0 a) from (MRep.ra hM 16 rfl (by omega) (by first | omega | (show _ < (10 : Int); omega)))]) ?_
  refine y_i2l hE (by omega) dX4_stepOf_18 ?_
  refine y_lmul hE dX4_stepOf_19 ?_
  refine y_ldc2 hE 100 (v := 100) (by decide) q2884 dX4_stepOf_20 ?_
  refine y_aload_n hE rfl 1 rfl dX4_stepOf_23 ?_
  refine y_iload_n hE rfl 0 rfl dX4_stepOf_24 ?_
  refine y_callV hE (m_X4_lengthOf S (S 0 a) h40 hM (by first | exact hW | omega) (by first | exact hv0 | omega) (by omega)) (lw_V q3172 q3174 qs101 q133 q3175) (nA := 1) (by decide +kernel) rfl ⟨Nat.le_of_ble_eq_true rfl, Nat.le_of_ble_eq_true rfl⟩ (hdd := rfl) (hcc := rfl) (hq := rfl) (hi := h40) (rest := [.long (iL 100), .long (iL (1000000 * (S 16 (S 0 a))))]) rfl (by simp [refV_cat, Value.category]) dX4_stepOf_25 (bc' := 0) (bs' := 0) (Nat.le_refl _) (Nat.le_refl _) (fun r_25 n_25 α_25 K_25 hx_25 hp_25 => ?_)
  obtain ⟨rfl, rfl, hM_25, hk_25, hr_25⟩ := hp_25
  have e_25 : lenS S (S 0 a) = r_25 := Eq.symm (by rw [hr_25.1])
  subst e_25
  refine y_to (st' := [.long (iL (lenS S (S 0 a))), .long (iL 100), .long (iL (1000000 * (S 16 (S 0 a))))]) rfl rfl rfl ?_
  refine y_lmul hE dX4_stepOf_28 ?_
  refine y_ldiv hE (by omega) (by omega) dX4_stepOf_29 ?_
  exact y_lret hE rfl hQ dX4_stepOf_30 Ext.rf ⟨rfl, rfl, hM_25, hk_25, rfl, hsi⟩
set_option maxHeartbeats 4000000 in
set_option maxRecDepth 100000 in
theorem m_X4_shareOfTarget {w : KW} {n : KN} {α : KA} {K : KS} (S : SS)  (h40 : (0 : Int) ≤ 0 ∧ 0 < n 4) (hM : MRep S n K) (hW : WFs S) (hx : 0 ≤ S 0 9 ∧ S 0 9 < S 21 0) (he : 0 ≤ S 0 10 ∧ S 0 10 ≤ S 20 (17 * S 0 9 + 2) ∧ 0 < S 20 (17 * S 0 9 + 2)) : KM w yX4_shareOfTarget cX4_shareOfTarget 1 (some (.long)) { frames := 1, cells := 0, slots := 0, locals := 22 } (1, 0) [.ref (α 4 0)] n α K (fun r n' α' K' => n = n' ∧ α = α' ∧ K = K' ∧ (r = shS S ∧ 0 ≤ r ∧ r ≤ 1000000)) := by
  refine y_start (by decide) (Nat.le_of_ble_eq_true rfl) (fun x hE hQ => ?_)
  have hw := hQ.2
  subst hw
  have hE : YE x cX4_shareOfTarget RX4 (some (.long)) "shareOfTarget" 1 { frames := 1, cells := 0, slots := 0, locals := 22 } := hE
  refine y_wk (fun hWK => ?_)
  have hn0 := hWK.1
  refine y_bud (bc' := 0) (bs' := 0) (Nat.le_refl _) (Nat.le_refl _) ?_
  refine y_to (lv' := [(0, .ref (α 4 0))]) (st' := []) rfl rfl rfl ?_
  have wpar := hW.par
  have wclips := hW.clips
  have wnodes := hW.nodes
  have wsts := hW.sts
  have wtrs := hW.trs
  have wthr := hW.thr
  have wtxt := hW.txt
  have wt9 := hW.tr (S 0 9) hx.1 hx.2
  have hshi := shS_in he
  refine y_ldc2 hE 1000000 (v := 1000000) (by decide) q3052 dX4_shareOfTarget_0 ?_
  refine y_aload_n hE rfl 0 rfl dX4_shareOfTarget_3 ?_
  refine gX4_7r (z := 0) hE h40 (MObj.r hM.1 0 (by decide)) (by omega) dX4_shareOfTarget_4 (fun hl_4 => ?_)
  refine y_bipush hE (by decide) dX4_shareOfTarget_7 ?_
  refine y_iald hE rfl hl_4 (by have hL : K 100 0 (-1) = 1160 := (MObj.l hM.1 0 (by decide)); omega) dX4_shareOfTarget_9 ?_
  refine y_to (st' := [.int (iI (S 0 10)), .long (iL 1000000)]) rfl rfl (by rw [show K 100 0 10 = S 0 10 from (MRep.ra hM 0 rfl (by omega) (by first | omega | (show _ < (1160 : Int); omega)))]) ?_
  refine y_i2l hE (by omega) dX4_shareOfTarget_10 ?_
  refine y_lmul hE dX4_shareOfTarget_11 ?_
  refine y_aload_n hE rfl 0 rfl dX4_shareOfTarget_12 ?_
  refine y_aload_n hE rfl 0 rfl dX4_shareOfTarget_13 ?_
  refine gX4_7r (z := 0) hE h40 (MObj.r hM.1 0 (by decide)) (by omega) dX4_shareOfTarget_14 (fun hl_14 => ?_)
  refine y_bipush hE (by decide) dX4_shareOfTarget_17 ?_
  refine y_iald hE rfl hl_14 (by have hL : K 100 0 (-1) = 1160 := (MObj.l hM.1 0 (by decide)); omega) dX4_shareOfTarget_19 ?_
  refine y_to (st' := [.int (iI (S 0 9)), .ref (α 4 0), .long (iL (1000000 * (S 0 10)))]) rfl rfl (by rw [show K 100 0 9 = S 0 9 from (MRep.ra hM 0 rfl (by omega) (by first | omega | (show _ < (1160 : Int); omega)))]) ?_
  refine y_iconst hE dX4_shareOfTarget_20 ?_
  refine y_callV hE (m_X4_of S (S 0 9) 2 h40 hM (by omega)) (lw_V q2964 q2966 qs64 q133 q2967) (nA := 2) (by decide +kernel) rfl ⟨Nat.le_of_ble_eq_true rfl, Nat.le_of_ble_eq_true rfl⟩ (hdd := rfl) (hcc := rfl) (hq := rfl) (hi := h40) (rest := [.long (iL (1000000 * (S 0 10)))]) rfl (by simp [refV_cat, Value.category]) dX4_shareOfTarget_21 (bc' := 0) (bs' := 0) (Nat.le_refl _) (Nat.le_refl _) (fun r_21 n_21 α_21 K_21 hx_21 hp_21 => ?_)
  obtain ⟨rfl, rfl, rfl, hr_21⟩ := hp_21
  have e_21 : S 20 (17 * (S 0 9) + 2) = r_21 := Eq.symm (by rw [hr_21])
  subst e_21
  refine y_to (st' := [.int (iI (S 20 (17 * (S 0 9) + 2))), .long (iL (1000000 * (S 0 10)))]) rfl rfl rfl ?_
  refine y_i2l hE (by omega) dX4_shareOfTarget_24 ?_
  refine y_ldiv hE (by omega) (by omega) dX4_shareOfTarget_25 ?_
  exact y_lret hE rfl hQ dX4_shareOfTarget_26 Ext.rf ⟨rfl, rfl, rfl, rfl, hshi⟩
set_option maxHeartbeats 4000000 in
set_option maxRecDepth 100000 in
theorem m_X4_isSynced {w : KW} {n : KN} {α : KA} {K : KS} (S : SS)  (h40 : (0 : Int) ≤ 0 ∧ 0 < n 4) (hM : MRep S n K) (hW : WFs S) (hsa : 0 ≤ S 0 12 ∧ S 0 12 < S 19 0) (hsb : 0 ≤ S 0 16 ∧ S 0 16 < S 19 0) (hfr : S 0 20 = 0 ∨ S 0 20 = 1) : KM w yX4_isSynced cX4_isSynced 2 (some (.boolean)) { frames := 0, cells := 0, slots := 0, locals := 0 } (0, 0) [.ref (α 4 0)] n α K (fun r n' α' K' => n = n' ∧ α = α' ∧ K = K' ∧ ((r = 1 ∧ (S 0 20 = 0 ∧ S 18 (S 0 12) ≠ 0 ∧ S 18 (S 0 12) = S 18 (S 0 16)) ∨ r = 0 ∧ ¬ (S 0 20 = 0 ∧ S 18 (S 0 12) ≠ 0 ∧ S 18 (S 0 12) = S 18 (S 0 16))))) := by
  refine y_start (by decide) (Nat.le_of_ble_eq_true rfl) (fun x hE hQ => ?_)
  have hw := hQ.2
  subst hw
  have hE : YE x cX4_isSynced RX4 (some (.boolean)) "isSynced" 2 { frames := 0, cells := 0, slots := 0, locals := 0 } := hE
  refine y_wk (fun hWK => ?_)
  have hn0 := hWK.1
  refine y_bud (bc' := 0) (bs' := 0) (Nat.le_refl _) (Nat.le_refl _) ?_
  refine y_to (lv' := [(0, .ref (α 4 0))]) (st' := []) rfl rfl rfl ?_
  have wpar := hW.par
  have wclips := hW.clips
  have wnodes := hW.nodes
  have wsts := hW.sts
  have wtrs := hW.trs
  have wthr := hW.thr
  have wtxt := hW.txt
  have wa := hW.st (S 0 12) hsa.1 hsa.2
  have wb := hW.st (S 0 16) hsb.1 hsb.2
  refine y_aload_n hE rfl 0 rfl dX4_isSynced_0 ?_
  refine gX4_56r (z := 0) hE h40 (MObj.r hM.1 18 (by decide)) (by omega) dX4_isSynced_1 (fun hl_1 => ?_)
  refine y_aload_n hE rfl 0 rfl dX4_isSynced_4 ?_
  refine gX4_7r (z := 0) hE h40 (MObj.r hM.1 0 (by decide)) (by omega) dX4_isSynced_5 (fun hl_5 => ?_)
  refine y_bipush hE (by decide) dX4_isSynced_8 ?_
  refine y_iald hE rfl hl_5 (by have hL : K 100 0 (-1) = 1160 := (MObj.l hM.1 0 (by decide)); omega) dX4_isSynced_10 ?_
  refine y_to (st' := [.int (iI (S 0 12)), .ref (α 118 0)]) rfl rfl (by rw [show K 100 0 12 = S 0 12 from (MRep.ra hM 0 rfl (by omega) (by first | omega | (show _ < (1160 : Int); omega)))]) ?_
  refine y_iald hE rfl hl_1 (by have hL : K 118 0 (-1) = 10 := (MObj.l hM.1 18 (by decide)); omega) dX4_isSynced_11 ?_
  refine y_to (st' := [.int (iI (S 18 (S 0 12)))]) rfl rfl (by rw [show K 118 0 (S 0 12) = S 18 (S 0 12) from (MRep.ra hM 18 rfl (by omega) (by first | omega | (show _ < (10 : Int); omega)))]) ?_
  refine y_istore_n hE rfl [(1, .int (iI (S 18 (S 0 12)))), (0, .ref (α 4 0))] (by decide) rfl dX4_isSynced_12 ?_
  refine y_aload_n hE rfl 1 rfl dX4_isSynced_13 ?_
  refine gX4_7r (z := 0) hE h40 (MObj.r hM.1 0 (by decide)) (by omega) dX4_isSynced_14 (fun hl_14 => ?_)
  refine y_bipush hE (by decide) dX4_isSynced_17 ?_
  refine y_iald hE rfl hl_14 (by have hL : K 100 0 (-1) = 1160 := (MObj.l hM.1 0 (by decide)); omega) dX4_isSynced_19 ?_
  refine y_to (st' := [.int (iI (S 0 20))]) rfl rfl (by rw [show K 100 0 20 = S 0 20 from (MRep.ra hM 0 rfl (by omega) (by first | omega | (show _ < (1160 : Int); omega)))]) ?_
  refine y_if_ne hE 47 (by decide) (by omega) dX4_isSynced_20 (fun c_20 => ?_) (fun c_20 => ?_)
  · refine y_iconst hE dX4_isSynced_47 ?_
    exact y_iret hE rfl (nar_b (by omega)).1 hQ dX4_isSynced_48 Ext.rf ⟨rfl, rfl, rfl, by omega⟩
  · refine y_iload_n hE rfl 0 rfl dX4_isSynced_23 ?_
    refine y_if_eq hE 47 (by decide) (by omega) dX4_isSynced_24 (fun c_24 => ?_) (fun c_24 => ?_)
    · refine y_iconst hE dX4_isSynced_47 ?_
      exact y_iret hE rfl (nar_b (by omega)).1 hQ dX4_isSynced_48 Ext.rf ⟨rfl, rfl, rfl, by omega⟩
    · refine y_iload_n hE rfl 0 rfl dX4_isSynced_27 ?_
      refine y_aload_n hE rfl 1 rfl dX4_isSynced_28 ?_
      refine gX4_56r (z := 0) hE h40 (MObj.r hM.1 18 (by decide)) (by omega) dX4_isSynced_29 (fun hl_29 => ?_)
      refine y_aload_n hE rfl 1 rfl dX4_isSynced_32 ?_
      refine gX4_7r (z := 0) hE h40 (MObj.r hM.1 0 (by decide)) (by omega) dX4_isSynced_33 (fun hl_33 => ?_)
      refine y_bipush hE (by decide) dX4_isSynced_36 ?_
      refine y_iald hE rfl hl_33 (by have hL : K 100 0 (-1) = 1160 := (MObj.l hM.1 0 (by decide)); omega) dX4_isSynced_38 ?_
      refine y_to (st' := [.int (iI (S 0 16)), .ref (α 118 0), .int (iI (S 18 (S 0 12)))]) rfl rfl (by rw [show K 100 0 16 = S 0 16 from (MRep.ra hM 0 rfl (by omega) (by first | omega | (show _ < (1160 : Int); omega)))]) ?_
      refine y_iald hE rfl hl_29 (by have hL : K 118 0 (-1) = 10 := (MObj.l hM.1 18 (by decide)); omega) dX4_isSynced_39 ?_
      refine y_to (st' := [.int (iI (S 18 (S 0 16))), .int (iI (S 18 (S 0 12)))]) rfl rfl (by rw [show K 118 0 (S 0 16) = S 18 (S 0 16) from (MRep.ra hM 18 rfl (by omega) (by first | omega | (show _ < (10 : Int); omega)))]) ?_
      refine y_icmp_ne hE 47 (by decide) (by omega) (by omega) dX4_isSynced_40 (fun c_40 => ?_) (fun c_40 => ?_)
      · refine y_iconst hE dX4_isSynced_47 ?_
        exact y_iret hE rfl (nar_b (by omega)).1 hQ dX4_isSynced_48 Ext.rf ⟨rfl, rfl, rfl, by omega⟩
      · refine y_iconst hE dX4_isSynced_43 ?_
        refine y_goto hE 48 (by decide) dX4_isSynced_44 ?_
        exact y_iret hE rfl (nar_b (by omega)).1 hQ dX4_isSynced_48 Ext.rf ⟨rfl, rfl, rfl, by omega⟩
