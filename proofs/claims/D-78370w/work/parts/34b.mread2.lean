set_option linter.unusedVariables false
set_option maxHeartbeats 4000000 in
set_option maxRecDepth 100000 in
theorem m_X4_skips {w : KW} {n : KN} {α : KA} {K : KS} (S : SS) (Z : SS) (cd pa fi ad nu rm we co : Int) (h40 : (0 : Int) ≤ 0 ∧ 0 < n 4) (hM : MRep S n K) (hps : PS K cd pa fi ad nu rm we co) (hz : SZ S Z) (hWz : WFs Z) (hpa : 0 ≤ pa ∧ pa ≤ Z 24 0) : KM w yX4_skips cX4_skips 1 none { frames := 0, cells := 0, slots := 0, locals := 0 } (3, 0) [.ref (α 4 0)] n α K (fun r n' α' K' => n = n' ∧ α = α' ∧ MRep (S) n K' ∧ KO K K' (fun k _ => k = 4) ∧ (PS K' cd (sk Z pa) fi ad nu rm we co ∧ True)) := by
  refine y_start (by decide) (Nat.le_of_ble_eq_true rfl) (fun x hE hQ => ?_)
  have hw := hQ.2
  subst hw
  have hE : YE x cX4_skips RX4 none "skips" 1 { frames := 0, cells := 0, slots := 0, locals := 0 } := hE
  refine y_wk (fun hWK => ?_)
  have hn0 := hWK.1
  refine y_bud (bc' := 0) (bs' := 0) (Nat.le_refl _) (Nat.le_refl _) ?_
  refine y_to (lv' := [(0, .ref (α 4 0))]) (st' := []) rfl rfl rfl ?_
  have wtxt := hWz.txt
  have wsts := hWz.sts
  have wpar := hWz.par
  have wtrs := hWz.trs
  have q24 : S 24 0 = Z 24 0 := congrFun (hz 24 (by decide) (by decide)) 0
  have q19 : S 19 0 = Z 19 0 := congrFun (hz 19 (by decide) (by decide)) 0
  have q3 : S 3 0 = Z 3 0 := congrFun (hz 3 (by decide) (by decide)) 0
  have L0 : ∀ (fuel : Nat) (K2 : KS) (p : Int), (MRep S n K2) → (KO K K2 (fun k _ => k = 4)) → (PS K2 cd p fi ad nu rm we co) → (0 ≤ p ∧ p ≤ Z 24 0) → (sk Z pa = sk Z p) → (Z 24 0 - p).toNat < fuel → Y x n α K2 0 0 0 [(0, .ref (α 4 0))] [] := by
    intro fuel0
    induction fuel0 with
    | zero => intro K2 p hM2 hk2 hps2 hp hsk hfu0; exact absurd hfu0 (Nat.not_lt_zero _)
    | succ fuel0 ih0 =>
      intro K2 p hM2 hk2 hps2 hp hsk hfu0
      refine y_aload_n hE rfl 0 rfl dX4_skips_0 ?_
      refine gX4_191 (z := p) hE h40 hps2.2.1 dX4_skips_1 ?_
      refine y_aload_n hE rfl 0 rfl dX4_skips_4 ?_
      refine gX4_188 (z := (Z 24 0)) hE h40 ((hM2.2.2.2.2.2.2.2.2).trans (congrFun ((show SZ S Z by assumption) 24 (by decide) (by decide)) 0)) dX4_skips_5 ?_
      refine y_icmp_ge hE 38 (by decide) (by omega) (by omega) dX4_skips_8 (fun c_8 => ?_) (fun c_8 => ?_)
      · exact y_vret (r := 0) hE rfl hQ dX4_skips_38 Ext.rf ⟨rfl, rfl, hM2, hk2, by rw [hsk, sk_n (by omega)]; exact ⟨hps2.1, hps2.2.1, hps2.2.2.1, hps2.2.2.2.1, hps2.2.2.2.2.1, hps2.2.2.2.2.2.1, hps2.2.2.2.2.2.2.1, hps2.2.2.2.2.2.2.2⟩, trivial⟩
      · have wb := hWz.byt (p) (by omega) (by omega)
        refine y_aload_n hE rfl 0 rfl dX4_skips_11 ?_
        refine gX4_66r (z := 0) hE h40 (MObj.r hM2.1 23 (by decide)) (by omega) dX4_skips_12 (fun hl_12 => ?_)
        refine y_aload_n hE rfl 0 rfl dX4_skips_15 ?_
        refine gX4_191 (z := p) hE h40 hps2.2.1 dX4_skips_16 ?_
        refine y_iald hE rfl hl_12 (by have hL : K2 123 0 (-1) = 150 := (MObj.l hM2.1 23 (by decide)); omega) dX4_skips_19 ?_
        refine y_to (st' := [.int (iI (Z 23 p))]) rfl rfl (by rw [show K2 123 0 p = Z 23 p from ((MRep.ra hM2 23 rfl (by omega) (by first | omega | (show _ < (150 : Int); omega))).trans (congrFun ((show SZ S Z by assumption) 23 (by decide) (by decide)) _))]) ?_
        refine y_bipush hE (by decide) dX4_skips_20 ?_
        refine y_icmp_ne hE 38 (by decide) (by omega) (by omega) dX4_skips_22 (fun c_22 => ?_) (fun c_22 => ?_)
        · exact y_vret (r := 0) hE rfl hQ dX4_skips_38 Ext.rf ⟨rfl, rfl, hM2, hk2, by rw [hsk, sk_n (by omega)]; exact ⟨hps2.1, hps2.2.1, hps2.2.2.1, hps2.2.2.2.1, hps2.2.2.2.2.1, hps2.2.2.2.2.2.1, hps2.2.2.2.2.2.2.1, hps2.2.2.2.2.2.2.2⟩, trivial⟩
        · have hsy := sk_y (Z := Z) (a := p) (by omega) (by omega)
          refine y_aload_n hE rfl 0 rfl dX4_skips_25 ?_
          refine y_dup hE rfl dX4_skips_26 ?_
          refine gX4_191 (z := p) hE h40 hps2.2.1 dX4_skips_27 ?_
          refine y_iconst hE dX4_skips_30 ?_
          refine y_iadd hE dX4_skips_31 ?_
          refine pX4_191 hE h40 dX4_skips_32 ?_
          refine y_goto hE 0 (by decide) dX4_skips_35 ?_
          exact ih0 (up3 K2 4 0 30 (p + 1)) (p + 1) ((MRep.t hM2 30 (by decide) (p + 1))) ((KO.up hk2 (by decide))) (⟨hps2.1, (by simp [up3, upr]), hps2.2.2.1, hps2.2.2.2.1, hps2.2.2.2.2.1, hps2.2.2.2.2.2.1, hps2.2.2.2.2.2.2.1, hps2.2.2.2.2.2.2.2⟩) (by omega) (hsk.trans hsy) (by omega)
  exact L0 _ K pa (hM) (KO.rf) (⟨hps.1, hps.2.1, hps.2.2.1, hps.2.2.2.1, hps.2.2.2.2.1, hps.2.2.2.2.2.1, hps.2.2.2.2.2.2.1, hps.2.2.2.2.2.2.2⟩) (by omega) (rfl) (Nat.lt_succ_self _)
set_option maxHeartbeats 4000000 in
set_option maxRecDepth 100000 in
theorem m_X4_here {w : KW} {n : KN} {α : KA} {K : KS} (S : SS) (Z : SS) (cd pa fi ad nu rm we co : Int) (c : Int) (h40 : (0 : Int) ≤ 0 ∧ 0 < n 4) (hM : MRep S n K) (hps : PS K cd pa fi ad nu rm we co) (hz : SZ S Z) (hWz : WFs Z) (hpa : 0 ≤ pa ∧ pa ≤ Z 24 0) (hfi : 0 ≤ fi ∧ fi ≤ 1) (hc : 0 ≤ c ∧ c ≤ 255) : KM w yX4_here cX4_here 2 (some (.boolean)) { frames := 0, cells := 0, slots := 0, locals := 0 } (0, 0) [.ref (α 4 0), .int (iI c)] n α K (fun r n' α' K' => n = n' ∧ α = α' ∧ K = K' ∧ (r = hI Z pa c ∧ 0 ≤ r ∧ r ≤ 1)) := by
  refine y_start (by decide) (Nat.le_of_ble_eq_true rfl) (fun x hE hQ => ?_)
  have hw := hQ.2
  subst hw
  have hE : YE x cX4_here RX4 (some (.boolean)) "here" 2 { frames := 0, cells := 0, slots := 0, locals := 0 } := hE
  refine y_wk (fun hWK => ?_)
  have hn0 := hWK.1
  refine y_bud (bc' := 0) (bs' := 0) (Nat.le_refl _) (Nat.le_refl _) ?_
  refine y_to (lv' := [(0, .ref (α 4 0)), (1, .int (iI c))]) (st' := []) rfl rfl rfl ?_
  have wtxt := hWz.txt
  have wsts := hWz.sts
  have wpar := hWz.par
  have wtrs := hWz.trs
  have q24 : S 24 0 = Z 24 0 := congrFun (hz 24 (by decide) (by decide)) 0
  have q19 : S 19 0 = Z 19 0 := congrFun (hz 19 (by decide) (by decide)) 0
  have q3 : S 3 0 = Z 3 0 := congrFun (hz 3 (by decide) (by decide)) 0
  refine y_aload_n hE rfl 0 rfl dX4_here_0 ?_
  refine gX4_191 (z := pa) hE h40 hps.2.1 dX4_here_1 ?_
  refine y_aload_n hE rfl 0 rfl dX4_here_4 ?_
  refine gX4_188 (z := (Z 24 0)) hE h40 ((hM.2.2.2.2.2.2.2.2).trans (congrFun ((show SZ S Z by assumption) 24 (by decide) (by decide)) 0)) dX4_here_5 ?_
  refine y_icmp_ge hE 28 (by decide) (by omega) (by omega) dX4_here_8 (fun c_8 => ?_) (fun c_8 => ?_)
  · refine y_iconst hE dX4_here_28 ?_
    exact y_iret hE rfl (nar_b (by omega)).1 hQ dX4_here_29 Ext.rf ⟨rfl, rfl, rfl, by unfold hI; first | rw [if_pos (by omega)] | rw [if_neg (by omega)], by omega, by omega⟩
  · have wb := hWz.byt (pa) (by omega) (by omega)
    refine y_aload_n hE rfl 0 rfl dX4_here_11 ?_
    refine gX4_66r (z := 0) hE h40 (MObj.r hM.1 23 (by decide)) (by omega) dX4_here_12 (fun hl_12 => ?_)
    refine y_aload_n hE rfl 0 rfl dX4_here_15 ?_
    refine gX4_191 (z := pa) hE h40 hps.2.1 dX4_here_16 ?_
    refine y_iald hE rfl hl_12 (by have hL : K 123 0 (-1) = 150 := (MObj.l hM.1 23 (by decide)); omega) dX4_here_19 ?_
    refine y_to (st' := [.int (iI (Z 23 pa))]) rfl rfl (by rw [show K 123 0 pa = Z 23 pa from ((MRep.ra hM 23 rfl (by omega) (by first | omega | (show _ < (150 : Int); omega))).trans (congrFun ((show SZ S Z by assumption) 23 (by decide) (by decide)) _))]) ?_
    refine y_iload_n hE rfl 1 rfl dX4_here_20 ?_
    refine y_icmp_ne hE 28 (by decide) (by omega) (by omega) dX4_here_21 (fun c_21 => ?_) (fun c_21 => ?_)
    · refine y_iconst hE dX4_here_28 ?_
      exact y_iret hE rfl (nar_b (by omega)).1 hQ dX4_here_29 Ext.rf ⟨rfl, rfl, rfl, by unfold hI; first | rw [if_pos (by omega)] | rw [if_neg (by omega)], by omega, by omega⟩
    · refine y_iconst hE dX4_here_24 ?_
      refine y_goto hE 29 (by decide) dX4_here_25 ?_
      exact y_iret hE rfl (nar_b (by omega)).1 hQ dX4_here_29 Ext.rf ⟨rfl, rfl, rfl, by unfold hI; first | rw [if_pos (by omega)] | rw [if_neg (by omega)], by omega, by omega⟩
def rdF (Z : SS) (pa fi c : Int) : Int := if fi = 1 ∧ hI Z (sk Z pa) c = 1 then 1 else 0
theorem rdF_01 (Z : SS) (pa fi c : Int) : rdF Z pa fi c = 0 ∨ rdF Z pa fi c = 1 := by unfold rdF; split <;> omega
theorem rdF_in {Z : SS} {pa fi c : Int} (h : pa ≤ Z 24 0) : pa ≤ sk Z pa ∧ sk Z pa + rdF Z pa fi c ≤ Z 24 0 := by
  have h1 := sk_in h
  unfold rdF
  split
  · rename_i e; have := hI_ln e.2; omega
  · omega
/-- a number: fine; where then -/
def nuF (Z : SS) (pa fi most : Int) : Int := if fi = 1 ∧ 0 < nd Z (sk Z pa) ∧ nd Z (sk Z pa) ≤ 3 ∧ vl Z (sk Z pa) ≤ most then 1 else 0
def nuA (Z : SS) (pa fi most : Int) : Int := if nuF Z pa fi most = 1 then sk Z pa + nd Z (sk Z pa) else sk Z pa
def nuV (Z : SS) (pa fi : Int) : Int := if fi = 1 then vl Z (sk Z pa) else 0
theorem nuF_01 (Z : SS) (pa fi m : Int) : nuF Z pa fi m = 0 ∨ nuF Z pa fi m = 1 := by unfold nuF; split <;> omega
theorem nuF_fi {Z : SS} {pa fi m : Int} (h : nuF Z pa fi m = 1) : fi = 1 := by unfold nuF at h; split at h; rename_i e; exact e.1; omega
theorem nuA_in {Z : SS} {pa fi m : Int} (h : pa ≤ Z 24 0) : pa ≤ nuA Z pa fi m ∧ nuA Z pa fi m ≤ Z 24 0 := by
  have h1 := sk_in h
  have h2 := nd_in h1.2
  unfold nuA
  split <;> omega
theorem nd_at {Z : SS} {b n : Int} (hn : 0 ≤ n) (h : nd Z b = n + nd Z (b + n)) : nd Z b = n + nd Z (b + n) := h
theorem vlF_in {Z : SS} {b : Int} : ∀ k : Nat, (∀ j : Int, 0 ≤ j → j < k → 48 ≤ Z 23 (b + j) ∧ Z 23 (b + j) ≤ 57) → 0 ≤ vlF Z b k ∧ vlF Z b k < 10 ^ k
  | 0, _ => by rw [vlF]; exact ⟨Int.le_refl _, by decide⟩
  | k + 1, h => by
    have h1 := vlF_in (Z := Z) (b := b) k (fun j a c => h j a (by omega))
    have h2 := h k (by omega) (by omega)
    rw [vlF]
    have e : (10 : Int) ^ (k + 1) = 10 ^ k * 10 := Int.pow_succ _ _
    omega
theorem nd_dg {Z : SS} {b : Int} : ∀ (k : Nat), (k : Int) ≤ nd Z b → ∀ j : Int, 0 ≤ j → j < k → 48 ≤ Z 23 (b + j) ∧ Z 23 (b + j) ≤ 57 := by
  intro k
  induction k generalizing b with
  | zero => intro _ j a c; omega
  | succ k ih =>
    intro hk j a c
    by_cases e : b < Z 24 0 ∧ 48 ≤ Z 23 b ∧ Z 23 b ≤ 57
    · by_cases hj : j = 0
      · subst hj; rw [Int.add_zero]; exact e.2
      · have := nd_y e.1 e.2
        have q := ih (b := b + 1) (by omega) (j - 1) (by omega) (by omega)
        rw [show b + 1 + (j - 1) = b + j by omega] at q
        exact q
    · have := nd_n e; omega
theorem vlb {Z : SS} {b k : Int} (h : 0 ≤ k ∧ k ≤ 4) (h2 : k ≤ nd Z b) : 0 ≤ vlF Z b k.toNat ∧ vlF Z b k.toNat ≤ 9999 := by
  have h1 := vlF_in (Z := Z) (b := b) k.toNat (nd_dg _ (by omega))
  have h3 : (10 : Int) ^ k.toNat ≤ 10 ^ 4 := by
    have : ∀ k : Nat, k ≤ 4 → (10 : Int) ^ k ≤ 10 ^ 4 := by
      intro k hk
      rcases (by omega : k = 0 ∨ k = 1 ∨ k = 2 ∨ k = 3 ∨ k = 4) with rfl | rfl | rfl | rfl | rfl <;> decide
    exact this _ (by omega)
  omega
theorem vl_in {Z : SS} (b : Int) : 0 ≤ vl Z b ∧ vl Z b ≤ 9999 := by
  have h0 := ndF_nn (Z := Z) (Z 24 0 - b).toNat b
  have h1 := vlF_in (Z := Z) (b := b) (min (nd Z b) 4).toNat (nd_dg _ (by unfold nd; omega))
  have h2 : (min (nd Z b) 4).toNat ≤ 4 := by omega
  have h3 : (10 : Int) ^ (min (nd Z b) 4).toNat ≤ 10 ^ 4 := by
    have : ∀ k : Nat, k ≤ 4 → (10 : Int) ^ k ≤ 10 ^ 4 := by
      intro k hk
      rcases (by omega : k = 0 ∨ k = 1 ∨ k = 2 ∨ k = 3 ∨ k = 4) with rfl | rfl | rfl | rfl | rfl <;> decide
    exact this _ h2
  unfold vl
  omega
set_option maxHeartbeats 4000000 in
set_option maxRecDepth 100000 in
theorem m_X4_reads {w : KW} {n : KN} {α : KA} {K : KS} (S : SS) (Z : SS) (cd pa fi ad nu rm we co : Int) (c : Int) (h40 : (0 : Int) ≤ 0 ∧ 0 < n 4) (hM : MRep S n K) (hps : PS K cd pa fi ad nu rm we co) (hz : SZ S Z) (hWz : WFs Z) (hpa : 0 ≤ pa ∧ pa ≤ Z 24 0) (hfi : 0 ≤ fi ∧ fi ≤ 1) (hc : 0 ≤ c ∧ c ≤ 255) : KM w yX4_reads cX4_reads 2 none { frames := 1, cells := 0, slots := 0, locals := 21 } (3, 0) [.ref (α 4 0), .int (iI c)] n α K (fun r n' α' K' => n = n' ∧ α = α' ∧ MRep (S) n K' ∧ KO K K' (fun k _ => k = 4) ∧ (PS K' cd (sk Z pa + rdF Z pa fi c) (rdF Z pa fi c) ad nu rm we co ∧ True)) := by
  refine y_start (by decide) (Nat.le_of_ble_eq_true rfl) (fun x hE hQ => ?_)
  have hw := hQ.2
  subst hw
  have hE : YE x cX4_reads RX4 none "reads" 2 { frames := 1, cells := 0, slots := 0, locals := 21 } := hE
  refine y_wk (fun hWK => ?_)
  have hn0 := hWK.1
  refine y_bud (bc' := 0) (bs' := 0) (Nat.le_refl _) (Nat.le_refl _) ?_
  refine y_to (lv' := [(0, .ref (α 4 0)), (1, .int (iI c))]) (st' := []) rfl rfl rfl ?_
  have wtxt := hWz.txt
  have wsts := hWz.sts
  have wpar := hWz.par
  have wtrs := hWz.trs
  have q24 : S 24 0 = Z 24 0 := congrFun (hz 24 (by decide) (by decide)) 0
  have q19 : S 19 0 = Z 19 0 := congrFun (hz 19 (by decide) (by decide)) 0
  have q3 : S 3 0 = Z 3 0 := congrFun (hz 3 (by decide) (by decide)) 0
  have wsk := sk_in (Z := Z) (a := pa) (by omega)
  have wrd := rdF_in (Z := Z) (pa := pa) (fi := fi) (c := c) (by omega)
  have wr01 := rdF_01 Z pa fi c
  have wh01 := hI_01 Z (sk Z pa) c
  refine y_aload_n hE rfl 0 rfl dX4_reads_0 ?_
  refine y_callV hE (m_X4_skips S Z cd pa fi ad nu rm we co h40 hM ⟨hps.1, hps.2.1, hps.2.2.1, hps.2.2.2.1, hps.2.2.2.2.1, hps.2.2.2.2.2.1, hps.2.2.2.2.2.2.1, hps.2.2.2.2.2.2.2⟩ (by first | exact hz | omega) (by first | exact hWz | omega) (by first | exact hpa | omega)) (lw_V q3006 q3008 qs68 q133 q3009) (nA := 0) (by decide +kernel) rfl ⟨Nat.le_of_ble_eq_true rfl, Nat.le_of_ble_eq_true rfl⟩ (hdd := rfl) (hcc := rfl) (hq := rfl) (hi := h40) (rest := []) rfl (by decide) dX4_reads_1 (bc' := 0) (bs' := 0) (Nat.le_refl _) (Nat.le_refl _) (fun r_1 n_1 α_1 K_1 hx_1 hp_1 => ?_)
  obtain ⟨rfl, rfl, hM_1, hk_1, hr_1⟩ := hp_1
  obtain ⟨⟨z25_1, z30_1, z31_1, z32_1, z33_1, z34_1, z35_1, z36_1⟩, hr_1⟩ := hr_1
  refine y_to (st' := []) rfl rfl rfl ?_
  refine y_aload_n hE rfl 0 rfl dX4_reads_4 ?_
  have J25 : ∀ (b1 : Int), (b1 = rdF Z pa fi c) → Y x n α K_1 0 0 25 [(0, .ref (α 4 0)), (1, .int (iI c))] [.int (iI b1), .ref (α 4 0)] := by
    intro b1 hb1
    refine pX4_197 hE h40 (by omega) dX4_reads_25 ?_
    refine y_aload_n hE rfl 0 rfl dX4_reads_28 ?_
    refine y_dup hE rfl dX4_reads_29 ?_
    refine gX4_191 (z := (sk Z pa)) hE h40 z30_1 dX4_reads_30 ?_
    have J45 : ∀ (b2 : Int), (b2 = rdF Z pa fi c) → Y x n α (up3 K_1 4 0 31 b1) 0 0 45 [(0, .ref (α 4 0)), (1, .int (iI c))] [.int (iI b2), .int (iI (sk Z pa)), .ref (α 4 0)] := by
      intro b2 hb2
      refine y_iadd hE dX4_reads_45 ?_
      refine pX4_191 hE h40 dX4_reads_46 ?_
      refine y_vret (r := 0) hE rfl hQ dX4_reads_49 Ext.rf ?_
      refine ⟨rfl, rfl, (MRep.t (MRep.t hM_1 31 (by decide) b1) 30 (by decide) ((sk Z pa) + b2)), (KO.up (KO.up hk_1 (by decide)) (by decide)), ?_, trivial⟩
      have q := (show PS (up3 (up3 K_1 4 0 31 b1) 4 0 30 ((sk Z pa) + b2)) cd ((sk Z pa) + b2) b1 ad nu rm we co from ⟨z25_1, (by simp [up3, upr]), (by simp [up3, upr]), z32_1, z33_1, z34_1, z35_1, z36_1⟩)
      exact ⟨q.1.trans (by omega), q.2.1.trans (by omega), q.2.2.1.trans (by omega), q.2.2.2.1.trans (by omega), q.2.2.2.2.1.trans (by omega), q.2.2.2.2.2.1.trans (by omega), q.2.2.2.2.2.2.1.trans (by omega), q.2.2.2.2.2.2.2.trans (by omega)⟩
    refine y_aload_n hE rfl 0 rfl dX4_reads_33 ?_
    refine gX4_197 (z := b1) hE h40 (by simp [up3, upr]) dX4_reads_34 ?_
    refine y_if_eq hE 44 (by decide) (by omega) dX4_reads_37 (fun c_37 => ?_) (fun c_37 => ?_)
    · refine y_iconst hE dX4_reads_44 ?_
      exact J45 0 (by omega)
    · refine y_iconst hE dX4_reads_40 ?_
      refine y_goto hE 45 (by decide) dX4_reads_41 ?_
      exact J45 1 (by omega)
  refine y_aload_n hE rfl 0 rfl dX4_reads_5 ?_
  refine gX4_197 (z := fi) hE h40 z31_1 dX4_reads_6 ?_
  refine y_if_eq hE 24 (by decide) (by omega) dX4_reads_9 (fun c_9 => ?_) (fun c_9 => ?_)
  · refine y_iconst hE dX4_reads_24 ?_
    exact J25 0 (by unfold rdF; first | rw [if_pos (by omega)] | rw [if_neg (by omega)])
  · refine y_aload_n hE rfl 0 rfl dX4_reads_12 ?_
    refine y_iload_n hE rfl 1 rfl dX4_reads_13 ?_
    refine y_callV hE (m_X4_here S Z cd (sk Z pa) fi ad nu rm we co c h40 hM_1 ⟨z25_1, z30_1, z31_1, z32_1, z33_1, z34_1, z35_1, z36_1⟩ (by assumption) (by assumption) (by omega) (by omega) (by first | exact hc | omega)) (lw_V q3014 q3016 qs70 q133 q3017) (nA := 1) (by decide +kernel) rfl ⟨Nat.le_of_ble_eq_true rfl, Nat.le_of_ble_eq_true rfl⟩ (hdd := rfl) (hcc := rfl) (hq := rfl) (hi := h40) (rest := [.ref (α 4 0)]) rfl (by simp [refV_cat, Value.category]) dX4_reads_14 (bc' := 0) (bs' := 0) (Nat.le_refl _) (Nat.le_refl _) (fun r_14 n_14 α_14 K_14 hx_14 hp_14 => ?_)
    obtain ⟨rfl, rfl, rfl, hr_14⟩ := hp_14
    have e_14 : hI Z (sk Z pa) c = r_14 := Eq.symm (by rw [hr_14.1])
    subst e_14
    refine y_to (st' := [.int (iI (hI Z (sk Z pa) c)), .ref (α 4 0)]) rfl rfl rfl ?_
    refine y_if_eq hE 24 (by decide) (by omega) dX4_reads_17 (fun c_17 => ?_) (fun c_17 => ?_)
    · refine y_iconst hE dX4_reads_24 ?_
      exact J25 0 (by unfold rdF; first | rw [if_pos (by omega)] | rw [if_neg (by omega)])
    · refine y_iconst hE dX4_reads_20 ?_
      refine y_goto hE 25 (by decide) dX4_reads_21 ?_
      exact J25 1 (by unfold rdF; first | rw [if_pos (by omega)] | rw [if_neg (by omega)])
set_option maxHeartbeats 4000000 in
set_option maxRecDepth 100000 in
theorem m_X4_readsNumber {w : KW} {n : KN} {α : KA} {K : KS} (S : SS) (Z : SS) (cd pa fi ad nu rm we co : Int) (most : Int) (h40 : (0 : Int) ≤ 0 ∧ 0 < n 4) (hM : MRep S n K) (hps : PS K cd pa fi ad nu rm we co) (hz : SZ S Z) (hWz : WFs Z) (hpa : 0 ≤ pa ∧ pa ≤ Z 24 0) (hfi : 0 ≤ fi ∧ fi ≤ 1) (hm : 0 ≤ most ∧ most ≤ 1000) : KM w yX4_readsNumber cX4_readsNumber 5 none { frames := 1, cells := 0, slots := 0, locals := 25 } (3, 0) [.ref (α 4 0), .int (iI most)] n α K (fun r n' α' K' => n = n' ∧ α = α' ∧ MRep (S) n K' ∧ KO K K' (fun k _ => k = 4) ∧ (PS K' cd (nuA Z pa fi most) (nuF Z pa fi most) ad (nuV Z pa fi) rm we co ∧ True)) := by
  refine y_start (by decide) (Nat.le_of_ble_eq_true rfl) (fun x hE hQ => ?_)
  have hw := hQ.2
  subst hw
  have hE : YE x cX4_readsNumber RX4 none "readsNumber" 5 { frames := 1, cells := 0, slots := 0, locals := 25 } := hE
  refine y_wk (fun hWK => ?_)
  have hn0 := hWK.1
  refine y_bud (bc' := 0) (bs' := 0) (Nat.le_refl _) (Nat.le_refl _) ?_
  refine y_to (lv' := [(0, .ref (α 4 0)), (1, .int (iI most))]) (st' := []) rfl rfl rfl ?_
  have wtxt := hWz.txt
  have wsts := hWz.sts
  have wpar := hWz.par
  have wtrs := hWz.trs
  have q24 : S 24 0 = Z 24 0 := congrFun (hz 24 (by decide) (by decide)) 0
  have q19 : S 19 0 = Z 19 0 := congrFun (hz 19 (by decide) (by decide)) 0
  have q3 : S 3 0 = Z 3 0 := congrFun (hz 3 (by decide) (by decide)) 0
  have wsk := sk_in (Z := Z) (a := pa) (by omega)
  have wnd := nd_in (Z := Z) (a := sk Z pa) (by omega)
  have wvl := vl_in (Z := Z) (sk Z pa)
  have wn01 := nuF_01 Z pa fi most
  refine y_aload_n hE rfl 0 rfl dX4_readsNumber_0 ?_
  refine y_callV hE (m_X4_skips S Z cd pa fi ad nu rm we co h40 hM ⟨hps.1, hps.2.1, hps.2.2.1, hps.2.2.2.1, hps.2.2.2.2.1, hps.2.2.2.2.2.1, hps.2.2.2.2.2.2.1, hps.2.2.2.2.2.2.2⟩ (by first | exact hz | omega) (by first | exact hWz | omega) (by first | exact hpa | omega)) (lw_V q3006 q3008 qs68 q133 q3009) (nA := 0) (by decide +kernel) rfl ⟨Nat.le_of_ble_eq_true rfl, Nat.le_of_ble_eq_true rfl⟩ (hdd := rfl) (hcc := rfl) (hq := rfl) (hi := h40) (rest := []) rfl (by decide) dX4_readsNumber_1 (bc' := 0) (bs' := 0) (Nat.le_refl _) (Nat.le_refl _) (fun r_1 n_1 α_1 K_1 hx_1 hp_1 => ?_)
  obtain ⟨rfl, rfl, hM_1, hk_1, hr_1⟩ := hp_1
  obtain ⟨⟨z25_1, z30_1, z31_1, z32_1, z33_1, z34_1, z35_1, z36_1⟩, hr_1⟩ := hr_1
  refine y_to (st' := []) rfl rfl rfl ?_
  refine y_aload_n hE rfl 0 rfl dX4_readsNumber_4 ?_
  refine gX4_191 (z := (sk Z pa)) hE h40 z30_1 dX4_readsNumber_5 ?_
  refine y_istore_n hE rfl [(2, .int (iI (sk Z pa))), (0, .ref (α 4 0)), (1, .int (iI most))] (by decide) rfl dX4_readsNumber_8 ?_
  refine y_iconst hE dX4_readsNumber_9 ?_
  refine y_istore_n hE rfl [(3, .int (iI 0)), (2, .int (iI (sk Z pa))), (0, .ref (α 4 0)), (1, .int (iI most))] (by decide) rfl dX4_readsNumber_10 ?_
  refine y_iconst hE dX4_readsNumber_11 ?_
  refine y_istore hE [(4, .int (iI 0)), (3, .int (iI 0)), (2, .int (iI (sk Z pa))), (0, .ref (α 4 0)), (1, .int (iI most))] (by decide) rfl dX4_readsNumber_12 ?_
  have L14 : ∀ (fuel : Nat) (v j : Int), (0 ≤ j ∧ sk Z pa + j ≤ Z 24 0) → (nd Z (sk Z pa) = j + nd Z (sk Z pa + j)) → (v = vlF Z (sk Z pa) (min j 4).toNat) → (0 ≤ v ∧ v ≤ 9999) → (j = 0 ∨ fi = 1) → (Z 24 0 - (sk Z pa + j)).toNat < fuel → Y x n α K_1 0 0 14 [(4, .int (iI j)), (3, .int (iI v)), (2, .int (iI (sk Z pa))), (0, .ref (α 4 0)), (1, .int (iI most))] [] := by
    intro fuel14
    induction fuel14 with
    | zero => intro v j hj hn hv hvb hfj hfu14; exact absurd hfu14 (Nat.not_lt_zero _)
    | succ fuel14 ih14 =>
      intro v j hj hn hv hvb hfj hfu14
      have J97 : (fi = 1 → nd Z (sk Z pa) = j) → (fi ≠ 1 → v = 0) → Y x n α K_1 0 0 97 [(4, .int (iI j)), (3, .int (iI v)), (2, .int (iI (sk Z pa))), (0, .ref (α 4 0)), (1, .int (iI most))] [] := by
        intro hend hend2
        have hvv : fi = 1 → v = vl Z (sk Z pa) := fun z => by rw [hv, vl, hend z]
        have hnv : v = nuV Z pa fi := by unfold nuV; by_cases e : fi = 1; (rw [if_pos e]; exact hvv e); (rw [if_neg e]; exact hend2 e)
        refine y_aload_n hE rfl 3 rfl dX4_readsNumber_97 ?_
        have J126 : ∀ (b1 : Int), (b1 = nuF Z pa fi most) → Y x n α K_1 0 0 126 [(4, .int (iI j)), (3, .int (iI v)), (2, .int (iI (sk Z pa))), (0, .ref (α 4 0)), (1, .int (iI most))] [.int (iI b1), .ref (α 4 0)] := by
          intro b1 hb1
          refine pX4_197 hE h40 (by omega) dX4_readsNumber_126 ?_
          refine y_aload_n hE rfl 3 rfl dX4_readsNumber_129 ?_
          have J145 : ∀ (b2 : Int), (b2 = nuA Z pa fi most) → Y x n α (up3 K_1 4 0 31 b1) 0 0 145 [(4, .int (iI j)), (3, .int (iI v)), (2, .int (iI (sk Z pa))), (0, .ref (α 4 0)), (1, .int (iI most))] [.int (iI b2), .ref (α 4 0)] := by
            intro b2 hb2
            refine pX4_191 hE h40 dX4_readsNumber_145 ?_
            refine y_aload_n hE rfl 3 rfl dX4_readsNumber_148 ?_
            refine y_iload_n hE rfl 1 rfl dX4_readsNumber_149 ?_
            refine pX4_208 hE h40 dX4_readsNumber_150 ?_
            refine y_vret (r := 0) hE rfl hQ dX4_readsNumber_153 Ext.rf ?_
            refine ⟨rfl, rfl, (MRep.t (MRep.t (MRep.t hM_1 31 (by decide) b1) 30 (by decide) b2) 33 (by decide) v), (KO.up (KO.up (KO.up hk_1 (by decide)) (by decide)) (by decide)), ?_, trivial⟩
            have q := (show PS (up3 (up3 (up3 K_1 4 0 31 b1) 4 0 30 b2) 4 0 33 v) cd b2 b1 ad v rm we co from ⟨z25_1, (by simp [up3, upr]), (by simp [up3, upr]), z32_1, (by simp [up3, upr]), z34_1, z35_1, z36_1⟩)
            exact ⟨q.1.trans (by omega), q.2.1.trans (by omega), q.2.2.1.trans (by omega), q.2.2.2.1.trans (by omega), q.2.2.2.2.1.trans (by omega), q.2.2.2.2.2.1.trans (by omega), q.2.2.2.2.2.2.1.trans (by omega), q.2.2.2.2.2.2.2.trans (by omega)⟩
          refine y_aload_n hE rfl 3 rfl dX4_readsNumber_130 ?_
          refine gX4_197 (z := b1) hE h40 (by simp [up3, upr]) dX4_readsNumber_131 ?_
          refine y_if_eq hE 144 (by decide) (by omega) dX4_readsNumber_134 (fun c_134 => ?_) (fun c_134 => ?_)
          · refine y_iload_n hE rfl 2 rfl dX4_readsNumber_144 ?_
            exact J145 (sk Z pa) (by unfold nuA; first | (rw [if_pos (by omega)]; have q2 := hend (nuF_fi (Z := Z) (pa := pa) (fi := fi) (m := most) (by omega)); omega) | (rw [if_neg (by omega)]))
          · refine y_iload_n hE rfl 2 rfl dX4_readsNumber_137 ?_
            refine y_iload hE 0 rfl dX4_readsNumber_138 ?_
            refine y_iadd hE dX4_readsNumber_140 ?_
            refine y_goto hE 145 (by decide) dX4_readsNumber_141 ?_
            exact J145 ((sk Z pa) + j) (by unfold nuA; first | (rw [if_pos (by omega)]; have q2 := hend (nuF_fi (Z := Z) (pa := pa) (fi := fi) (m := most) (by omega)); omega) | (rw [if_neg (by omega)]))
        refine y_aload_n hE rfl 3 rfl dX4_readsNumber_98 ?_
        refine gX4_197 (z := fi) hE h40 z31_1 dX4_readsNumber_99 ?_
        refine y_if_eq hE 125 (by decide) (by omega) dX4_readsNumber_102 (fun c_102 => ?_) (fun c_102 => ?_)
        · refine y_iconst hE dX4_readsNumber_125 ?_
          exact J126 0 (by unfold nuF; first | (rw [if_pos (by have q := hvv (by omega); have q2 := hend (by omega); omega)]; done) | (rw [if_neg (by intro q; have q1 := hvv q.1; have q2 := hend q.1; omega)]; done))
        · refine y_iload hE 0 rfl dX4_readsNumber_105 ?_
          refine y_if_le hE 125 (by decide) (by omega) dX4_readsNumber_107 (fun c_107 => ?_) (fun c_107 => ?_)
          · refine y_iconst hE dX4_readsNumber_125 ?_
            exact J126 0 (by unfold nuF; first | (rw [if_pos (by have q := hvv (by omega); have q2 := hend (by omega); omega)]; done) | (rw [if_neg (by intro q; have q1 := hvv q.1; have q2 := hend q.1; omega)]; done))
          · refine y_iload hE 0 rfl dX4_readsNumber_110 ?_
            refine y_iconst hE dX4_readsNumber_112 ?_
            refine y_icmp_gt hE 125 (by decide) (by omega) (by omega) dX4_readsNumber_113 (fun c_113 => ?_) (fun c_113 => ?_)
            · refine y_iconst hE dX4_readsNumber_125 ?_
              exact J126 0 (by unfold nuF; first | (rw [if_pos (by have q := hvv (by omega); have q2 := hend (by omega); omega)]; done) | (rw [if_neg (by intro q; have q1 := hvv q.1; have q2 := hend q.1; omega)]; done))
            · refine y_iload_n hE rfl 1 rfl dX4_readsNumber_116 ?_
              refine y_iload_n hE rfl 4 rfl dX4_readsNumber_117 ?_
              refine y_icmp_gt hE 125 (by decide) (by omega) (by omega) dX4_readsNumber_118 (fun c_118 => ?_) (fun c_118 => ?_)
              · refine y_iconst hE dX4_readsNumber_125 ?_
                exact J126 0 (by unfold nuF; first | (rw [if_pos (by have q := hvv (by omega); have q2 := hend (by omega); omega)]; done) | (rw [if_neg (by intro q; have q1 := hvv q.1; have q2 := hend q.1; omega)]; done))
              · refine y_iconst hE dX4_readsNumber_121 ?_
                refine y_goto hE 126 (by decide) dX4_readsNumber_122 ?_
                exact J126 1 (by unfold nuF; first | (rw [if_pos (by have q := hvv (by omega); have q2 := hend (by omega); omega)]; done) | (rw [if_neg (by intro q; have q1 := hvv q.1; have q2 := hend q.1; omega)]; done))
      refine y_aload_n hE rfl 3 rfl dX4_readsNumber_14 ?_
      refine gX4_197 (z := fi) hE h40 z31_1 dX4_readsNumber_15 ?_
      refine y_if_eq hE 97 (by decide) (by omega) dX4_readsNumber_18 (fun c_18 => ?_) (fun c_18 => ?_)
      · exact J97  (fun z => by have q := nd_n (Z := Z) (a := sk Z pa + j) (by omega); omega) (fun z => by rw [hv, show j = 0 by omega]; rfl)
      · refine y_aload_n hE rfl 3 rfl dX4_readsNumber_21 ?_
        refine gX4_191 (z := (sk Z pa)) hE h40 z30_1 dX4_readsNumber_22 ?_
        refine y_iload hE 0 rfl dX4_readsNumber_25 ?_
        refine y_iadd hE dX4_readsNumber_27 ?_
        refine y_aload_n hE rfl 3 rfl dX4_readsNumber_28 ?_
        refine gX4_188 (z := (Z 24 0)) hE h40 ((hM_1.2.2.2.2.2.2.2.2).trans (congrFun ((show SZ S Z by assumption) 24 (by decide) (by decide)) 0)) dX4_readsNumber_29 ?_
        refine y_icmp_ge hE 97 (by decide) (by omega) (by omega) dX4_readsNumber_32 (fun c_32 => ?_) (fun c_32 => ?_)
        · exact J97  (fun z => by have q := nd_n (Z := Z) (a := sk Z pa + j) (by omega); omega) (fun z => by rw [hv, show j = 0 by omega]; rfl)
        · have wb := hWz.byt (sk Z pa + j) (by omega) (by omega)
          refine y_aload_n hE rfl 3 rfl dX4_readsNumber_35 ?_
          refine gX4_66r (z := 0) hE h40 (MObj.r hM_1.1 23 (by decide)) (by omega) dX4_readsNumber_36 (fun hl_36 => ?_)
          refine y_aload_n hE rfl 3 rfl dX4_readsNumber_39 ?_
          refine gX4_191 (z := (sk Z pa)) hE h40 z30_1 dX4_readsNumber_40 ?_
          refine y_iload hE 0 rfl dX4_readsNumber_43 ?_
          refine y_iadd hE dX4_readsNumber_45 ?_
          refine y_iald hE rfl hl_36 (by have hL : K_1 123 0 (-1) = 150 := (MObj.l hM_1.1 23 (by decide)); omega) dX4_readsNumber_46 ?_
          refine y_to (st' := [.int (iI (Z 23 ((sk Z pa) + j)))]) rfl rfl (by rw [show K_1 123 0 ((sk Z pa) + j) = Z 23 ((sk Z pa) + j) from ((MRep.ra hM_1 23 rfl (by omega) (by first | omega | (show _ < (150 : Int); omega))).trans (congrFun ((show SZ S Z by assumption) 23 (by decide) (by decide)) _))]) ?_
          refine y_i2l hE (by omega) dX4_readsNumber_47 ?_
          refine y_ldc2 hE 48 (v := 48) (by decide) q3026 dX4_readsNumber_48 ?_
          refine y_ldc2 hE 57 (v := 57) (by decide) q3027 dX4_readsNumber_51 ?_
          refine y_callS hE (m_X4_in (Z 23 ((sk Z pa) + j)) 48 57 (by omega) (by omega) (by omega)) (lw_S q2868 q2869 q133 q2870) (nA := 3) (by decide +kernel) rfl ⟨Nat.le_of_ble_eq_true rfl, Nat.le_of_ble_eq_true rfl⟩ (rest := []) rfl (by decide) dX4_readsNumber_54 (bc' := 0) (bs' := 0) (Nat.le_refl _) (Nat.le_refl _) (fun r_54 n_54 α_54 K_54 hx_54 hp_54 => ?_)
          obtain ⟨rfl, rfl, rfl, hr_54⟩ := hp_54
          refine y_to (st' := [.int (iI r_54)]) rfl rfl rfl ?_
          refine y_if_eq hE 97 (by decide) (by omega) dX4_readsNumber_57 (fun c_57 => ?_) (fun c_57 => ?_)
          · exact J97  (fun z => by have q := nd_n (Z := Z) (a := sk Z pa + j) (by omega); omega) (fun z => by rw [hv, show j = 0 by omega]; rfl)
          · have hny := nd_y (Z := Z) (a := sk Z pa + j) (by omega) (by omega)
            rw [show sk Z pa + j + 1 = sk Z pa + (j + 1) by omega] at hny
            have J90 : ∀ (v2 : Int), (v2 = vlF Z (sk Z pa) (min (j + 1) 4).toNat) → Y x n α K_1 0 0 90 [(4, .int (iI j)), (3, .int (iI v)), (2, .int (iI (sk Z pa))), (0, .ref (α 4 0)), (1, .int (iI most))] [.int (iI v2)] := by
              intro v2 hv2
              have hv2b := vlb (Z := Z) (b := sk Z pa) (k := min (j + 1) 4) (by omega) (by have := (nd_in (Z := Z) (a := sk Z pa + (j + 1)) (by omega)).1; omega)
              rw [← hv2] at hv2b
              refine y_istore_n hE rfl [(3, .int (iI v2)), (4, .int (iI j)), (2, .int (iI (sk Z pa))), (0, .ref (α 4 0)), (1, .int (iI most))] (by decide) rfl dX4_readsNumber_90 ?_
              refine y_iinc hE 1 rfl [(4, .int (iI (j + 1))), (3, .int (iI v2)), (2, .int (iI (sk Z pa))), (0, .ref (α 4 0)), (1, .int (iI most))] (by decide) rfl dX4_readsNumber_91 ?_
              refine y_goto hE 14 (by decide) dX4_readsNumber_94 ?_
              exact ih14 v2 (j + 1) (by omega) (by omega) (hv2) (hv2b) (by omega) (by omega)
            refine y_iload hE 0 rfl dX4_readsNumber_60 ?_
            refine y_iconst hE dX4_readsNumber_62 ?_
            refine y_icmp_ge hE 89 (by decide) (by omega) (by omega) dX4_readsNumber_63 (fun c_63 => ?_) (fun c_63 => ?_)
            · refine y_iload_n hE rfl 1 rfl dX4_readsNumber_89 ?_
              exact J90 v (by first | (rw [show (min (j + 1) 4).toNat = (j + 1).toNat by omega, vlF_s (by omega), hv, show (min j 4).toNat = j.toNat by omega]; done) | (rw [hv, show (min (j + 1) 4).toNat = (min j 4).toNat by omega]; done))
            · refine y_bipush hE (by decide) dX4_readsNumber_66 ?_
              refine y_iload_n hE rfl 1 rfl dX4_readsNumber_68 ?_
              refine y_imul hE dX4_readsNumber_69 ?_
              refine y_aload_n hE rfl 3 rfl dX4_readsNumber_70 ?_
              refine gX4_66r (z := 0) hE h40 (MObj.r hM_1.1 23 (by decide)) (by omega) dX4_readsNumber_71 (fun hl_71 => ?_)
              refine y_aload_n hE rfl 3 rfl dX4_readsNumber_74 ?_
              refine gX4_191 (z := (sk Z pa)) hE h40 z30_1 dX4_readsNumber_75 ?_
              refine y_iload hE 0 rfl dX4_readsNumber_78 ?_
              refine y_iadd hE dX4_readsNumber_80 ?_
              refine y_iald hE rfl hl_71 (by have hL : K_1 123 0 (-1) = 150 := (MObj.l hM_1.1 23 (by decide)); omega) dX4_readsNumber_81 ?_
              refine y_to (st' := [.int (iI (Z 23 ((sk Z pa) + j))), .int (iI (10 * v))]) rfl rfl (by rw [show K_1 123 0 ((sk Z pa) + j) = Z 23 ((sk Z pa) + j) from ((MRep.ra hM_1 23 rfl (by omega) (by first | omega | (show _ < (150 : Int); omega))).trans (congrFun ((show SZ S Z by assumption) 23 (by decide) (by decide)) _))]) ?_
              refine y_iadd hE dX4_readsNumber_82 ?_
              refine y_bipush hE (by decide) dX4_readsNumber_83 ?_
              refine y_isub hE dX4_readsNumber_85 ?_
              refine y_goto hE 90 (by decide) dX4_readsNumber_86 ?_
              exact J90 (((10 * v) + (Z 23 ((sk Z pa) + j))) - 48) (by first | (rw [show (min (j + 1) 4).toNat = (j + 1).toNat by omega, vlF_s (by omega), hv, show (min j 4).toNat = j.toNat by omega]; done) | (rw [hv, show (min (j + 1) 4).toNat = (min j 4).toNat by omega]; done))
  exact L14 _ 0 0 (by omega) (by rw [Int.add_zero, Int.zero_add]) (rfl) (by omega) (by omega) (Nat.lt_succ_self _)
