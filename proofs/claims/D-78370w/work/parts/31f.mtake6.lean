set_option linter.unusedVariables false
set_option maxHeartbeats 4000000 in
set_option maxRecDepth 100000 in
theorem m_X4_takes {w : KW} {n : KN} {α : KA} {K : KS} (S : SS) (T : Int) (h40 : (0 : Int) ≤ 0 ∧ 0 < n 4) (hM : MRep S n K) (hW : WFs S) (hv0 : WFv S) (hX : WFm S 0 T) (hst0 : 0 < S 19 0) (hT0 : 0 ≤ T ∧ T ≤ 20000) : KM w yX4_takes cX4_takes 6 (some (.boolean)) { frames := 5, cells := 0, slots := 0, locals := 126 } (0, 0) [.ref (α 4 0)] n α K (fun r n' α' K' => n = n' ∧ α = α' ∧ MRep ((takS S).2) n K' ∧ KO K K' (fun k i => k = 127 ∨ k = 128 ∨ k = 129 ∨ k = 137 ∨ k = 138 ∨ k = 139 ∨ k = 4 ∨ k = 100) ∧ (r = (takS S).1 ∧ K' 4 0 25 = K 4 0 25)) := by
  refine y_start (by decide) (Nat.le_of_ble_eq_true rfl) (fun x hE hQ => ?_)
  have hw := hQ.2
  subst hw
  have hE : YE x cX4_takes RX4 (some (.boolean)) "takes" 6 { frames := 5, cells := 0, slots := 0, locals := 126 } := hE
  refine y_wk (fun hWK => ?_)
  have hn0 := hWK.1
  refine y_bud (bc' := 0) (bs' := 0) (Nat.le_refl _) (Nat.le_refl _) ?_
  refine y_to (lv' := [(0, .ref (α 4 0))]) (st' := []) rfl rfl rfl ?_
  have wpar := hW.par
  have wclips := hW.clips
  have wnodes := hW.nodes
  have wsts := hW.sts
  have wtrs := hW.trs
  have wthr := hW.thr
  have wtxt := hW.txt
  have xinn := hX.inn
  have xcuts := hX.cuts
  have xfro := hX.fro
  have xmany := hX.many
  have xevn := hX.evn
  have xtks := hX.tks
  simp only [Int.zero_add] at xinn xcuts xfro xmany xevn xtks
  have xta := hX.ta
  have xtb := hX.tb
  simp only [Int.zero_add] at xta xtb
  unfold TkOk at xta xtb
  have J32 : ∀ (b : Int), (b = 1 ∧ (S 0 8 = 1 ∧ S 20 (17 * S 0 9 + 5) = 4) ∨ b = 0 ∧ ¬ (S 0 8 = 1 ∧ S 20 (17 * S 0 9 + 5) = 4)) → Y x n α K 0 0 32 [(0, .ref (α 4 0))] [.int (iI b)] := by
    intro b hb
    refine y_istore_n hE rfl [(1, .int (iI b)), (0, .ref (α 4 0))] (by decide) rfl dX4_takes_32 ?_
    have J42 : ∀ (l0 : Int), (l0 = takL S) → (l0 = 1 ∨ l0 = 2) → Y x n α K 0 0 42 [(1, .int (iI b)), (0, .ref (α 4 0))] [.int (iI l0)] := by
      intro l0 hl0 hl02
      refine y_istore_n hE rfl [(2, .int (iI l0)), (1, .int (iI b)), (0, .ref (α 4 0))] (by decide) rfl dX4_takes_42 ?_
      refine y_aload_n hE rfl 2 rfl dX4_takes_43 ?_
      refine y_iload_n hE rfl 0 rfl dX4_takes_44 ?_
      refine y_callV hE (m_X4_firstOf S T l0 h40 hM (by first | exact hW | omega) (by first | exact hv0 | omega) (by first | exact hX | omega) (by omega) (by first | exact hT0 | omega)) (lw_V q3142 q3144 qs94 q133 q3145) (nA := 1) (by decide +kernel) rfl ⟨Nat.le_of_ble_eq_true rfl, Nat.le_of_ble_eq_true rfl⟩ (hdd := rfl) (hcc := rfl) (hq := rfl) (hi := h40) (rest := []) rfl (by decide) dX4_takes_45 (bc' := 0) (bs' := 0) (Nat.le_refl _) (Nat.le_refl _) (fun r_45 n_45 α_45 K_45 hx_45 hp_45 => ?_)
      obtain ⟨rfl, rfl, rfl, hr_45⟩ := hp_45
      have e_45 : fstS S l0 = r_45 := Eq.symm (by rw [hr_45])
      subst e_45
      refine y_to (st' := [.int (iI (fstS S l0))]) rfl rfl rfl ?_
      refine y_istore_n hE rfl [(3, .int (iI (fstS S l0))), (2, .int (iI l0)), (1, .int (iI b)), (0, .ref (α 4 0))] (by decide) rfl dX4_takes_48 ?_
      have J64 : ∀ (l t : Int), (l = takl S) → (t = takt S) → Y x n α K 0 0 64 [(3, .int (iI t)), (2, .int (iI l)), (1, .int (iI b)), (0, .ref (α 4 0))] [] := by
        intro l t hl ht
        have htin := (takt_in S).2
        rw [← ht, ← hl] at htin
        refine y_iload_n hE rfl 0 rfl dX4_takes_64 ?_
        refine y_iconst hE dX4_takes_65 ?_
        refine y_icmp_ne hE 71 (by decide) (by omega) (by omega) dX4_takes_66 (fun c_66 => ?_) (fun c_66 => ?_)
        · obtain ⟨htl, htt⟩ := takt_in S
          rw [← hl, ← ht] at htt
          rw [← hl] at htl
          have ht2 : 0 ≤ t ∧ t < S 21 0 := by omega
          have wt := hW.tr t ht2.1 ht2.2
          obtain ⟨hrk, hrk2⟩ := takR_ok hW hX (by rw [← ht]; omega)
          unfold takR at hrk hrk2
          rw [← ht] at hrk hrk2
          refine y_iconst hE dX4_takes_71 ?_
          refine y_istore hE [(4, .int (iI 0)), (3, .int (iI t)), (2, .int (iI l)), (1, .int (iI b)), (0, .ref (α 4 0))] (by decide) rfl dX4_takes_72 ?_
          have L74 : ∀ (fuel : Nat) (K2 : KS) (S2 : SS) (k : Int), (MRep S2 n K2) → (KO K K2 (fun k i => k = 127 ∨ k = 128 ∨ k = 129 ∨ k = 137 ∨ k = 138 ∨ k = 139 ∨ k = 4 ∨ k = 100)) → (0 ≤ k ∧ k ≤ S 20 (17 * t + 7)) → (S2 = rsT S t k.toNat) → (K2 4 0 25 = K 4 0 25) → (S 20 (17 * t + 7) - k).toNat < fuel → Y x n α K2 0 0 74 [(4, .int (iI k)), (3, .int (iI t)), (2, .int (iI l)), (1, .int (iI b)), (0, .ref (α 4 0))] [] := by
            intro fuel74
            induction fuel74 with
            | zero => intro K2 S2 k hM2 hk2 hk hS2 h25 hfu74; exact absurd hfu74 (Nat.not_lt_zero _)
            | succ fuel74 ih74 =>
              intro K2 S2 k hM2 hk2 hk hS2 h25 hfu74
              have f2 : ∀ f : Nat, f ≠ 0 → S2 f = S f := fun f h => by rw [hS2]; exact rsT_f h _
              have hW2 : WFs S2 := hW.congr f2
              have e21 : S2 21 0 = S 21 0 := congrFun (f2 21 (by decide)) 0
              have e19 : S2 19 0 = S 19 0 := congrFun (f2 19 (by decide)) 0
              have e07 : S2 20 (17 * t + 7) = S 20 (17 * t + 7) := congrFun (f2 20 (by decide)) _
              have wpar2 := hW2.par
              refine y_iload hE 0 rfl dX4_takes_74 ?_
              refine y_aload_n hE rfl 4 rfl dX4_takes_76 ?_
              refine y_iload_n hE rfl 1 rfl dX4_takes_77 ?_
              refine y_bipush hE (by decide) dX4_takes_78 ?_
              refine y_callV hE (m_X4_of S2 t 7 h40 hM2 (by omega)) (lw_V q2964 q2966 qs64 q133 q2967) (nA := 2) (by decide +kernel) rfl ⟨Nat.le_of_ble_eq_true rfl, Nat.le_of_ble_eq_true rfl⟩ (hdd := rfl) (hcc := rfl) (hq := rfl) (hi := h40) (rest := [.int (iI k)]) rfl (by simp [refV_cat, Value.category]) dX4_takes_80 (bc' := 0) (bs' := 0) (Nat.le_refl _) (Nat.le_refl _) (fun r_80 n_80 α_80 K_80 hx_80 hp_80 => ?_)
              obtain ⟨rfl, rfl, rfl, hr_80⟩ := hp_80
              have e_80 : S2 20 (17 * t + 7) = r_80 := Eq.symm (by rw [hr_80])
              subst e_80
              refine y_to (st' := [.int (iI (S2 20 (17 * t + 7))), .int (iI k)]) rfl rfl rfl ?_
              refine y_icmp_ge hE 144 (by decide) (by omega) (by omega) dX4_takes_83 (fun c_83 => ?_) (fun c_83 => ?_)
              · have hkk : k.toNat = (S 20 (17 * t + 7)).toNat := by omega
                rw [hkk] at hS2
                rw [← hS2] at hrk hrk2
                have x2inn := hrk.inn
                have x2cuts := hrk.cuts
                have hv2 := hrk.v
                simp only [Int.zero_add] at x2inn x2cuts
                have J187 : ∀ (K3 : KS) (S3 : SS), (MRep S3 n K3) → (KO K K3 (fun k i => k = 127 ∨ k = 128 ∨ k = 129 ∨ k = 137 ∨ k = 138 ∨ k = 139 ∨ k = 4 ∨ k = 100)) → (S3 = takB S2 l) → (K3 4 0 25 = K 4 0 25) → Y x n α K3 0 0 187 [(4, .int (iI k)), (3, .int (iI t)), (2, .int (iI l)), (1, .int (iI b)), (0, .ref (α 4 0))] [] := by
                  intro K3 S3 hM3 hk3 hS3 h253
                  have hX3 : WFm S3 0 T := by rw [hS3]; exact takB_ok hW2 hrk hrk2
                  have f3 : ∀ f : Nat, f ≠ 0 → S3 f = S f := fun f h => by rw [hS3, takB_f h, f2 f h]
                  have hW3 : WFs S3 := hW.congr f3
                  have e321 : S3 21 0 = S 21 0 := congrFun (f3 21 (by decide)) 0
                  have e319 : S3 19 0 = S 19 0 := congrFun (f3 19 (by decide)) 0
                  have hta3 : TkOk S3 12 T := by have := hX3.ta (by omega); rw [Int.zero_add] at this; exact this
                  have x3fro := hX3.fro
                  simp only [Int.zero_add] at x3fro
                  refine y_aload_n hE rfl 4 rfl dX4_takes_187 ?_
                  refine y_iload_n hE rfl 1 rfl dX4_takes_188 ?_
                  refine y_callV hE (m_X4_goesTo S3 T t h40 hM3 (by assumption) (by omega) (by assumption) (by omega)) (lw_V q3154 q3156 qs97 q133 q3157) (nA := 1) (by decide +kernel) rfl ⟨Nat.le_of_ble_eq_true rfl, Nat.le_of_ble_eq_true rfl⟩ (hdd := rfl) (hcc := rfl) (hq := rfl) (hi := h40) (rest := []) rfl (by decide) dX4_takes_189 (bc' := 0) (bs' := 0) (Nat.le_refl _) (Nat.le_refl _) (fun r_189 n_189 α_189 K_189 hx_189 hp_189 => ?_)
                  obtain ⟨rfl, rfl, hM_189, hk_189, hr_189⟩ := hp_189
                  refine y_to (st' := []) rfl rfl rfl ?_
                  refine y_iconst hE dX4_takes_192 ?_
                  exact y_iret hE rfl (nar_b (by omega)).1 hQ dX4_takes_193 Ext.rf ⟨rfl, rfl, by unfold takS; rw [if_neg (by omega), ← ht, ← hl]; show MRep (goS (takB (takR S) l) t) n _; rw [takR, ← ht, ← hS2, ← hS3]; exact hM_189, (hk3.tr (KO.mono hk_189 (fun k i z => by (try dsimp only at z); (try dsimp only); omega))), by unfold takS; rw [if_neg (by omega)], (hk_189 4 0 (by decide) 25).trans h253⟩
                refine y_aload_n hE rfl 4 rfl dX4_takes_144 ?_
                refine gX4_7r (z := 0) hE h40 (MObj.r hM2.1 0 (by decide)) (by omega) dX4_takes_145 (fun hl_145 => ?_)
                refine y_bipush hE (by decide) dX4_takes_148 ?_
                refine y_iald hE rfl hl_145 (by have hL : K2 100 0 (-1) = 1160 := (MObj.l hM2.1 0 (by decide)); omega) dX4_takes_150 ?_
                refine y_to (st' := [.int (iI (S2 0 8))]) rfl rfl (by rw [show K2 100 0 8 = S2 0 8 from (MRep.ra hM2 0 rfl (by omega) (by first | omega | (show _ < (1160 : Int); omega)))]) ?_
                refine y_iconst hE dX4_takes_151 ?_
                refine y_icmp_ne hE 163 (by decide) (by omega) (by omega) dX4_takes_152 (fun c_152 => ?_) (fun c_152 => ?_)
                · refine y_aload_n hE rfl 4 rfl dX4_takes_163 ?_
                  refine gX4_7r (z := 0) hE h40 (MObj.r hM2.1 0 (by decide)) (by omega) dX4_takes_164 (fun hl_164 => ?_)
                  refine y_bipush hE (by decide) dX4_takes_167 ?_
                  refine y_iconst hE dX4_takes_169 ?_
                  refine y_iast hE (by unfold kC; decide) rfl (by simp [kTag]) hl_164 (by have hL : K2 100 0 (-1) = 1160 := (MObj.l hM2.1 0 (by decide)); omega) dX4_takes_170 ?_
                  refine y_aload_n hE rfl 4 rfl dX4_takes_171 ?_
                  refine gX4_7r (z := 0) hE h40 (MObj.r hM2.1 0 (by decide)) (by omega) dX4_takes_172 (fun hl_172 => ?_)
                  refine y_bipush hE (by decide) dX4_takes_175 ?_
                  refine y_iconst hE dX4_takes_177 ?_
                  refine y_iast hE (by unfold kC; decide) rfl (by simp [kTag]) hl_172 (by have hL : (up3 K2 100 0 11 0) 100 0 (-1) = 1160 := (MObj.l hM2.1 0 (by decide)); omega) dX4_takes_178 ?_
                  refine y_aload_n hE rfl 4 rfl dX4_takes_179 ?_
                  refine gX4_7r (z := 0) hE h40 (MObj.r hM2.1 0 (by decide)) (by omega) dX4_takes_180 (fun hl_180 => ?_)
                  refine y_bipush hE (by decide) dX4_takes_183 ?_
                  refine y_iconst hE dX4_takes_185 ?_
                  refine y_iast hE (by unfold kC; decide) rfl (by simp [kTag]) hl_180 (by have hL : (up3 (up3 K2 100 0 11 0) 100 0 20 0) 100 0 (-1) = 1160 := (MObj.l hM2.1 0 (by decide)); omega) dX4_takes_186 ?_
                  exact J187 (up3 (up3 (up3 K2 100 0 11 0) 100 0 20 0) 100 0 21 0) (up2 (up2 (up2 S2 0 11 0) 0 20 0) 0 21 0) ((MRep.a (MRep.a (MRep.a hM2 0 rfl (j := 11) (by omega) 0) 0 rfl (j := 20) (by omega) 0) 0 rfl (j := 21) (by omega) 0)) ((KO.up (KO.up (KO.up hk2 (by decide)) (by decide)) (by decide))) (by unfold takB; first | rw [if_pos (by omega)] | rw [if_neg (by omega)]) (by first | exact hr_157.trans h25 | (simp [up3]; exact h25))
                · refine y_aload_n hE rfl 4 rfl dX4_takes_155 ?_
                  refine y_iload_n hE rfl 2 rfl dX4_takes_156 ?_
                  refine y_callV hE (m_X4_freezes S2 T l h40 hM2 (by assumption) (by assumption) (by assumption) (by omega)) (lw_V q3146 q3148 qs95 q133 q3149) (nA := 1) (by decide +kernel) rfl ⟨Nat.le_of_ble_eq_true rfl, Nat.le_of_ble_eq_true rfl⟩ (hdd := rfl) (hcc := rfl) (hq := rfl) (hi := h40) (rest := []) rfl (by decide) dX4_takes_157 (bc' := 0) (bs' := 0) (Nat.le_refl _) (Nat.le_refl _) (fun r_157 n_157 α_157 K_157 hx_157 hp_157 => ?_)
                  obtain ⟨rfl, rfl, hM_157, hk_157, hr_157⟩ := hp_157
                  refine y_to (st' := []) rfl rfl rfl ?_
                  refine y_goto hE 187 (by decide) dX4_takes_160 ?_
                  exact J187 K_157 (frzS S2 l) (hM_157) ((hk2.tr hk_157)) (by unfold takB; first | rw [if_pos (by omega)] | rw [if_neg (by omega)]) (by first | exact hr_157.trans h25 | (simp [up3]; exact h25))
              · have wc2 := hW2.cond t k ht2.1 (by omega) (by omega) (by omega)
                have wk2 := hW2.kind (S2 20 (17 * t + 8 + 3 * k)) (by omega) (by omega)
                refine y_aload_n hE rfl 4 rfl dX4_takes_86 ?_
                refine gX4_59r (z := 0) hE h40 (MObj.r hM2.1 20 (by decide)) (by omega) dX4_takes_87 (fun hl_87 => ?_)
                refine y_bipush hE (by decide) dX4_takes_90 ?_
                refine y_iload_n hE rfl 1 rfl dX4_takes_92 ?_
                refine y_imul hE dX4_takes_93 ?_
                refine y_bipush hE (by decide) dX4_takes_94 ?_
                refine y_iadd hE dX4_takes_96 ?_
                refine y_iconst hE dX4_takes_97 ?_
                refine y_iload hE 0 rfl dX4_takes_98 ?_
                refine y_imul hE dX4_takes_100 ?_
                refine y_iadd hE dX4_takes_101 ?_
                refine y_iald hE rfl hl_87 (by have hL : K2 120 0 (-1) = 408 := (MObj.l hM2.1 20 (by decide)); omega) dX4_takes_102 ?_
                refine y_to (st' := [.int (iI (S2 20 (((17 * t) + 8) + (3 * k))))]) rfl rfl (by rw [show K2 120 0 (((17 * t) + 8) + (3 * k)) = S2 20 (((17 * t) + 8) + (3 * k)) from (MRep.ra hM2 20 rfl (by omega) (by first | omega | (show _ < (408 : Int); omega)))]) ?_
                refine y_istore hE [(5, .int (iI (S2 20 (((17 * t) + 8) + (3 * k))))), (4, .int (iI k)), (3, .int (iI t)), (2, .int (iI l)), (1, .int (iI b)), (0, .ref (α 4 0))] (by decide) rfl dX4_takes_103 ?_
                refine y_aload_n hE rfl 5 rfl dX4_takes_105 ?_
                refine gX4_7r (z := 0) hE h40 (MObj.r hM2.1 0 (by decide)) (by omega) dX4_takes_106 (fun hl_106 => ?_)
                refine y_iconst hE dX4_takes_109 ?_
                refine y_iload hE 0 rfl dX4_takes_110 ?_
                refine y_iadd hE dX4_takes_112 ?_
                refine y_to (st' := [.int (iI (S2 20 (((17 * t) + 8) + (3 * k)))), .ref (α 100 0)]) rfl rfl (by rw [Int.zero_add]) ?_
                have J137 : ∀ (v : Int), (v = if S2 2 (S2 20 (17 * t + 8 + 3 * k)) = 2 then 0 else S2 0 (S2 20 (17 * t + 8 + 3 * k))) → Y x n α K2 0 0 137 [(5, .int (iI (S2 20 (((17 * t) + 8) + (3 * k))))), (4, .int (iI k)), (3, .int (iI t)), (2, .int (iI l)), (1, .int (iI b)), (0, .ref (α 4 0))] [.int (iI v), .int (iI (S2 20 (17 * t + 8 + 3 * k))), .ref (α 100 0)] := by
                  intro v hv
                  refine y_iast hE (by unfold kC; decide) rfl (by simp [kTag]) hl_106 (by have hL : K2 100 0 (-1) = 1160 := (MObj.l hM2.1 0 (by decide)); omega) dX4_takes_137 ?_
                  refine y_iinc hE 1 rfl [(4, .int (iI (k + 1))), (5, .int (iI (S2 20 (((17 * t) + 8) + (3 * k))))), (3, .int (iI t)), (2, .int (iI l)), (1, .int (iI b)), (0, .ref (α 4 0))] (by decide) rfl dX4_takes_138 ?_
                  refine y_goto hE 74 (by decide) dX4_takes_141 ?_
                  refine y_lv [0, 2, 3, 4, 5] [(4, .int (iI (k + 1))), (3, .int (iI t)), (2, .int (iI l)), (1, .int (iI b)), (0, .ref (α 4 0))] rfl ?_
                  exact ih74 (up3 K2 100 0 (S2 20 (17 * t + 8 + 3 * k)) v) (up2 S2 0 (S2 20 (17 * t + 8 + 3 * k)) v) (k + 1) ((MRep.a hM2 0 rfl (j := S2 20 (17 * t + 8 + 3 * k)) (by omega) v)) ((KO.up hk2 (by decide))) (by omega) (by rw [rsT_s (by omega), ← hS2, hv]) (by simp [up3]; exact h25) (by omega)
                refine y_aload_n hE rfl 5 rfl dX4_takes_113 ?_
                refine gX4_17r (z := 0) hE h40 (MObj.r hM2.1 2 (by decide)) (by omega) dX4_takes_114 (fun hl_114 => ?_)
                refine y_iload hE 0 rfl dX4_takes_117 ?_
                refine y_iald hE rfl hl_114 (by have hL : K2 102 0 (-1) = 8 := (MObj.l hM2.1 2 (by decide)); omega) dX4_takes_119 ?_
                refine y_to (st' := [.int (iI (S2 2 (S2 20 (((17 * t) + 8) + (3 * k))))), .int (iI (S2 20 (((17 * t) + 8) + (3 * k)))), .ref (α 100 0)]) rfl rfl (by rw [show K2 102 0 (S2 20 (((17 * t) + 8) + (3 * k))) = S2 2 (S2 20 (((17 * t) + 8) + (3 * k))) from (MRep.ra hM2 2 rfl (by omega) (by first | omega | (show _ < (8 : Int); omega)))]) ?_
                refine y_iconst hE dX4_takes_120 ?_
                refine y_icmp_ne hE 128 (by decide) (by omega) (by omega) dX4_takes_121 (fun c_121 => ?_) (fun c_121 => ?_)
                · refine y_aload_n hE rfl 5 rfl dX4_takes_128 ?_
                  refine gX4_7r (z := 0) hE h40 (MObj.r hM2.1 0 (by decide)) (by omega) dX4_takes_129 (fun hl_129 => ?_)
                  refine y_iconst hE dX4_takes_132 ?_
                  refine y_iload hE 0 rfl dX4_takes_133 ?_
                  refine y_iadd hE dX4_takes_135 ?_
                  refine y_to (st' := [.int (iI (S2 20 (((17 * t) + 8) + (3 * k)))), .ref (α 100 0), .int (iI (S2 20 (((17 * t) + 8) + (3 * k)))), .ref (α 100 0)]) rfl rfl (by rw [Int.zero_add]) ?_
                  refine y_iald hE rfl hl_129 (by have hL : K2 100 0 (-1) = 1160 := (MObj.l hM2.1 0 (by decide)); omega) dX4_takes_136 ?_
                  refine y_to (st' := [.int (iI (S2 0 (S2 20 (((17 * t) + 8) + (3 * k))))), .int (iI (S2 20 (((17 * t) + 8) + (3 * k)))), .ref (α 100 0)]) rfl rfl (by rw [show K2 100 0 (S2 20 (((17 * t) + 8) + (3 * k))) = S2 0 (S2 20 (((17 * t) + 8) + (3 * k))) from (MRep.ra hM2 0 rfl (by omega) (by first | omega | (show _ < (1160 : Int); omega)))]) ?_
                  exact J137 (S2 0 (S2 20 (((17 * t) + 8) + (3 * k)))) (by first | rw [if_pos (by omega)] | rw [if_neg (by omega)])
                · refine y_iconst hE dX4_takes_124 ?_
                  refine y_goto hE 137 (by decide) dX4_takes_125 ?_
                  exact J137 0 (by first | rw [if_pos (by omega)] | rw [if_neg (by omega)])
          exact L74 _ K S 0 (hM) (KO.rf) (by omega) (rfl) (rfl) (Nat.lt_succ_self _)
        · refine y_iconst hE dX4_takes_69 ?_
          exact y_iret hE rfl (nar_b (by omega)).1 hQ dX4_takes_70 Ext.rf ⟨rfl, rfl, by unfold takS; rw [if_pos (by omega)]; exact hM, KO.rf, by unfold takS; rw [if_pos (by omega)], rfl⟩
      have hfi := fstS_in S l0
      refine y_iload_n hE rfl 0 rfl dX4_takes_49 ?_
      refine y_iconst hE dX4_takes_50 ?_
      refine y_icmp_ne hE 64 (by decide) (by omega) (by omega) dX4_takes_51 (fun c_51 => ?_) (fun c_51 => ?_)
      · exact J64 l0 (fstS S l0) (by unfold takl; rw [← hl0]; first | rw [if_pos (by omega)] | rw [if_neg (by omega)]) (by unfold takt; rw [← hl0]; first | rw [if_pos (by omega)] | rw [if_neg (by omega)])
      · refine y_iconst hE dX4_takes_54 ?_
        refine y_iload_n hE rfl 1 rfl dX4_takes_55 ?_
        refine y_isub hE dX4_takes_56 ?_
        refine y_istore_n hE rfl [(2, .int (iI (3 - l0))), (3, .int (iI (fstS S l0))), (1, .int (iI b)), (0, .ref (α 4 0))] (by decide) rfl dX4_takes_57 ?_
        refine y_aload_n hE rfl 3 rfl dX4_takes_58 ?_
        refine y_iload_n hE rfl 0 rfl dX4_takes_59 ?_
        refine y_callV hE (m_X4_firstOf S T (3 - l0) h40 hM (by first | exact hW | omega) (by first | exact hv0 | omega) (by first | exact hX | omega) (by omega) (by first | exact hT0 | omega)) (lw_V q3142 q3144 qs94 q133 q3145) (nA := 1) (by decide +kernel) rfl ⟨Nat.le_of_ble_eq_true rfl, Nat.le_of_ble_eq_true rfl⟩ (hdd := rfl) (hcc := rfl) (hq := rfl) (hi := h40) (rest := []) rfl (by decide) dX4_takes_60 (bc' := 0) (bs' := 0) (Nat.le_refl _) (Nat.le_refl _) (fun r_60 n_60 α_60 K_60 hx_60 hp_60 => ?_)
        obtain ⟨rfl, rfl, rfl, hr_60⟩ := hp_60
        have e_60 : fstS S (3 - l0) = r_60 := Eq.symm (by rw [hr_60])
        subst e_60
        refine y_to (st' := [.int (iI (fstS S (3 - l0)))]) rfl rfl rfl ?_
        refine y_istore_n hE rfl [(3, .int (iI (fstS S (3 - l0)))), (2, .int (iI (3 - l0))), (1, .int (iI b)), (0, .ref (α 4 0))] (by decide) rfl dX4_takes_63 ?_
        exact J64 (3 - l0) (fstS S (3 - l0)) (by unfold takl; rw [← hl0]; first | rw [if_pos (by omega)] | rw [if_neg (by omega)]) (by unfold takt; rw [← hl0]; first | rw [if_pos (by omega)] | rw [if_neg (by omega)])
    refine y_iload_n hE rfl 0 rfl dX4_takes_33 ?_
    refine y_if_eq hE 41 (by decide) (by omega) dX4_takes_34 (fun c_34 => ?_) (fun c_34 => ?_)
    · refine y_iconst hE dX4_takes_41 ?_
      exact J42 1 (by unfold takL; first | rw [if_pos (by omega)] | rw [if_neg (by omega)]) (by omega)
    · refine y_iconst hE dX4_takes_37 ?_
      refine y_goto hE 42 (by decide) dX4_takes_38 ?_
      exact J42 2 (by unfold takL; first | rw [if_pos (by omega)] | rw [if_neg (by omega)]) (by omega)
  refine y_aload_n hE rfl 0 rfl dX4_takes_0 ?_
  refine gX4_7r (z := 0) hE h40 (MObj.r hM.1 0 (by decide)) (by omega) dX4_takes_1 (fun hl_1 => ?_)
  refine y_bipush hE (by decide) dX4_takes_4 ?_
  refine y_iald hE rfl hl_1 (by have hL : K 100 0 (-1) = 1160 := (MObj.l hM.1 0 (by decide)); omega) dX4_takes_6 ?_
  refine y_to (st' := [.int (iI (S 0 8))]) rfl rfl (by rw [show K 100 0 8 = S 0 8 from (MRep.ra hM 0 rfl (by omega) (by first | omega | (show _ < (1160 : Int); omega)))]) ?_
  refine y_iconst hE dX4_takes_7 ?_
  refine y_icmp_ne hE 31 (by decide) (by omega) (by omega) dX4_takes_8 (fun c_8 => ?_) (fun c_8 => ?_)
  · refine y_iconst hE dX4_takes_31 ?_
    exact J32 0 (by omega)
  · have xb := xtb (by omega)
    have wx := hW.tr (S 0 9) (by omega) (by omega)
    refine y_aload_n hE rfl 0 rfl dX4_takes_11 ?_
    refine y_aload_n hE rfl 0 rfl dX4_takes_12 ?_
    refine gX4_7r (z := 0) hE h40 (MObj.r hM.1 0 (by decide)) (by omega) dX4_takes_13 (fun hl_13 => ?_)
    refine y_bipush hE (by decide) dX4_takes_16 ?_
    refine y_iald hE rfl hl_13 (by have hL : K 100 0 (-1) = 1160 := (MObj.l hM.1 0 (by decide)); omega) dX4_takes_18 ?_
    refine y_to (st' := [.int (iI (S 0 9)), .ref (α 4 0)]) rfl rfl (by rw [show K 100 0 9 = S 0 9 from (MRep.ra hM 0 rfl (by omega) (by first | omega | (show _ < (1160 : Int); omega)))]) ?_
    refine y_iconst hE dX4_takes_19 ?_
    refine y_callV hE (m_X4_of S (S 0 9) 5 h40 hM (by omega)) (lw_V q2964 q2966 qs64 q133 q2967) (nA := 2) (by decide +kernel) rfl ⟨Nat.le_of_ble_eq_true rfl, Nat.le_of_ble_eq_true rfl⟩ (hdd := rfl) (hcc := rfl) (hq := rfl) (hi := h40) (rest := []) rfl (by decide) dX4_takes_20 (bc' := 0) (bs' := 0) (Nat.le_refl _) (Nat.le_refl _) (fun r_20 n_20 α_20 K_20 hx_20 hp_20 => ?_)
    obtain ⟨rfl, rfl, rfl, hr_20⟩ := hp_20
    have e_20 : S 20 (17 * (S 0 9) + 5) = r_20 := Eq.symm (by rw [hr_20])
    subst e_20
    refine y_to (st' := [.int (iI (S 20 (17 * (S 0 9) + 5)))]) rfl rfl rfl ?_
    refine y_iconst hE dX4_takes_23 ?_
    refine y_icmp_ne hE 31 (by decide) (by omega) (by omega) dX4_takes_24 (fun c_24 => ?_) (fun c_24 => ?_)
    · refine y_iconst hE dX4_takes_31 ?_
      exact J32 0 (by omega)
    · refine y_iconst hE dX4_takes_27 ?_
      refine y_goto hE 32 (by decide) dX4_takes_28 ?_
      exact J32 1 (by omega)
