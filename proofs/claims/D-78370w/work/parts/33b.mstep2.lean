set_option linter.unusedVariables false
set_option maxHeartbeats 4000000 in
set_option maxRecDepth 100000 in
theorem m_X4_steps {w : KW} {n : KN} {α : KA} {K : KS} (S : SS) (a b : Int) (h40 : (0 : Int) ≤ 0 ∧ 0 < n 4) (hM : MRep S n K) (hW : WFs S) (ha0 : -2147483648 ≤ a ∧ a ≤ 2147483647) (hb0 : -2147483648 ≤ b ∧ b ≤ 2147483647) : KM w yX4_steps cX4_steps 7 (some (.int)) { frames := 2, cells := 0, slots := 0, locals := 46 } (0, 0) [.ref (α 4 0), .int (iI a), .int (iI b)] n α K (fun r n' α' K' => n = n' ∧ α = α' ∧ MRep (S) n K' ∧ KO K K' (fun k i => k = 141 ∨ k = 4) ∧ ((¬ (0 ≤ a ∧ a < S 19 0 ∧ 0 ≤ b ∧ b < S 19 0) ∧ K' 4 0 25 = 1 ∧ r = 0 ∨ (0 ≤ a ∧ a < S 19 0 ∧ 0 ≤ b ∧ b < S 19 0) ∧ K' 4 0 25 = 0 ∧ stpP S a b r) ∧ -1 ≤ r ∧ r ≤ 100)) := by
  refine y_start (by decide) (Nat.le_of_ble_eq_true rfl) (fun x hE hQ => ?_)
  have hw := hQ.2
  subst hw
  have hE : YE x cX4_steps RX4 (some (.int)) "steps" 7 { frames := 2, cells := 0, slots := 0, locals := 46 } := hE
  refine y_wk (fun hWK => ?_)
  have hn0 := hWK.1
  refine y_bud (bc' := 0) (bs' := 0) (Nat.le_refl _) (Nat.le_refl _) ?_
  refine y_to (lv' := [(0, .ref (α 4 0)), (1, .int (iI a)), (2, .int (iI b))]) (st' := []) rfl rfl rfl ?_
  have wpar := hW.par
  have wclips := hW.clips
  have wnodes := hW.nodes
  have wsts := hW.sts
  have wtrs := hW.trs
  have wthr := hW.thr
  have wtxt := hW.txt
  refine y_aload_n hE rfl 0 rfl dX4_steps_0 ?_
  refine y_iconst hE dX4_steps_1 ?_
  refine pX4_94 hE h40 dX4_steps_2 ?_
  refine y_aload_n hE rfl 0 rfl dX4_steps_5 ?_
  refine y_iload_n hE rfl 1 rfl dX4_steps_6 ?_
  refine y_callV hE (m_X4_isState S a h40 (MRep.t hM 25 (by decide) 0) (by omega) (by omega)) (lw_V q2945 q2947 qs61 q133 q2948) (nA := 1) (by decide +kernel) rfl ⟨Nat.le_of_ble_eq_true rfl, Nat.le_of_ble_eq_true rfl⟩ (hdd := rfl) (hcc := rfl) (hq := rfl) (hi := h40) (rest := []) rfl (by decide) dX4_steps_7 (bc' := 0) (bs' := 0) (Nat.le_refl _) (Nat.le_refl _) (fun r_7 n_7 α_7 K_7 hx_7 hp_7 => ?_)
  obtain ⟨rfl, rfl, rfl, hr_7⟩ := hp_7
  refine y_to (st' := [.int (iI r_7)]) rfl rfl rfl ?_
  refine y_if_eq hE 21 (by decide) (by omega) dX4_steps_10 (fun c_10 => ?_) (fun c_10 => ?_)
  · refine y_aload_n hE rfl 0 rfl dX4_steps_21 ?_
    refine y_iconst hE dX4_steps_22 ?_
    refine y_callV hE (m_X4_fails 1 h40) (lw_V q2871 q2873 qs53 q133 q2874) (nA := 1) (by decide +kernel) rfl ⟨Nat.le_of_ble_eq_true rfl, Nat.le_of_ble_eq_true rfl⟩ (hdd := rfl) (hcc := rfl) (hq := rfl) (hi := h40) (rest := []) rfl (by decide) dX4_steps_23 (bc' := 0) (bs' := 0) (Nat.le_refl _) (Nat.le_refl _) (fun r_23 n_23 α_23 K_23 hx_23 hp_23 => ?_)
    obtain ⟨rfl, rfl, rfl, hr_23⟩ := hp_23
    refine y_to (st' := [.int (iI r_23)]) rfl rfl rfl ?_
    exact y_iret hE rfl rfl hQ dX4_steps_26 Ext.rf ⟨rfl, rfl, (MRep.t (MRep.t hM 25 (by decide) 0) 25 (by decide) 1), (KO.up (KO.up KO.rf (by decide)) (by decide)), Or.inl ⟨by omega, by simp [up3], by omega⟩, by omega, by omega⟩
  · refine y_aload_n hE rfl 0 rfl dX4_steps_13 ?_
    refine y_iload_n hE rfl 2 rfl dX4_steps_14 ?_
    refine y_callV hE (m_X4_isState S b h40 (MRep.t hM 25 (by decide) 0) (by omega) (by omega)) (lw_V q2945 q2947 qs61 q133 q2948) (nA := 1) (by decide +kernel) rfl ⟨Nat.le_of_ble_eq_true rfl, Nat.le_of_ble_eq_true rfl⟩ (hdd := rfl) (hcc := rfl) (hq := rfl) (hi := h40) (rest := []) rfl (by decide) dX4_steps_15 (bc' := 0) (bs' := 0) (Nat.le_refl _) (Nat.le_refl _) (fun r_15 n_15 α_15 K_15 hx_15 hp_15 => ?_)
    obtain ⟨rfl, rfl, rfl, hr_15⟩ := hp_15
    refine y_to (st' := [.int (iI r_15)]) rfl rfl rfl ?_
    refine y_if_ne hE 27 (by decide) (by omega) dX4_steps_18 (fun c_18 => ?_) (fun c_18 => ?_)
    · refine y_iconst hE dX4_steps_27 ?_
      refine y_istore_n hE rfl [(3, .int (iI 0)), (0, .ref (α 4 0)), (1, .int (iI a)), (2, .int (iI b))] (by decide) rfl dX4_steps_28 ?_
      have L29 : ∀ (fuel : Nat) (K1 : KS) (s : Int), (MRep S n K1) → (KO K K1 (fun k i => k = 141 ∨ k = 4)) → (0 ≤ s ∧ s ≤ S 19 0) → (∀ z : Int, 0 ≤ z → z < s → K1 141 0 z = if z = a then 0 else 100) → (K1 4 0 25 = 0) → (S 19 0 - s).toNat < fuel → Y x n α K1 0 0 29 [(3, .int (iI s)), (0, .ref (α 4 0)), (1, .int (iI a)), (2, .int (iI b))] [] := by
        intro fuel29
        induction fuel29 with
        | zero => intro K1 s hM1 hk1 hsr hi1 h251 hfu29; exact absurd hfu29 (Nat.not_lt_zero _)
        | succ fuel29 ih29 =>
          intro K1 s hM1 hk1 hsr hi1 h251 hfu29
          refine y_iload_n hE rfl 0 rfl dX4_steps_29 ?_
          refine y_aload_n hE rfl 1 rfl dX4_steps_30 ?_
          refine gX4_145 (z := S 19 0) hE h40 (hM1.2.2.2.2.2.1) dX4_steps_31 ?_
          refine y_icmp_ge hE 60 (by decide) (by omega) (by omega) dX4_steps_34 (fun c_34 => ?_) (fun c_34 => ?_)
          · refine y_iconst hE dX4_steps_60 ?_
            refine y_istore_n hE rfl [(3, .int (iI 0)), (0, .ref (α 4 0)), (1, .int (iI a)), (2, .int (iI b))] (by decide) rfl dX4_steps_61 ?_
            have L62 : ∀ (fuel : Nat) (K2 : KS) (R : Int), (MRep S n K2) → (KO K K2 (fun k i => k = 141 ∨ k = 4)) → (0 ≤ R ∧ R ≤ S 19 0) → (FarOk S a (K2 141 0)) → (FarC S a (K2 141 0) R) → (K2 4 0 25 = 0) → (S 19 0 - R).toNat < fuel → Y x n α K2 0 0 62 [(3, .int (iI R)), (0, .ref (α 4 0)), (1, .int (iI a)), (2, .int (iI b))] [] := by
              intro fuel62
              induction fuel62 with
              | zero => intro K2 R hM2 hk2 hRr hok2 hC2 h252 hfu62; exact absurd hfu62 (Nat.not_lt_zero _)
              | succ fuel62 ih62 =>
                intro K2 R hM2 hk2 hRr hok2 hC2 h252 hfu62
                refine y_iload_n hE rfl 0 rfl dX4_steps_62 ?_
                refine y_aload_n hE rfl 1 rfl dX4_steps_63 ?_
                refine gX4_145 (z := S 19 0) hE h40 (hM2.2.2.2.2.2.1) dX4_steps_64 ?_
                refine y_icmp_ge hE 195 (by decide) (by omega) (by omega) dX4_steps_67 (fun c_67 => ?_) (fun c_67 => ?_)
                · have hb1 := hok2 b (by omega) (by omega)
                  have hend := far_end hW (a := a) (b := b) (by omega) (by omega) hok2 (by rw [show S 19 0 = R by omega]; exact hC2)
                  refine y_aload_n hE rfl 1 rfl dX4_steps_195 ?_
                  refine gX4_91r (z := 0) hE h40 (MObj.r hM2.1 41 (by decide)) (by omega) dX4_steps_196 (fun hl_196 => ?_)
                  refine y_iload_n hE rfl 3 rfl dX4_steps_199 ?_
                  refine y_iald hE rfl hl_196 (by have hL : K2 141 0 (-1) = 10 := (MObj.l hM2.1 41 (by decide)); omega) dX4_steps_200 ?_
                  refine y_bipush hE (by decide) dX4_steps_201 ?_
                  refine y_icmp_ge hE 215 (by decide) (by omega) (by omega) dX4_steps_203 (fun c_203 => ?_) (fun c_203 => ?_)
                  · refine y_iconst hE dX4_steps_215 ?_
                    exact y_iret hE rfl rfl hQ dX4_steps_216 Ext.rf ⟨rfl, rfl, hM2, hk2, Or.inr ⟨by omega, h252, by first | (rw [if_pos (by omega)] at hend; exact hend) | (rw [if_neg (by omega)] at hend; exact hend)⟩, by omega, by omega⟩
                  · refine y_aload_n hE rfl 1 rfl dX4_steps_206 ?_
                    refine gX4_91r (z := 0) hE h40 (MObj.r hM2.1 41 (by decide)) (by omega) dX4_steps_207 (fun hl_207 => ?_)
                    refine y_iload_n hE rfl 3 rfl dX4_steps_210 ?_
                    refine y_iald hE rfl hl_207 (by have hL : K2 141 0 (-1) = 10 := (MObj.l hM2.1 41 (by decide)); omega) dX4_steps_211 ?_
                    refine y_goto hE 216 (by decide) dX4_steps_212 ?_
                    exact y_iret hE rfl rfl hQ dX4_steps_216 Ext.rf ⟨rfl, rfl, hM2, hk2, Or.inr ⟨by omega, h252, by first | (rw [if_pos (by omega)] at hend; exact hend) | (rw [if_neg (by omega)] at hend; exact hend)⟩, by omega, by omega⟩
                · refine y_iconst hE dX4_steps_70 ?_
                  refine y_istore hE [(4, .int (iI 0)), (3, .int (iI R)), (0, .ref (α 4 0)), (1, .int (iI a)), (2, .int (iI b))] (by decide) rfl dX4_steps_71 ?_
                  have L73 : ∀ (fuel : Nat) (K3 : KS) (t : Int), (MRep S n K3) → (KO K K3 (fun k i => k = 141 ∨ k = 4)) → (0 ≤ t ∧ t ≤ S 21 0) → (FarOk S a (K3 141 0)) → (FarT S (K3 141 0) (K2 141 0) t 0) → (K3 4 0 25 = 0) → (S 21 0 - t).toNat < fuel → Y x n α K3 0 0 73 [(4, .int (iI t)), (3, .int (iI R)), (0, .ref (α 4 0)), (1, .int (iI a)), (2, .int (iI b))] [] := by
                    intro fuel73
                    induction fuel73 with
                    | zero => intro K3 t hM3 hk3 htr hok3 hT3 h253 hfu73; exact absurd hfu73 (Nat.not_lt_zero _)
                    | succ fuel73 ih73 =>
                      intro K3 t hM3 hk3 htr hok3 hT3 h253 hfu73
                      refine y_iload hE 0 rfl dX4_steps_73 ?_
                      refine y_aload_n hE rfl 2 rfl dX4_steps_75 ?_
                      refine gX4_159 (z := S 21 0) hE h40 (hM3.2.2.2.2.2.2.1) dX4_steps_76 ?_
                      refine y_icmp_ge hE 189 (by decide) (by omega) (by omega) dX4_steps_79 (fun c_79 => ?_) (fun c_79 => ?_)
                      · refine y_iinc hE 1 rfl [(3, .int (iI (R + 1))), (4, .int (iI t)), (0, .ref (α 4 0)), (1, .int (iI a)), (2, .int (iI b))] (by decide) rfl dX4_steps_189 ?_
                        refine y_goto hE 62 (by decide) dX4_steps_192 ?_
                        refine y_lv [0, 2, 3, 4] [(3, .int (iI (R + 1))), (0, .ref (α 4 0)), (1, .int (iI a)), (2, .int (iI b))] rfl ?_
                        exact ih62 K3 (R + 1) (hM3) (hk3) (by omega) (hok3) (farC_next hW (by omega) hT3 (by omega) hC2 (by omega)) (h253) (by omega)
                      · refine y_iconst hE dX4_steps_82 ?_
                        refine y_istore hE [(5, .int (iI 0)), (4, .int (iI t)), (3, .int (iI R)), (0, .ref (α 4 0)), (1, .int (iI a)), (2, .int (iI b))] (by decide) rfl dX4_steps_83 ?_
                        have L85 : ∀ (fuel : Nat) (K4 : KS) (s : Int), (MRep S n K4) → (KO K K4 (fun k i => k = 141 ∨ k = 4)) → (0 ≤ s ∧ s ≤ S 19 0) → (FarOk S a (K4 141 0)) → (FarT S (K4 141 0) (K2 141 0) t s) → (K4 4 0 25 = 0) → (S 19 0 - s).toNat < fuel → Y x n α K4 0 0 85 [(5, .int (iI s)), (4, .int (iI t)), (3, .int (iI R)), (0, .ref (α 4 0)), (1, .int (iI a)), (2, .int (iI b))] [] := by
                          intro fuel85
                          induction fuel85 with
                          | zero => intro K4 s hM4 hk4 hsr4 hok4 hT4 h254 hfu85; exact absurd hfu85 (Nat.not_lt_zero _)
                          | succ fuel85 ih85 =>
                            intro K4 s hM4 hk4 hsr4 hok4 hT4 h254 hfu85
                            refine y_iload hE 0 rfl dX4_steps_85 ?_
                            refine y_aload_n hE rfl 3 rfl dX4_steps_87 ?_
                            refine gX4_145 (z := S 19 0) hE h40 (hM4.2.2.2.2.2.1) dX4_steps_88 ?_
                            refine y_icmp_ge hE 183 (by decide) (by omega) (by omega) dX4_steps_91 (fun c_91 => ?_) (fun c_91 => ?_)
                            · refine y_iinc hE 1 rfl [(4, .int (iI (t + 1))), (5, .int (iI s)), (3, .int (iI R)), (0, .ref (α 4 0)), (1, .int (iI a)), (2, .int (iI b))] (by decide) rfl dX4_steps_183 ?_
                              refine y_goto hE 73 (by decide) dX4_steps_186 ?_
                              refine y_lv [0, 2, 3, 4, 5] [(4, .int (iI (t + 1))), (3, .int (iI R)), (0, .ref (α 4 0)), (1, .int (iI a)), (2, .int (iI b))] rfl ?_
                              exact ih73 K4 (t + 1) (hM4) (hk4) (by omega) (hok4) (farT_next hT4 (by omega)) (h254) (by omega)
                            · have wt := hW.tr t (by omega) (by omega)
                              have hs1 := hok4 s (by omega) (by omega)
                              have hs2 := hok4 (S 20 (17 * t + 1)) (by omega) (by omega)
                              have hi01 := inlI_01 S t s
                              have J134 : ∀ (nb : Int), (nb = 1 ∧ (inlI S t s = 1 ∧ K4 141 0 s + 1 < K4 141 0 (S 20 (17 * t + 1))) ∨ nb = 0 ∧ ¬ (inlI S t s = 1 ∧ K4 141 0 s + 1 < K4 141 0 (S 20 (17 * t + 1)))) → Y x n α K4 0 0 134 [(5, .int (iI s)), (4, .int (iI t)), (3, .int (iI R)), (0, .ref (α 4 0)), (1, .int (iI a)), (2, .int (iI b))] [.int (iI nb)] := by
                                intro nb hnb
                                refine y_istore hE [(6, .int (iI nb)), (5, .int (iI s)), (4, .int (iI t)), (3, .int (iI R)), (0, .ref (α 4 0)), (1, .int (iI a)), (2, .int (iI b))] (by decide) rfl dX4_steps_134 ?_
                                refine y_aload_n hE rfl 4 rfl dX4_steps_136 ?_
                                refine gX4_91r (z := 0) hE h40 (MObj.r hM4.1 41 (by decide)) (by omega) dX4_steps_137 (fun hl_137 => ?_)
                                refine y_aload_n hE rfl 4 rfl dX4_steps_140 ?_
                                refine y_iload hE 2 rfl dX4_steps_141 ?_
                                refine y_iconst hE dX4_steps_143 ?_
                                refine y_callV hE (m_X4_of S t 1 h40 hM4 (by omega)) (lw_V q2964 q2966 qs64 q133 q2967) (nA := 2) (by decide +kernel) rfl ⟨Nat.le_of_ble_eq_true rfl, Nat.le_of_ble_eq_true rfl⟩ (hdd := rfl) (hcc := rfl) (hq := rfl) (hi := h40) (rest := [.ref (α 141 0)]) rfl (by simp [refV_cat, Value.category]) dX4_steps_144 (bc' := 0) (bs' := 0) (Nat.le_refl _) (Nat.le_refl _) (fun r_144 n_144 α_144 K_144 hx_144 hp_144 => ?_)
                                obtain ⟨rfl, rfl, rfl, hr_144⟩ := hp_144
                                have e_144 : S 20 (17 * t + 1) = r_144 := Eq.symm (by rw [hr_144])
                                subst e_144
                                refine y_to (st' := [.int (iI (S 20 (17 * t + 1))), .ref (α 141 0)]) rfl rfl rfl ?_
                                have J176 : ∀ (v : Int), (v = if inlI S t s = 1 ∧ K4 141 0 s + 1 < K4 141 0 (S 20 (17 * t + 1)) then K4 141 0 s + 1 else K4 141 0 (S 20 (17 * t + 1))) → Y x n α K4 0 0 176 [(6, .int (iI nb)), (5, .int (iI s)), (4, .int (iI t)), (3, .int (iI R)), (0, .ref (α 4 0)), (1, .int (iI a)), (2, .int (iI b))] [.int (iI v), .int (iI (S 20 (17 * t + 1))), .ref (α 141 0)] := by
                                  intro v hv
                                  have hfs := far_step hok4 hT4 (by omega) (by omega) (to := S 20 (17 * t + 1)) rfl (by omega) (g' := up3 K4 141 0 (S 20 (17 * t + 1)) v 141 0) (fun z => by by_cases e : z = S 20 (17 * t + 1); (rw [if_pos e, ← hv, e, up3_s]); (rw [if_neg e, up3_f _ _ _ _ _ _ e]))
                                  refine y_iast hE (by unfold kC; decide) rfl (by simp [kTag]) hl_137 (by have hL : K4 141 0 (-1) = 10 := (MObj.l hM4.1 41 (by decide)); omega) dX4_steps_176 ?_
                                  refine y_iinc hE 1 rfl [(5, .int (iI (s + 1))), (6, .int (iI nb)), (4, .int (iI t)), (3, .int (iI R)), (0, .ref (α 4 0)), (1, .int (iI a)), (2, .int (iI b))] (by decide) rfl dX4_steps_177 ?_
                                  refine y_goto hE 85 (by decide) dX4_steps_180 ?_
                                  refine y_lv [0, 2, 3, 4, 5, 6] [(5, .int (iI (s + 1))), (4, .int (iI t)), (3, .int (iI R)), (0, .ref (α 4 0)), (1, .int (iI a)), (2, .int (iI b))] rfl ?_
                                  exact ih85 (up3 K4 141 0 (S 20 (17 * t + 1)) v) (s + 1) ((MRep.u hM4 41 (by decide) (j := S 20 (17 * t + 1)) (by omega) v)) ((KO.up hk4 (by decide))) (by omega) (hfs.1) (hfs.2) (by simp [up3, h254]) (by omega)
                                refine y_iload hE 0 rfl dX4_steps_147 ?_
                                refine y_if_eq hE 164 (by decide) (by omega) dX4_steps_149 (fun c_149 => ?_) (fun c_149 => ?_)
                                · refine y_aload_n hE rfl 4 rfl dX4_steps_164 ?_
                                  refine gX4_91r (z := 0) hE h40 (MObj.r hM4.1 41 (by decide)) (by omega) dX4_steps_165 (fun hl_165 => ?_)
                                  refine y_aload_n hE rfl 4 rfl dX4_steps_168 ?_
                                  refine y_iload hE 2 rfl dX4_steps_169 ?_
                                  refine y_iconst hE dX4_steps_171 ?_
                                  refine y_callV hE (m_X4_of S t 1 h40 hM4 (by omega)) (lw_V q2964 q2966 qs64 q133 q2967) (nA := 2) (by decide +kernel) rfl ⟨Nat.le_of_ble_eq_true rfl, Nat.le_of_ble_eq_true rfl⟩ (hdd := rfl) (hcc := rfl) (hq := rfl) (hi := h40) (rest := [.ref (α 141 0), .int (iI (S 20 (17 * t + 1))), .ref (α 141 0)]) rfl (by simp [refV_cat, Value.category]) dX4_steps_172 (bc' := 0) (bs' := 0) (Nat.le_refl _) (Nat.le_refl _) (fun r_172 n_172 α_172 K_172 hx_172 hp_172 => ?_)
                                  obtain ⟨rfl, rfl, rfl, hr_172⟩ := hp_172
                                  have e_172 : S 20 (17 * t + 1) = r_172 := Eq.symm (by rw [hr_172])
                                  subst e_172
                                  refine y_to (st' := [.int (iI (S 20 (17 * t + 1))), .ref (α 141 0), .int (iI (S 20 (17 * t + 1))), .ref (α 141 0)]) rfl rfl rfl ?_
                                  refine y_iald hE rfl hl_165 (by have hL : K4 141 0 (-1) = 10 := (MObj.l hM4.1 41 (by decide)); omega) dX4_steps_175 ?_
                                  exact J176 (K4 141 0 (S 20 (17 * t + 1))) (by first | rw [if_pos (by omega)] | rw [if_neg (by omega)])
                                · refine y_aload_n hE rfl 4 rfl dX4_steps_152 ?_
                                  refine gX4_91r (z := 0) hE h40 (MObj.r hM4.1 41 (by decide)) (by omega) dX4_steps_153 (fun hl_153 => ?_)
                                  refine y_iload hE 1 rfl dX4_steps_156 ?_
                                  refine y_iald hE rfl hl_153 (by have hL : K4 141 0 (-1) = 10 := (MObj.l hM4.1 41 (by decide)); omega) dX4_steps_158 ?_
                                  refine y_iconst hE dX4_steps_159 ?_
                                  refine y_iadd hE dX4_steps_160 ?_
                                  refine y_goto hE 176 (by decide) dX4_steps_161 ?_
                                  exact J176 ((K4 141 0 s) + 1) (by first | rw [if_pos (by omega)] | rw [if_neg (by omega)])
                              refine y_aload_n hE rfl 3 rfl dX4_steps_94 ?_
                              refine y_iload hE 1 rfl dX4_steps_95 ?_
                              refine y_iload hE 0 rfl dX4_steps_97 ?_
                              refine y_callV hE (m_X4_inList S t s h40 hM4 (by assumption) (by omega) (by omega)) (lw_V q3101 q3103 qs85 q133 q3104) (nA := 2) (by decide +kernel) rfl ⟨Nat.le_of_ble_eq_true rfl, Nat.le_of_ble_eq_true rfl⟩ (hdd := rfl) (hcc := rfl) (hq := rfl) (hi := h40) (rest := []) rfl (by decide) dX4_steps_99 (bc' := 0) (bs' := 0) (Nat.le_refl _) (Nat.le_refl _) (fun r_99 n_99 α_99 K_99 hx_99 hp_99 => ?_)
                              obtain ⟨rfl, rfl, rfl, hr_99⟩ := hp_99
                              have e_99 : inlI S t s = r_99 := Eq.symm (by rw [hr_99])
                              subst e_99
                              refine y_to (st' := [.int (iI (inlI S t s))]) rfl rfl rfl ?_
                              refine y_if_eq hE 133 (by decide) (by omega) dX4_steps_102 (fun c_102 => ?_) (fun c_102 => ?_)
                              · refine y_iconst hE dX4_steps_133 ?_
                                exact J134 0 (by omega)
                              · refine y_aload_n hE rfl 3 rfl dX4_steps_105 ?_
                                refine gX4_91r (z := 0) hE h40 (MObj.r hM4.1 41 (by decide)) (by omega) dX4_steps_106 (fun hl_106 => ?_)
                                refine y_iload hE 0 rfl dX4_steps_109 ?_
                                refine y_iald hE rfl hl_106 (by have hL : K4 141 0 (-1) = 10 := (MObj.l hM4.1 41 (by decide)); omega) dX4_steps_111 ?_
                                refine y_iconst hE dX4_steps_112 ?_
                                refine y_iadd hE dX4_steps_113 ?_
                                refine y_aload_n hE rfl 3 rfl dX4_steps_114 ?_
                                refine gX4_91r (z := 0) hE h40 (MObj.r hM4.1 41 (by decide)) (by omega) dX4_steps_115 (fun hl_115 => ?_)
                                refine y_aload_n hE rfl 3 rfl dX4_steps_118 ?_
                                refine y_iload hE 1 rfl dX4_steps_119 ?_
                                refine y_iconst hE dX4_steps_121 ?_
                                refine y_callV hE (m_X4_of S t 1 h40 hM4 (by omega)) (lw_V q2964 q2966 qs64 q133 q2967) (nA := 2) (by decide +kernel) rfl ⟨Nat.le_of_ble_eq_true rfl, Nat.le_of_ble_eq_true rfl⟩ (hdd := rfl) (hcc := rfl) (hq := rfl) (hi := h40) (rest := [.ref (α 141 0), .int (iI ((K4 141 0 s) + 1))]) rfl (by simp [refV_cat, Value.category]) dX4_steps_122 (bc' := 0) (bs' := 0) (Nat.le_refl _) (Nat.le_refl _) (fun r_122 n_122 α_122 K_122 hx_122 hp_122 => ?_)
                                obtain ⟨rfl, rfl, rfl, hr_122⟩ := hp_122
                                have e_122 : S 20 (17 * t + 1) = r_122 := Eq.symm (by rw [hr_122])
                                subst e_122
                                refine y_to (st' := [.int (iI (S 20 (17 * t + 1))), .ref (α 141 0), .int (iI ((K4 141 0 s) + 1))]) rfl rfl rfl ?_
                                refine y_iald hE rfl hl_115 (by have hL : K4 141 0 (-1) = 10 := (MObj.l hM4.1 41 (by decide)); omega) dX4_steps_125 ?_
                                refine y_icmp_ge hE 133 (by decide) (by omega) (by omega) dX4_steps_126 (fun c_126 => ?_) (fun c_126 => ?_)
                                · refine y_iconst hE dX4_steps_133 ?_
                                  exact J134 0 (by omega)
                                · refine y_iconst hE dX4_steps_129 ?_
                                  refine y_goto hE 134 (by decide) dX4_steps_130 ?_
                                  exact J134 1 (by omega)
                        exact L85 _ K3 0 (hM3) (hk3) (by omega) (hok3) (hT3) (h253) (Nat.lt_succ_self _)
                  exact L73 _ K2 0 (hM2) (hk2) (by omega) (hok2) (⟨fun _ _ _ => Int.le_refl _, fun t' y t0 t1 y0 y1 hl hi => by omega⟩) (h252) (Nat.lt_succ_self _)
            exact L62 _ K1 0 (hM1) (hk1) (by omega) (fun z z0 z1 => by rw [hi1 z z0 (by omega)]; by_cases e : z = a; (rw [if_pos e]; exact Or.inr ⟨Int.le_refl _, by omega, e⟩); (rw [if_neg e]; exact Or.inl rfl)) (fun m hm z hz => by obtain rfl : m = 0 := (by omega); have e : z = a := hz; rw [hi1 z (by omega) (by omega), if_pos e]; omega) (h251) (Nat.lt_succ_self _)
          · refine y_aload_n hE rfl 1 rfl dX4_steps_37 ?_
            refine gX4_91r (z := 0) hE h40 (MObj.r hM1.1 41 (by decide)) (by omega) dX4_steps_38 (fun hl_38 => ?_)
            refine y_iload_n hE rfl 0 rfl dX4_steps_41 ?_
            have J53 : ∀ (v : Int), (v = if s = a then 0 else 100) → Y x n α K1 0 0 53 [(3, .int (iI s)), (0, .ref (α 4 0)), (1, .int (iI a)), (2, .int (iI b))] [.int (iI v), .int (iI s), .ref (α 141 0)] := by
              intro v hv
              refine y_iast hE (by unfold kC; decide) rfl (by simp [kTag]) hl_38 (by have hL : K1 141 0 (-1) = 10 := (MObj.l hM1.1 41 (by decide)); omega) dX4_steps_53 ?_
              refine y_iinc hE 0 rfl [(3, .int (iI (s + 1))), (0, .ref (α 4 0)), (1, .int (iI a)), (2, .int (iI b))] (by decide) rfl dX4_steps_54 ?_
              refine y_goto hE 29 (by decide) dX4_steps_57 ?_
              exact ih29 (up3 K1 141 0 s v) (s + 1) ((MRep.u hM1 41 (by decide) (j := s) (by omega) v)) ((KO.up hk1 (by decide))) (by omega) (fun z z0 z1 => by by_cases e : z = s; (subst e; rw [up3_s]; exact hv); (rw [up3_f _ _ _ _ _ _ e]; exact hi1 z z0 (by omega))) (by simp [up3, h251]) (by omega)
            refine y_iload_n hE rfl 0 rfl dX4_steps_42 ?_
            refine y_iload_n hE rfl 2 rfl dX4_steps_43 ?_
            refine y_icmp_ne hE 51 (by decide) (by omega) (by omega) dX4_steps_44 (fun c_44 => ?_) (fun c_44 => ?_)
            · refine y_bipush hE (by decide) dX4_steps_51 ?_
              exact J53 100 (by first | rw [if_pos (by omega)] | rw [if_neg (by omega)])
            · refine y_iconst hE dX4_steps_47 ?_
              refine y_goto hE 53 (by decide) dX4_steps_48 ?_
              exact J53 0 (by first | rw [if_pos (by omega)] | rw [if_neg (by omega)])
      exact L29 _ (up3 K 4 0 25 0) 0 ((MRep.t hM 25 (by decide) 0)) ((KO.up KO.rf (by decide))) (by omega) (fun z z0 z1 => by omega) (by simp [up3]) (Nat.lt_succ_self _)
    · refine y_aload_n hE rfl 0 rfl dX4_steps_21 ?_
      refine y_iconst hE dX4_steps_22 ?_
      refine y_callV hE (m_X4_fails 1 h40) (lw_V q2871 q2873 qs53 q133 q2874) (nA := 1) (by decide +kernel) rfl ⟨Nat.le_of_ble_eq_true rfl, Nat.le_of_ble_eq_true rfl⟩ (hdd := rfl) (hcc := rfl) (hq := rfl) (hi := h40) (rest := []) rfl (by decide) dX4_steps_23 (bc' := 0) (bs' := 0) (Nat.le_refl _) (Nat.le_refl _) (fun r_23_2 n_23_2 α_23_2 K_23_2 hx_23_2 hp_23_2 => ?_)
      obtain ⟨rfl, rfl, rfl, hr_23_2⟩ := hp_23_2
      refine y_to (st' := [.int (iI r_23_2)]) rfl rfl rfl ?_
      exact y_iret hE rfl rfl hQ dX4_steps_26 Ext.rf ⟨rfl, rfl, (MRep.t (MRep.t hM 25 (by decide) 0) 25 (by decide) 1), (KO.up (KO.up KO.rf (by decide)) (by decide)), Or.inl ⟨by omega, by simp [up3], by omega⟩, by omega, by omega⟩
