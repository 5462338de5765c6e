set_option linter.unusedVariables false
set_option maxHeartbeats 4000000 in
set_option maxRecDepth 100000 in
theorem m_X4_readsCondition {w : KW} {n : KN} {α : KA} {K : KS} (S : SS) (Z : SS) (cd pa fi ad nu rm we co : Int) (Q : SS) (h40 : (0 : Int) ≤ 0 ∧ 0 < n 4) (hM : MRep S n K) (hps : PS K cd pa fi ad nu rm we co) (hz : SZ S Z) (hWz : WFs Z) (hpa : 0 ≤ pa ∧ pa ≤ Z 24 0) (hfi : 0 ≤ fi ∧ fi ≤ 1) (hf1 : fi = 1) (hQs : ad = 1 → S = Q) (hQz : SZ Q Z) (had : 0 ≤ ad ∧ ad ≤ 1) (h21 : 1 ≤ Q 21 0 ∧ Q 21 0 ≤ 24) (hcn : 0 ≤ Q 20 (17 * (Q 21 0 - 1) + 7) ∧ Q 20 (17 * (Q 21 0 - 1) + 7) < 3) : KM w yX4_readsCondition cX4_readsCondition 6 none { frames := 2, cells := 0, slots := 0, locals := 49 } (3, 0) [.ref (α 4 0)] n α K (fun r n' α' K' => n = n' ∧ α = α' ∧ MRep (zif ad (cdQ Z Q pa) S) n K' ∧ KO K K' (fun k _ => k = 4 ∨ k = 120) ∧ (PS K' cd (cdA Z pa) (cdF Z pa) ad (cdN Z pa nu) rm we co ∧ True)) := by
  refine y_start (by decide) (Nat.le_of_ble_eq_true rfl) (fun x hE hQ => ?_)
  have hw := hQ.2
  subst hw
  have hE : YE x cX4_readsCondition RX4 none "readsCondition" 6 { frames := 2, cells := 0, slots := 0, locals := 49 } := hE
  refine y_wk (fun hWK => ?_)
  have hn0 := hWK.1
  refine y_bud (bc' := 0) (bs' := 0) (Nat.le_refl _) (Nat.le_refl _) ?_
  refine y_to (lv' := [(0, .ref (α 4 0))]) (st' := []) rfl rfl rfl ?_
  have wtxt := hWz.txt
  have wsts := hWz.sts
  have wpar := hWz.par
  have wtrs := hWz.trs
  have q24 : S 24 0 = Z 24 0 := congrFun (hz 24 (by decide) (by decide)) 0
  have q19 : S 19 0 = Z 19 0 := congrFun (hz 19 (by decide) (by decide)) 0
  have q3 : S 3 0 = Z 3 0 := congrFun (hz 3 (by decide) (by decide)) 0
  have wsk := sk_in (Z := Z) (a := pa) (by omega)
  obtain ⟨i1, i2, i3, i4, i5, i6⟩ := c_in hWz hpa
  have iF := cdF_01 Z pa
  have eNt : cNt Z pa = hI Z (sk Z pa) 126 := rfl
  have eB5 : cB5 Z pa = cB4 Z pa + cMi Z pa := rfl
  have iop := opI_in Z (cB3 Z pa)
  rw [← cOp] at iop
  have hnb : sk Z pa + cNt Z pa ≤ Z 24 0 := by rcases i1 with e | e; omega; (have := hI_ln e; omega)
  have q21 : ad = 1 → S 21 0 = Q 21 0 := fun z => by rw [hQs z]
  refine y_aload_n hE rfl 0 rfl dX4_readsCondition_0 ?_
  refine y_callV hE (m_X4_skips S Z cd pa fi ad nu rm we co h40 hM ⟨hps.1, hps.2.1, hps.2.2.1, hps.2.2.2.1, hps.2.2.2.2.1, hps.2.2.2.2.2.1, hps.2.2.2.2.2.2.1, hps.2.2.2.2.2.2.2⟩ (by first | exact hz | omega) (by first | exact hWz | omega) (by first | exact hpa | omega)) (lw_V q3006 q3008 qs68 q133 q3009) (nA := 0) (by decide +kernel) rfl ⟨Nat.le_of_ble_eq_true rfl, Nat.le_of_ble_eq_true rfl⟩ (hdd := rfl) (hcc := rfl) (hq := rfl) (hi := h40) (rest := []) rfl (by decide) dX4_readsCondition_1 (bc' := 0) (bs' := 0) (Nat.le_refl _) (Nat.le_refl _) (fun r_1 n_1 α_1 K_1 hx_1 hp_1 => ?_)
  obtain ⟨rfl, rfl, hM_1, hk_1, hr_1⟩ := hp_1
  obtain ⟨⟨z25_1, z30_1, z31_1, z32_1, z33_1, z34_1, z35_1, z36_1⟩, hr_1⟩ := hr_1
  refine y_to (st' := []) rfl rfl rfl ?_
  refine y_aload_n hE rfl 0 rfl dX4_readsCondition_4 ?_
  refine y_bipush hE (by decide) dX4_readsCondition_5 ?_
  refine y_callV hE (m_X4_here S Z cd (sk Z pa) fi ad nu rm we co 126 h40 hM_1 ⟨z25_1, z30_1, z31_1, z32_1, z33_1, z34_1, z35_1, z36_1⟩ (by assumption) (by assumption) (by omega) (by omega) (by omega)) (lw_V q3014 q3016 qs70 q133 q3017) (nA := 1) (by decide +kernel) rfl ⟨Nat.le_of_ble_eq_true rfl, Nat.le_of_ble_eq_true rfl⟩ (hdd := rfl) (hcc := rfl) (hq := rfl) (hi := h40) (rest := []) rfl (by decide) dX4_readsCondition_7 (bc' := 0) (bs' := 0) (Nat.le_refl _) (Nat.le_refl _) (fun r_7 n_7 α_7 K_7 hx_7 hp_7 => ?_)
  obtain ⟨rfl, rfl, rfl, hr_7⟩ := hp_7
  have e_7 : hI Z (sk Z pa) 126 = r_7 := Eq.symm (by rw [hr_7.1])
  subst e_7
  refine y_to (st' := [.int (iI (hI Z (sk Z pa) 126))]) rfl rfl rfl ?_
  refine y_istore_n hE rfl [(1, .int (iI (hI Z (sk Z pa) 126))), (0, .ref (α 4 0))] (by decide) rfl dX4_readsCondition_10 ?_
  have J33 : ∀ (K3 : KS) (p1 : Int), (MRep S n K3) → (KO K K3 (fun k _ => k = 4 ∨ k = 120)) → (PS K3 cd p1 fi ad nu rm we co) → (p1 = cB1 Z pa) → Y x n α K3 0 0 33 [(1, .int (iI (hI Z (sk Z pa) 126))), (0, .ref (α 4 0))] [] := by
    intro K3 p1 hM3 hk3 hps3 hp1
    have J61 : ∀ (pv : Int), (pv = cP Z pa) → Y x n α K3 0 0 61 [(1, .int (iI (hI Z (sk Z pa) 126))), (0, .ref (α 4 0))] [.int (iI pv)] := by
      intro pv hp
      refine y_istore_n hE rfl [(2, .int (iI pv)), (1, .int (iI (hI Z (sk Z pa) 126))), (0, .ref (α 4 0))] (by decide) rfl dX4_readsCondition_61 ?_
      have J90 : ∀ (f1 : Int), (f1 = cF1 Z pa) → Y x n α K3 0 0 90 [(2, .int (iI pv)), (1, .int (iI (hI Z (sk Z pa) 126))), (0, .ref (α 4 0))] [.int (iI f1), .ref (α 4 0)] := by
        intro f1 hf1
        refine pX4_197 hE h40 (by omega) dX4_readsCondition_90 ?_
        refine y_aload_n hE rfl 2 rfl dX4_readsCondition_93 ?_
        refine gX4_197 (z := f1) hE h40 (by simp [up3, upr]) dX4_readsCondition_94 ?_
        refine y_if_ne hE 101 (by decide) (by omega) dX4_readsCondition_97 (fun c_97 => ?_) (fun c_97 => ?_)
        · have wkp := hWz.kind pv (by omega) (by omega)
          have i4 : _ := i4.resolve_left (by omega)
          have eB3 : cB3 Z pa = sk Z (p1 + 1) := by rw [hp1]; rfl
          refine y_aload_n hE rfl 2 rfl dX4_readsCondition_101 ?_
          refine y_dup hE rfl dX4_readsCondition_102 ?_
          refine gX4_191 (z := p1) hE h40 hps3.2.1 dX4_readsCondition_103 ?_
          refine y_iconst hE dX4_readsCondition_106 ?_
          refine y_iadd hE dX4_readsCondition_107 ?_
          refine pX4_191 hE h40 dX4_readsCondition_108 ?_
          refine y_iconst hE dX4_readsCondition_111 ?_
          refine y_istore_n hE rfl [(3, .int (iI 2)), (2, .int (iI pv)), (1, .int (iI (hI Z (sk Z pa) 126))), (0, .ref (α 4 0))] (by decide) rfl dX4_readsCondition_112 ?_
          have J122 : ∀ (va : Int), (va = if cNt Z pa = 1 then 0 else 1) → Y x n α (up3 (up3 K3 4 0 31 f1) 4 0 30 (p1 + 1)) 0 0 122 [(3, .int (iI 2)), (2, .int (iI pv)), (1, .int (iI (hI Z (sk Z pa) 126))), (0, .ref (α 4 0))] [.int (iI va)] := by
            intro va hva
            refine y_istore hE [(4, .int (iI va)), (3, .int (iI 2)), (2, .int (iI pv)), (1, .int (iI (hI Z (sk Z pa) 126))), (0, .ref (α 4 0))] (by decide) rfl dX4_readsCondition_122 ?_
            have J297 : ∀ (K9 : KS) (op vv p9 fi9 nu9 : Int), (MRep S n K9) → (KO K K9 (fun k _ => k = 4 ∨ k = 120)) → (PS K9 cd p9 fi9 ad nu9 rm we co) → (fi9 = cdF Z pa) → (p9 = cdA Z pa) → (nu9 = cdN Z pa nu) → (op = cdO Z pa) → (vv = cdV Z pa) → Y x n α K9 0 0 297 [(4, .int (iI vv)), (3, .int (iI op)), (2, .int (iI pv)), (1, .int (iI (hI Z (sk Z pa) 126))), (0, .ref (α 4 0))] [] := by
              intro K9 op vv p9 fi9 nu9 hM9 hk9 hps9 y_F y_A y_N y_O y_V
              refine y_aload_n hE rfl 4 rfl dX4_readsCondition_297 ?_
              refine gX4_197 (z := fi9) hE h40 hps9.2.2.1 dX4_readsCondition_298 ?_
              refine y_if_eq hE 325 (by decide) (by omega) dX4_readsCondition_301 (fun c_301 => ?_) (fun c_301 => ?_)
              · refine y_vret (r := 0) hE rfl hQ dX4_readsCondition_325 Ext.rf ?_
                refine ⟨rfl, rfl, by unfold cdQ; first | (rw [if_neg (by omega), zif_e hQs]; exact hM9) | (rw [zif_0 (by omega)]; exact hM9) | (rw [zif_1 (by omega), if_pos (by omega), ← hQs (by omega), ← y_O, ← y_V, ← hp]; exact hM9), hk9, ?_, trivial⟩
                have q := (show PS K9 cd p9 fi9 ad nu9 rm we co from ⟨hps9.1, hps9.2.1, hps9.2.2.1, hps9.2.2.2.1, hps9.2.2.2.2.1, hps9.2.2.2.2.2.1, hps9.2.2.2.2.2.2.1, hps9.2.2.2.2.2.2.2⟩)
                exact ⟨q.1.trans (by omega), q.2.1.trans (by omega), q.2.2.1.trans (by omega), q.2.2.2.1.trans (by omega), q.2.2.2.2.1.trans (by omega), q.2.2.2.2.2.1.trans (by omega), q.2.2.2.2.2.2.1.trans (by omega), q.2.2.2.2.2.2.2.trans (by omega)⟩
              · refine y_aload_n hE rfl 4 rfl dX4_readsCondition_304 ?_
                refine gX4_211 (z := ad) hE h40 hps9.2.2.2.1 dX4_readsCondition_305 ?_
                refine y_if_eq hE 325 (by decide) (by omega) dX4_readsCondition_308 (fun c_308 => ?_) (fun c_308 => ?_)
                · refine y_vret (r := 0) hE rfl hQ dX4_readsCondition_325 Ext.rf ?_
                  refine ⟨rfl, rfl, by unfold cdQ; first | (rw [if_neg (by omega), zif_e hQs]; exact hM9) | (rw [zif_0 (by omega)]; exact hM9) | (rw [zif_1 (by omega), if_pos (by omega), ← hQs (by omega), ← y_O, ← y_V, ← hp]; exact hM9), hk9, ?_, trivial⟩
                  have q := (show PS K9 cd p9 fi9 ad nu9 rm we co from ⟨hps9.1, hps9.2.1, hps9.2.2.1, hps9.2.2.2.1, hps9.2.2.2.2.1, hps9.2.2.2.2.2.1, hps9.2.2.2.2.2.2.1, hps9.2.2.2.2.2.2.2⟩)
                  exact ⟨q.1.trans (by omega), q.2.1.trans (by omega), q.2.2.1.trans (by omega), q.2.2.2.1.trans (by omega), q.2.2.2.2.1.trans (by omega), q.2.2.2.2.2.1.trans (by omega), q.2.2.2.2.2.2.1.trans (by omega), q.2.2.2.2.2.2.2.trans (by omega)⟩
                · refine y_aload_n hE rfl 4 rfl dX4_readsCondition_311 ?_
                  refine y_aload_n hE rfl 4 rfl dX4_readsCondition_312 ?_
                  refine gX4_159 (z := S 21 0) hE h40 (hM9.2.2.2.2.2.2.1) dX4_readsCondition_313 ?_
                  refine y_iconst hE dX4_readsCondition_316 ?_
                  refine y_isub hE dX4_readsCondition_317 ?_
                  refine y_iload_n hE rfl 2 rfl dX4_readsCondition_318 ?_
                  refine y_iload_n hE rfl 1 rfl dX4_readsCondition_319 ?_
                  refine y_iload hE 0 rfl dX4_readsCondition_320 ?_
                  refine y_callV hE (m_X4_condition S ((S 21 0) - 1) pv op vv h40 hM9 (by have := q21 (by omega); omega) (by rw [hQs (by omega)]; exact hcn)) (lw_V q2977 q2979 qs65 q133 q2980) (nA := 4) (by decide +kernel) rfl ⟨Nat.le_of_ble_eq_true rfl, Nat.le_of_ble_eq_true rfl⟩ (hdd := rfl) (hcc := rfl) (hq := rfl) (hi := h40) (rest := []) rfl (by decide) dX4_readsCondition_322 (bc' := 0) (bs' := 0) (Nat.le_refl _) (Nat.le_refl _) (fun r_322 n_322 α_322 K_322 hx_322 hp_322 => ?_)
                  obtain ⟨rfl, rfl, hM_322, hk_322, hr_322⟩ := hp_322
                  have z25_322 : K_322 4 0 25 = cd := (hk_322 4 0 (by first | decide | (unfold MK; decide)) 25).trans hps9.1
                  have z30_322 : K_322 4 0 30 = p9 := (hk_322 4 0 (by first | decide | (unfold MK; decide)) 30).trans hps9.2.1
                  have z31_322 : K_322 4 0 31 = fi9 := (hk_322 4 0 (by first | decide | (unfold MK; decide)) 31).trans hps9.2.2.1
                  have z32_322 : K_322 4 0 32 = ad := (hk_322 4 0 (by first | decide | (unfold MK; decide)) 32).trans hps9.2.2.2.1
                  have z33_322 : K_322 4 0 33 = nu9 := (hk_322 4 0 (by first | decide | (unfold MK; decide)) 33).trans hps9.2.2.2.2.1
                  have z34_322 : K_322 4 0 34 = rm := (hk_322 4 0 (by first | decide | (unfold MK; decide)) 34).trans hps9.2.2.2.2.2.1
                  have z35_322 : K_322 4 0 35 = we := (hk_322 4 0 (by first | decide | (unfold MK; decide)) 35).trans hps9.2.2.2.2.2.2.1
                  have z36_322 : K_322 4 0 36 = co := (hk_322 4 0 (by first | decide | (unfold MK; decide)) 36).trans hps9.2.2.2.2.2.2.2
                  refine y_to (st' := []) rfl rfl rfl ?_
                  refine y_vret (r := 0) hE rfl hQ dX4_readsCondition_325 Ext.rf ?_
                  refine ⟨rfl, rfl, by unfold cdQ; first | (rw [if_neg (by omega), zif_e hQs]; exact hM_322) | (rw [zif_0 (by omega)]; exact hM_322) | (rw [zif_1 (by omega), if_pos (by omega), ← hQs (by omega), ← y_O, ← y_V, ← hp]; exact hM_322), (hk9.tr (KO.mono hk_322 (fun k i z => by (try dsimp only at z); (try dsimp only); omega))), ?_, trivial⟩
                  have q := (show PS K_322 cd p9 fi9 ad nu9 rm we co from ⟨z25_322, z30_322, z31_322, z32_322, z33_322, z34_322, z35_322, z36_322⟩)
                  exact ⟨q.1.trans (by omega), q.2.1.trans (by omega), q.2.2.1.trans (by omega), q.2.2.2.1.trans (by omega), q.2.2.2.2.1.trans (by omega), q.2.2.2.2.2.1.trans (by omega), q.2.2.2.2.2.2.1.trans (by omega), q.2.2.2.2.2.2.2.trans (by omega)⟩
            refine y_aload_n hE rfl 4 rfl dX4_readsCondition_124 ?_
            refine gX4_17r (z := 0) hE h40 (MObj.r hM3.1 2 (by decide)) (by omega) dX4_readsCondition_125 (fun hl_125 => ?_)
            refine y_iload_n hE rfl 2 rfl dX4_readsCondition_128 ?_
            refine y_iald hE rfl hl_125 (by have hL : (up3 (up3 K3 4 0 31 f1) 4 0 30 (p1 + 1)) 102 0 (-1) = 8 := (MObj.l hM3.1 2 (by decide)); omega) dX4_readsCondition_129 ?_
            refine y_to (st' := [.int (iI (Z 2 pv))]) rfl rfl (by rw [show (up3 (up3 K3 4 0 31 f1) 4 0 30 (p1 + 1)) 102 0 pv = Z 2 pv from ((MRep.ra hM3 2 rfl (by omega) (by first | omega | (show _ < (8 : Int); omega))).trans (congrFun ((show SZ S Z by assumption) 2 (by decide) (by decide)) _))]) ?_
            refine y_if_ne hE 297 (by decide) (by omega) dX4_readsCondition_130 (fun c_130 => ?_) (fun c_130 => ?_)
            · have x_F : f1 = cdF Z pa := by unfold cdF; rw [← hf1, if_neg (by omega), ← hp, if_neg (by omega)]; omega
              have x_A : p1 + 1 = cdA Z pa := by unfold cdA; rw [← hf1, if_neg (by omega), ← hp, if_neg (by omega), hp1]
              have x_N : nu = cdN Z pa nu := by unfold cdN; rw [← hf1, if_neg (by omega), ← hp, if_neg (by omega)]
              have x_O : 2 = cdO Z pa := by unfold cdO; rw [← hp, if_neg (by omega)]
              have x_V : va = cdV Z pa := by unfold cdV; rw [← hp, if_neg (by omega)]; exact hva
              exact J297 (up3 (up3 K3 4 0 31 f1) 4 0 30 (p1 + 1)) 2 va (p1 + 1) f1 nu ((MRep.t (MRep.t hM3 31 (by decide) f1) 30 (by decide) (p1 + 1))) ((KO.up (KO.up hk3 (by decide)) (by decide))) (⟨hps3.1, (by simp [up3, upr]), (by simp [up3, upr]), hps3.2.2.2.1, hps3.2.2.2.2.1, hps3.2.2.2.2.2.1, hps3.2.2.2.2.2.2.1, hps3.2.2.2.2.2.2.2⟩) (x_F) (x_A) (x_N) (x_O) (x_V)
            · refine y_aload_n hE rfl 4 rfl dX4_readsCondition_133 ?_
              refine y_callV hE (m_X4_skips S Z cd (p1 + 1) f1 ad nu rm we co h40 (MRep.t (MRep.t hM3 31 (by decide) f1) 30 (by decide) (p1 + 1)) ⟨hps3.1, (by simp [up3, upr]), (by simp [up3, upr]), hps3.2.2.2.1, hps3.2.2.2.2.1, hps3.2.2.2.2.2.1, hps3.2.2.2.2.2.2.1, hps3.2.2.2.2.2.2.2⟩ (by assumption) (by assumption) (by omega)) (lw_V q3006 q3008 qs68 q133 q3009) (nA := 0) (by decide +kernel) rfl ⟨Nat.le_of_ble_eq_true rfl, Nat.le_of_ble_eq_true rfl⟩ (hdd := rfl) (hcc := rfl) (hq := rfl) (hi := h40) (rest := []) rfl (by decide) dX4_readsCondition_134 (bc' := 0) (bs' := 0) (Nat.le_refl _) (Nat.le_refl _) (fun r_134 n_134 α_134 K_134 hx_134 hp_134 => ?_)
              obtain ⟨rfl, rfl, hM_134, hk_134, hr_134⟩ := hp_134
              obtain ⟨⟨z25_134, z30_134, z31_134, z32_134, z33_134, z34_134, z35_134, z36_134⟩, hr_134⟩ := hr_134
              refine y_to (st' := []) rfl rfl rfl ?_
              have J190 : ∀ (op : Int), (op = cOp Z pa) → Y x n α K_134 0 0 190 [(4, .int (iI va)), (3, .int (iI 2)), (2, .int (iI pv)), (1, .int (iI (hI Z (sk Z pa) 126))), (0, .ref (α 4 0))] [.int (iI op)] := by
                intro op hop
                refine y_istore_n hE rfl [(3, .int (iI op)), (4, .int (iI va)), (2, .int (iI pv)), (1, .int (iI (hI Z (sk Z pa) 126))), (0, .ref (α 4 0))] (by decide) rfl dX4_readsCondition_190 ?_
                refine y_aload_n hE rfl 4 rfl dX4_readsCondition_191 ?_
                have J202 : ∀ (f2 : Int), (f2 = cF2 Z pa) → Y x n α K_134 0 0 202 [(3, .int (iI op)), (4, .int (iI va)), (2, .int (iI pv)), (1, .int (iI (hI Z (sk Z pa) 126))), (0, .ref (α 4 0))] [.int (iI f2), .ref (α 4 0)] := by
                  intro f2 hf2
                  refine pX4_197 hE h40 (by omega) dX4_readsCondition_202 ?_
                  have J230 : ∀ (K4 : KS) (p4 : Int), (MRep S n K4) → (KO K K4 (fun k _ => k = 4 ∨ k = 120)) → (PS K4 cd p4 f2 ad nu rm we co) → (p4 = cB4 Z pa) → Y x n α K4 0 0 230 [(3, .int (iI op)), (4, .int (iI va)), (2, .int (iI pv)), (1, .int (iI (hI Z (sk Z pa) 126))), (0, .ref (α 4 0))] [] := by
                    intro K4 p4 hM4 hk4 hps4 hp4
                    have J251 : ∀ (mi : Int), (mi = cMi Z pa) → Y x n α K4 0 0 251 [(3, .int (iI op)), (4, .int (iI va)), (2, .int (iI pv)), (1, .int (iI (hI Z (sk Z pa) 126))), (0, .ref (α 4 0))] [.int (iI mi)] := by
                      intro mi hmi
                      refine y_istore hE [(5, .int (iI mi)), (3, .int (iI op)), (4, .int (iI va)), (2, .int (iI pv)), (1, .int (iI (hI Z (sk Z pa) 126))), (0, .ref (α 4 0))] (by decide) rfl dX4_readsCondition_251 ?_
                      refine y_aload_n hE rfl 5 rfl dX4_readsCondition_253 ?_
                      refine y_dup hE rfl dX4_readsCondition_254 ?_
                      refine gX4_191 (z := p4) hE h40 hps4.2.1 dX4_readsCondition_255 ?_
                      have J268 : ∀ (b4 : Int), (b4 = mi) → Y x n α K4 0 0 268 [(5, .int (iI mi)), (3, .int (iI op)), (4, .int (iI va)), (2, .int (iI pv)), (1, .int (iI (hI Z (sk Z pa) 126))), (0, .ref (α 4 0))] [.int (iI b4), .int (iI p4), .ref (α 4 0)] := by
                        intro b4 hb4
                        refine y_iadd hE dX4_readsCondition_268 ?_
                        refine pX4_191 hE h40 dX4_readsCondition_269 ?_
                        refine y_aload_n hE rfl 5 rfl dX4_readsCondition_272 ?_
                        refine y_bipush hE (by decide) dX4_readsCondition_273 ?_
                        refine y_callV hE (m_X4_readsNumber S Z cd (p4 + b4) f2 ad nu rm we co 100 h40 (MRep.t hM4 30 (by decide) (p4 + b4)) ⟨hps4.1, (by simp [up3, upr]), hps4.2.2.1, hps4.2.2.2.1, hps4.2.2.2.2.1, hps4.2.2.2.2.2.1, hps4.2.2.2.2.2.2.1, hps4.2.2.2.2.2.2.2⟩ (by assumption) (by assumption) (by omega) (by omega) (by omega)) (lw_V q3022 q3024 qs72 q133 q3025) (nA := 1) (by decide +kernel) rfl ⟨Nat.le_of_ble_eq_true rfl, Nat.le_of_ble_eq_true rfl⟩ (hdd := rfl) (hcc := rfl) (hq := rfl) (hi := h40) (rest := []) rfl (by decide) dX4_readsCondition_275 (bc' := 0) (bs' := 0) (Nat.le_refl _) (Nat.le_refl _) (fun r_275 n_275 α_275 K_275 hx_275 hp_275 => ?_)
                        obtain ⟨rfl, rfl, hM_275, hk_275, hr_275⟩ := hp_275
                        obtain ⟨⟨z25_275, z30_275, z31_275, z32_275, z33_275, z34_275, z35_275, z36_275⟩, hr_275⟩ := hr_275
                        refine y_to (st' := []) rfl rfl rfl ?_
                        have x_F : nuF Z (p4 + b4) f2 100 = cdF Z pa := by unfold cdF; rw [← hf1, if_neg (by omega), ← hp, if_pos (by omega), ← hf2, cB5, ← hp4, ← hmi, hb4]
                        have x_A : nuA Z (p4 + b4) f2 100 = cdA Z pa := by unfold cdA; rw [← hf1, if_neg (by omega), ← hp, if_pos (by omega), ← hf2, cB5, ← hp4, ← hmi, hb4]
                        have x_N : nuV Z (p4 + b4) f2 = cdN Z pa nu := by unfold cdN; rw [← hf1, if_neg (by omega), ← hp, if_pos (by omega), ← hf2, cB5, ← hp4, ← hmi, hb4]
                        have x_O : op = cdO Z pa := by unfold cdO; rw [← hp, if_pos (by omega)]; exact hop
                        have wvv : 0 ≤ nuV Z (p4 + b4) f2 ∧ nuV Z (p4 + b4) f2 ≤ 9999 := by unfold nuV; split; exact vl_in _; omega
                        have J295 : ∀ (vv : Int), (vv = cdV Z pa) → Y x n α K_275 0 0 295 [(5, .int (iI mi)), (3, .int (iI op)), (4, .int (iI va)), (2, .int (iI pv)), (1, .int (iI (hI Z (sk Z pa) 126))), (0, .ref (α 4 0))] [.int (iI vv)] := by
                          intro vv x_V
                          refine y_istore hE [(4, .int (iI vv)), (5, .int (iI mi)), (3, .int (iI op)), (2, .int (iI pv)), (1, .int (iI (hI Z (sk Z pa) 126))), (0, .ref (α 4 0))] (by decide) rfl dX4_readsCondition_295 ?_
                          refine y_lv [0, 2, 3, 4, 5] [(4, .int (iI vv)), (3, .int (iI op)), (2, .int (iI pv)), (1, .int (iI (hI Z (sk Z pa) 126))), (0, .ref (α 4 0))] rfl ?_
                          exact J297 K_275 op vv (nuA Z (p4 + b4) f2 100) (nuF Z (p4 + b4) f2 100) (nuV Z (p4 + b4) f2) (hM_275) (((KO.up hk4 (by decide)).tr (KO.mono hk_275 (fun k i z => by (try dsimp only at z); (try dsimp only); omega)))) (⟨z25_275, z30_275, z31_275, z32_275, z33_275, z34_275, z35_275, z36_275⟩) (x_F) (x_A) (x_N) (x_O) (x_V)
                        refine y_iload hE 0 rfl dX4_readsCondition_278 ?_
                        refine y_if_eq hE 291 (by decide) (by omega) dX4_readsCondition_280 (fun c_280 => ?_) (fun c_280 => ?_)
                        · refine y_aload_n hE rfl 5 rfl dX4_readsCondition_291 ?_
                          refine gX4_208 (z := (nuV Z (p4 + b4) f2)) hE h40 z33_275 dX4_readsCondition_292 ?_
                          exact J295 (nuV Z (p4 + b4) f2) (by unfold cdV; rw [← hp, if_pos (by omega), ← hf2, cB5, ← hp4, ← hmi, ← hb4]; first | rw [if_pos (by omega)] | rw [if_neg (by omega)])
                        · refine y_aload_n hE rfl 5 rfl dX4_readsCondition_283 ?_
                          refine gX4_208 (z := (nuV Z (p4 + b4) f2)) hE h40 z33_275 dX4_readsCondition_284 ?_
                          refine y_ineg hE dX4_readsCondition_287 ?_
                          refine y_goto hE 295 (by decide) dX4_readsCondition_288 ?_
                          exact J295 (-(nuV Z (p4 + b4) f2)) (by unfold cdV; rw [← hp, if_pos (by omega), ← hf2, cB5, ← hp4, ← hmi, ← hb4]; first | rw [if_pos (by omega)] | rw [if_neg (by omega)])
                      refine y_iload hE 0 rfl dX4_readsCondition_258 ?_
                      refine y_if_eq hE 267 (by decide) (by omega) dX4_readsCondition_260 (fun c_260 => ?_) (fun c_260 => ?_)
                      · refine y_iconst hE dX4_readsCondition_267 ?_
                        exact J268 0 (by omega)
                      · refine y_iconst hE dX4_readsCondition_263 ?_
                        refine y_goto hE 268 (by decide) dX4_readsCondition_264 ?_
                        exact J268 1 (by omega)
                    refine y_aload_n hE rfl 4 rfl dX4_readsCondition_230 ?_
                    refine gX4_197 (z := f2) hE h40 hps4.2.2.1 dX4_readsCondition_231 ?_
                    refine y_if_eq hE 250 (by decide) (by omega) dX4_readsCondition_234 (fun c_234 => ?_) (fun c_234 => ?_)
                    · refine y_iconst hE dX4_readsCondition_250 ?_
                      exact J251 0 (by unfold cMi; rw [← hf2, ← hp4]; first | rw [if_pos (by omega)] | rw [if_neg (by omega)])
                    · refine y_aload_n hE rfl 4 rfl dX4_readsCondition_237 ?_
                      refine y_bipush hE (by decide) dX4_readsCondition_238 ?_
                      refine y_callV hE (m_X4_here S Z cd p4 f2 ad nu rm we co 45 h40 hM4 ⟨hps4.1, hps4.2.1, hps4.2.2.1, hps4.2.2.2.1, hps4.2.2.2.2.1, hps4.2.2.2.2.2.1, hps4.2.2.2.2.2.2.1, hps4.2.2.2.2.2.2.2⟩ (by assumption) (by assumption) (by omega) (by omega) (by omega)) (lw_V q3014 q3016 qs70 q133 q3017) (nA := 1) (by decide +kernel) rfl ⟨Nat.le_of_ble_eq_true rfl, Nat.le_of_ble_eq_true rfl⟩ (hdd := rfl) (hcc := rfl) (hq := rfl) (hi := h40) (rest := []) rfl (by decide) dX4_readsCondition_240 (bc' := 0) (bs' := 0) (Nat.le_refl _) (Nat.le_refl _) (fun r_240 n_240 α_240 K_240 hx_240 hp_240 => ?_)
                      obtain ⟨rfl, rfl, rfl, hr_240⟩ := hp_240
                      have e_240 : hI Z p4 45 = r_240 := Eq.symm (by rw [hr_240.1])
                      subst e_240
                      refine y_to (st' := [.int (iI (hI Z p4 45))]) rfl rfl rfl ?_
                      refine y_if_eq hE 250 (by decide) (by omega) dX4_readsCondition_243 (fun c_243 => ?_) (fun c_243 => ?_)
                      · refine y_iconst hE dX4_readsCondition_250 ?_
                        exact J251 0 (by unfold cMi; rw [← hf2, ← hp4]; first | rw [if_pos (by omega)] | rw [if_neg (by omega)])
                      · refine y_iconst hE dX4_readsCondition_246 ?_
                        refine y_goto hE 251 (by decide) dX4_readsCondition_247 ?_
                        exact J251 1 (by unfold cMi; rw [← hf2, ← hp4]; first | rw [if_pos (by omega)] | rw [if_neg (by omega)])
                  refine y_aload_n hE rfl 4 rfl dX4_readsCondition_205 ?_
                  refine y_dup hE rfl dX4_readsCondition_206 ?_
                  refine gX4_191 (z := (sk Z (p1 + 1))) hE h40 z30_134 dX4_readsCondition_207 ?_
                  have J222 : ∀ (b3 : Int), (b3 = f2) → Y x n α (up3 K_134 4 0 31 f2) 0 0 222 [(3, .int (iI op)), (4, .int (iI va)), (2, .int (iI pv)), (1, .int (iI (hI Z (sk Z pa) 126))), (0, .ref (α 4 0))] [.int (iI b3), .int (iI (sk Z (p1 + 1))), .ref (α 4 0)] := by
                    intro b3 hb3
                    refine y_iadd hE dX4_readsCondition_222 ?_
                    refine pX4_191 hE h40 dX4_readsCondition_223 ?_
                    refine y_aload_n hE rfl 4 rfl dX4_readsCondition_226 ?_
                    refine y_callV hE (m_X4_skips S Z cd ((sk Z (p1 + 1)) + b3) f2 ad nu rm we co h40 (MRep.t (MRep.t hM_134 31 (by decide) f2) 30 (by decide) ((sk Z (p1 + 1)) + b3)) ⟨z25_134, (by simp [up3, upr]), (by simp [up3, upr]), z32_134, z33_134, z34_134, z35_134, z36_134⟩ (by assumption) (by assumption) (by omega)) (lw_V q3006 q3008 qs68 q133 q3009) (nA := 0) (by decide +kernel) rfl ⟨Nat.le_of_ble_eq_true rfl, Nat.le_of_ble_eq_true rfl⟩ (hdd := rfl) (hcc := rfl) (hq := rfl) (hi := h40) (rest := []) rfl (by decide) dX4_readsCondition_227 (bc' := 0) (bs' := 0) (Nat.le_refl _) (Nat.le_refl _) (fun r_227 n_227 α_227 K_227 hx_227 hp_227 => ?_)
                    obtain ⟨rfl, rfl, hM_227, hk_227, hr_227⟩ := hp_227
                    obtain ⟨⟨z25_227, z30_227, z31_227, z32_227, z33_227, z34_227, z35_227, z36_227⟩, hr_227⟩ := hr_227
                    refine y_to (st' := []) rfl rfl rfl ?_
                    exact J230 K_227 (sk Z ((sk Z (p1 + 1)) + b3)) (hM_227) (((KO.up (KO.up ((KO.up (KO.up hk3 (by decide)) (by decide)).tr (KO.mono hk_134 (fun k i z => by (try dsimp only at z); (try dsimp only); omega))) (by decide)) (by decide)).tr (KO.mono hk_227 (fun k i z => by (try dsimp only at z); (try dsimp only); omega)))) (⟨z25_227, z30_227, z31_227, z32_227, z33_227, z34_227, z35_227, z36_227⟩) (by unfold cB4; rw [eB3, hb3, hf2])
                  refine y_aload_n hE rfl 4 rfl dX4_readsCondition_210 ?_
                  refine gX4_197 (z := f2) hE h40 (by simp [up3, upr]) dX4_readsCondition_211 ?_
                  refine y_if_eq hE 221 (by decide) (by omega) dX4_readsCondition_214 (fun c_214 => ?_) (fun c_214 => ?_)
                  · refine y_iconst hE dX4_readsCondition_221 ?_
                    exact J222 0 (by omega)
                  · refine y_iconst hE dX4_readsCondition_217 ?_
                    refine y_goto hE 222 (by decide) dX4_readsCondition_218 ?_
                    exact J222 1 (by omega)
                refine y_iload_n hE rfl 0 rfl dX4_readsCondition_192 ?_
                refine y_iconst hE dX4_readsCondition_193 ?_
                refine y_icmp_ge hE 201 (by decide) (by omega) (by omega) dX4_readsCondition_194 (fun c_194 => ?_) (fun c_194 => ?_)
                · refine y_iconst hE dX4_readsCondition_201 ?_
                  exact J202 0 (by unfold cF2; rw [← hop]; first | rw [if_pos (by omega)] | rw [if_neg (by omega)])
                · refine y_iconst hE dX4_readsCondition_197 ?_
                  refine y_goto hE 202 (by decide) dX4_readsCondition_198 ?_
                  exact J202 1 (by unfold cF2; rw [← hop]; first | rw [if_pos (by omega)] | rw [if_neg (by omega)])
              refine y_aload_n hE rfl 4 rfl dX4_readsCondition_137 ?_
              refine y_bipush hE (by decide) dX4_readsCondition_138 ?_
              refine y_callV hE (m_X4_here S Z cd (sk Z (p1 + 1)) f1 ad nu rm we co 62 h40 hM_134 ⟨z25_134, z30_134, z31_134, z32_134, z33_134, z34_134, z35_134, z36_134⟩ (by assumption) (by assumption) (by omega) (by omega) (by omega)) (lw_V q3014 q3016 qs70 q133 q3017) (nA := 1) (by decide +kernel) rfl ⟨Nat.le_of_ble_eq_true rfl, Nat.le_of_ble_eq_true rfl⟩ (hdd := rfl) (hcc := rfl) (hq := rfl) (hi := h40) (rest := []) rfl (by decide) dX4_readsCondition_140 (bc' := 0) (bs' := 0) (Nat.le_refl _) (Nat.le_refl _) (fun r_140 n_140 α_140 K_140 hx_140 hp_140 => ?_)
              obtain ⟨rfl, rfl, rfl, hr_140⟩ := hp_140
              have e_140 : hI Z (sk Z (p1 + 1)) 62 = r_140 := Eq.symm (by rw [hr_140.1])
              subst e_140
              refine y_to (st' := [.int (iI (hI Z (sk Z (p1 + 1)) 62))]) rfl rfl rfl ?_
              refine y_if_eq hE 150 (by decide) (by omega) dX4_readsCondition_143 (fun c_143 => ?_) (fun c_143 => ?_)
              · refine y_aload_n hE rfl 4 rfl dX4_readsCondition_150 ?_
                refine y_bipush hE (by decide) dX4_readsCondition_151 ?_
                refine y_callV hE (m_X4_here S Z cd (sk Z (p1 + 1)) f1 ad nu rm we co 60 h40 hM_134 ⟨z25_134, z30_134, z31_134, z32_134, z33_134, z34_134, z35_134, z36_134⟩ (by assumption) (by assumption) (by omega) (by omega) (by omega)) (lw_V q3014 q3016 qs70 q133 q3017) (nA := 1) (by decide +kernel) rfl ⟨Nat.le_of_ble_eq_true rfl, Nat.le_of_ble_eq_true rfl⟩ (hdd := rfl) (hcc := rfl) (hq := rfl) (hi := h40) (rest := []) rfl (by decide) dX4_readsCondition_153 (bc' := 0) (bs' := 0) (Nat.le_refl _) (Nat.le_refl _) (fun r_153 n_153 α_153 K_153 hx_153 hp_153 => ?_)
                obtain ⟨rfl, rfl, rfl, hr_153⟩ := hp_153
                have e_153 : hI Z (sk Z (p1 + 1)) 60 = r_153 := Eq.symm (by rw [hr_153.1])
                subst e_153
                refine y_to (st' := [.int (iI (hI Z (sk Z (p1 + 1)) 60))]) rfl rfl rfl ?_
                refine y_if_eq hE 163 (by decide) (by omega) dX4_readsCondition_156 (fun c_156 => ?_) (fun c_156 => ?_)
                · refine y_aload_n hE rfl 4 rfl dX4_readsCondition_163 ?_
                  refine y_bipush hE (by decide) dX4_readsCondition_164 ?_
                  refine y_callV hE (m_X4_here S Z cd (sk Z (p1 + 1)) f1 ad nu rm we co 61 h40 hM_134 ⟨z25_134, z30_134, z31_134, z32_134, z33_134, z34_134, z35_134, z36_134⟩ (by assumption) (by assumption) (by omega) (by omega) (by omega)) (lw_V q3014 q3016 qs70 q133 q3017) (nA := 1) (by decide +kernel) rfl ⟨Nat.le_of_ble_eq_true rfl, Nat.le_of_ble_eq_true rfl⟩ (hdd := rfl) (hcc := rfl) (hq := rfl) (hi := h40) (rest := []) rfl (by decide) dX4_readsCondition_166 (bc' := 0) (bs' := 0) (Nat.le_refl _) (Nat.le_refl _) (fun r_166 n_166 α_166 K_166 hx_166 hp_166 => ?_)
                  obtain ⟨rfl, rfl, rfl, hr_166⟩ := hp_166
                  have e_166 : hI Z (sk Z (p1 + 1)) 61 = r_166 := Eq.symm (by rw [hr_166.1])
                  subst e_166
                  refine y_to (st' := [.int (iI (hI Z (sk Z (p1 + 1)) 61))]) rfl rfl rfl ?_
                  refine y_if_eq hE 176 (by decide) (by omega) dX4_readsCondition_169 (fun c_169 => ?_) (fun c_169 => ?_)
                  · refine y_aload_n hE rfl 4 rfl dX4_readsCondition_176 ?_
                    refine y_bipush hE (by decide) dX4_readsCondition_177 ?_
                    refine y_callV hE (m_X4_here S Z cd (sk Z (p1 + 1)) f1 ad nu rm we co 35 h40 hM_134 ⟨z25_134, z30_134, z31_134, z32_134, z33_134, z34_134, z35_134, z36_134⟩ (by assumption) (by assumption) (by omega) (by omega) (by omega)) (lw_V q3014 q3016 qs70 q133 q3017) (nA := 1) (by decide +kernel) rfl ⟨Nat.le_of_ble_eq_true rfl, Nat.le_of_ble_eq_true rfl⟩ (hdd := rfl) (hcc := rfl) (hq := rfl) (hi := h40) (rest := []) rfl (by decide) dX4_readsCondition_179 (bc' := 0) (bs' := 0) (Nat.le_refl _) (Nat.le_refl _) (fun r_179 n_179 α_179 K_179 hx_179 hp_179 => ?_)
                    obtain ⟨rfl, rfl, rfl, hr_179⟩ := hp_179
                    have e_179 : hI Z (sk Z (p1 + 1)) 35 = r_179 := Eq.symm (by rw [hr_179.1])
                    subst e_179
                    refine y_to (st' := [.int (iI (hI Z (sk Z (p1 + 1)) 35))]) rfl rfl rfl ?_
                    refine y_if_eq hE 189 (by decide) (by omega) dX4_readsCondition_182 (fun c_182 => ?_) (fun c_182 => ?_)
                    · refine y_iconst hE dX4_readsCondition_189 ?_
                      exact J190 4 (by unfold cOp opI; rw [eB3]; (repeat (first | rw [if_pos (by omega)] | rw [if_neg (by omega)])))
                    · refine y_iconst hE dX4_readsCondition_185 ?_
                      refine y_goto hE 190 (by decide) dX4_readsCondition_186 ?_
                      exact J190 3 (by unfold cOp opI; rw [eB3]; (repeat (first | rw [if_pos (by omega)] | rw [if_neg (by omega)])))
                  · refine y_iconst hE dX4_readsCondition_172 ?_
                    refine y_goto hE 190 (by decide) dX4_readsCondition_173 ?_
                    exact J190 2 (by unfold cOp opI; rw [eB3]; (repeat (first | rw [if_pos (by omega)] | rw [if_neg (by omega)])))
                · refine y_iconst hE dX4_readsCondition_159 ?_
                  refine y_goto hE 190 (by decide) dX4_readsCondition_160 ?_
                  exact J190 1 (by unfold cOp opI; rw [eB3]; (repeat (first | rw [if_pos (by omega)] | rw [if_neg (by omega)])))
              · refine y_iconst hE dX4_readsCondition_146 ?_
                refine y_goto hE 190 (by decide) dX4_readsCondition_147 ?_
                exact J190 0 (by unfold cOp opI; rw [eB3]; (repeat (first | rw [if_pos (by omega)] | rw [if_neg (by omega)])))
          refine y_iload_n hE rfl 2 rfl dX4_readsCondition_113 ?_
          refine y_if_eq hE 121 (by decide) (by omega) dX4_readsCondition_114 (fun c_114 => ?_) (fun c_114 => ?_)
          · refine y_iconst hE dX4_readsCondition_121 ?_
            exact J122 1 (by first | rw [if_pos (by omega)] | rw [if_neg (by omega)])
          · refine y_iconst hE dX4_readsCondition_117 ?_
            refine y_goto hE 122 (by decide) dX4_readsCondition_118 ?_
            exact J122 0 (by first | rw [if_pos (by omega)] | rw [if_neg (by omega)])
        · have eF : cdF Z pa = f1 := by unfold cdF; rw [← hf1, if_pos (by omega)]; omega
          have eA : cdA Z pa = p1 := by unfold cdA; rw [← hf1, if_pos (by omega), hp1]
          have eN : cdN Z pa nu = nu := by unfold cdN; rw [← hf1, if_pos (by omega)]
          refine y_vret (r := 0) hE rfl hQ dX4_readsCondition_100 Ext.rf ?_
          refine ⟨rfl, rfl, by unfold cdQ; rw [if_neg (by omega), zif_e hQs]; exact (MRep.t hM3 31 (by decide) f1), (KO.up hk3 (by decide)), ?_, trivial⟩
          have q := (show PS (up3 K3 4 0 31 f1) cd p1 f1 ad nu rm we co from ⟨hps3.1, hps3.2.1, (by simp [up3, upr]), hps3.2.2.2.1, hps3.2.2.2.2.1, hps3.2.2.2.2.2.1, hps3.2.2.2.2.2.2.1, hps3.2.2.2.2.2.2.2⟩)
          exact ⟨q.1.trans (by omega), q.2.1.trans (by omega), q.2.2.1.trans (by omega), q.2.2.2.1.trans (by omega), q.2.2.2.2.1.trans (by omega), q.2.2.2.2.2.1.trans (by omega), q.2.2.2.2.2.2.1.trans (by omega), q.2.2.2.2.2.2.2.trans (by omega)⟩
      refine y_aload_n hE rfl 2 rfl dX4_readsCondition_62 ?_
      refine y_aload_n hE rfl 2 rfl dX4_readsCondition_63 ?_
      refine y_iload_n hE rfl 0 rfl dX4_readsCondition_64 ?_
      refine y_callV hE (m_X4_isParameter S pv h40 hM3 (by omega) (by omega)) (lw_V q2879 q2881 qs54 q133 q2882) (nA := 1) (by decide +kernel) rfl ⟨Nat.le_of_ble_eq_true rfl, Nat.le_of_ble_eq_true rfl⟩ (hdd := rfl) (hcc := rfl) (hq := rfl) (hi := h40) (rest := [.ref (α 4 0)]) rfl (by simp [refV_cat, Value.category]) dX4_readsCondition_65 (bc' := 0) (bs' := 0) (Nat.le_refl _) (Nat.le_refl _) (fun r_65 n_65 α_65 K_65 hx_65 hp_65 => ?_)
      obtain ⟨rfl, rfl, rfl, hr_65⟩ := hp_65
      refine y_to (st' := [.int (iI r_65), .ref (α 4 0)]) rfl rfl rfl ?_
      refine y_if_eq hE 89 (by decide) (by omega) dX4_readsCondition_68 (fun c_68 => ?_) (fun c_68 => ?_)
      · refine y_iconst hE dX4_readsCondition_89 ?_
        exact J90 0 (by unfold cF1; rw [← hp]; first | rw [if_pos (by omega)] | rw [if_neg (by omega)])
      · have wkp := hWz.kind pv (by omega) (by omega)
        refine y_iload_n hE rfl 1 rfl dX4_readsCondition_71 ?_
        refine y_if_eq hE 85 (by decide) (by omega) dX4_readsCondition_72 (fun c_72 => ?_) (fun c_72 => ?_)
        · refine y_iconst hE dX4_readsCondition_85 ?_
          refine y_goto hE 90 (by decide) dX4_readsCondition_86 ?_
          exact J90 1 (by unfold cF1; rw [← hp]; first | rw [if_pos (by omega)] | rw [if_neg (by omega)])
        · refine y_aload_n hE rfl 2 rfl dX4_readsCondition_75 ?_
          refine gX4_17r (z := 0) hE h40 (MObj.r hM3.1 2 (by decide)) (by omega) dX4_readsCondition_76 (fun hl_76 => ?_)
          refine y_iload_n hE rfl 0 rfl dX4_readsCondition_79 ?_
          refine y_iald hE rfl hl_76 (by have hL : K3 102 0 (-1) = 8 := (MObj.l hM3.1 2 (by decide)); omega) dX4_readsCondition_80 ?_
          refine y_to (st' := [.int (iI (Z 2 pv)), .ref (α 4 0)]) rfl rfl (by rw [show K3 102 0 pv = Z 2 pv from ((MRep.ra hM3 2 rfl (by omega) (by first | omega | (show _ < (8 : Int); omega))).trans (congrFun ((show SZ S Z by assumption) 2 (by decide) (by decide)) _))]) ?_
          refine y_iconst hE dX4_readsCondition_81 ?_
          refine y_icmp_ne hE 89 (by decide) (by omega) (by omega) dX4_readsCondition_82 (fun c_82 => ?_) (fun c_82 => ?_)
          · refine y_iconst hE dX4_readsCondition_89 ?_
            exact J90 0 (by unfold cF1; rw [← hp]; first | rw [if_pos (by omega)] | rw [if_neg (by omega)])
          · refine y_iconst hE dX4_readsCondition_85 ?_
            refine y_goto hE 90 (by decide) dX4_readsCondition_86 ?_
            exact J90 1 (by unfold cF1; rw [← hp]; first | rw [if_pos (by omega)] | rw [if_neg (by omega)])
    refine y_aload_n hE rfl 1 rfl dX4_readsCondition_33 ?_
    refine gX4_191 (z := p1) hE h40 hps3.2.1 dX4_readsCondition_34 ?_
    refine y_aload_n hE rfl 1 rfl dX4_readsCondition_37 ?_
    refine gX4_188 (z := (Z 24 0)) hE h40 ((hM3.2.2.2.2.2.2.2.2).trans (congrFun ((show SZ S Z by assumption) 24 (by decide) (by decide)) 0)) dX4_readsCondition_38 ?_
    refine y_icmp_ge hE 59 (by decide) (by omega) (by omega) dX4_readsCondition_41 (fun c_41 => ?_) (fun c_41 => ?_)
    · refine y_bipush hE (by decide) dX4_readsCondition_59 ?_
      exact J61 99 (by unfold cP; rw [← hp1]; first | rw [if_pos (by omega)] | rw [if_neg (by omega)])
    · have wb := hWz.byt p1 (by omega) (by omega)
      refine y_aload_n hE rfl 1 rfl dX4_readsCondition_44 ?_
      refine gX4_66r (z := 0) hE h40 (MObj.r hM3.1 23 (by decide)) (by omega) dX4_readsCondition_45 (fun hl_45 => ?_)
      refine y_aload_n hE rfl 1 rfl dX4_readsCondition_48 ?_
      refine gX4_191 (z := p1) hE h40 hps3.2.1 dX4_readsCondition_49 ?_
      refine y_iald hE rfl hl_45 (by have hL : K3 123 0 (-1) = 150 := (MObj.l hM3.1 23 (by decide)); omega) dX4_readsCondition_52 ?_
      refine y_to (st' := [.int (iI (Z 23 p1))]) rfl rfl (by rw [show K3 123 0 p1 = Z 23 p1 from ((MRep.ra hM3 23 rfl (by omega) (by first | omega | (show _ < (150 : Int); omega))).trans (congrFun ((show SZ S Z by assumption) 23 (by decide) (by decide)) _))]) ?_
      refine y_bipush hE (by decide) dX4_readsCondition_53 ?_
      refine y_isub hE dX4_readsCondition_55 ?_
      refine y_goto hE 61 (by decide) dX4_readsCondition_56 ?_
      exact J61 ((Z 23 p1) - 97) (by unfold cP; rw [← hp1]; first | rw [if_pos (by omega)] | rw [if_neg (by omega)])
  refine y_aload_n hE rfl 1 rfl dX4_readsCondition_11 ?_
  refine y_dup hE rfl dX4_readsCondition_12 ?_
  refine gX4_191 (z := (sk Z pa)) hE h40 z30_1 dX4_readsCondition_13 ?_
  have J25 : ∀ (b : Int), (b = cNt Z pa) → Y x n α K_1 0 0 25 [(1, .int (iI (hI Z (sk Z pa) 126))), (0, .ref (α 4 0))] [.int (iI b), .int (iI (sk Z pa)), .ref (α 4 0)] := by
    intro b hb
    refine y_iadd hE dX4_readsCondition_25 ?_
    refine pX4_191 hE h40 dX4_readsCondition_26 ?_
    refine y_aload_n hE rfl 1 rfl dX4_readsCondition_29 ?_
    refine y_callV hE (m_X4_skips S Z cd ((sk Z pa) + b) fi ad nu rm we co h40 (MRep.t hM_1 30 (by decide) ((sk Z pa) + b)) ⟨z25_1, (by simp [up3, upr]), z31_1, z32_1, z33_1, z34_1, z35_1, z36_1⟩ (by assumption) (by assumption) (by omega)) (lw_V q3006 q3008 qs68 q133 q3009) (nA := 0) (by decide +kernel) rfl ⟨Nat.le_of_ble_eq_true rfl, Nat.le_of_ble_eq_true rfl⟩ (hdd := rfl) (hcc := rfl) (hq := rfl) (hi := h40) (rest := []) rfl (by decide) dX4_readsCondition_30 (bc' := 0) (bs' := 0) (Nat.le_refl _) (Nat.le_refl _) (fun r_30 n_30 α_30 K_30 hx_30 hp_30 => ?_)
    obtain ⟨rfl, rfl, hM_30, hk_30, hr_30⟩ := hp_30
    obtain ⟨⟨z25_30, z30_30, z31_30, z32_30, z33_30, z34_30, z35_30, z36_30⟩, hr_30⟩ := hr_30
    refine y_to (st' := []) rfl rfl rfl ?_
    exact J33 K_30 (sk Z ((sk Z pa) + b)) (hM_30) (((KO.up (KO.mono hk_1 (fun k i z => by (try dsimp only at z); (try dsimp only); omega)) (by decide)).tr (KO.mono hk_30 (fun k i z => by (try dsimp only at z); (try dsimp only); omega)))) (⟨z25_30, z30_30, z31_30, z32_30, z33_30, z34_30, z35_30, z36_30⟩) (by rw [hb]; rfl)
  refine y_iload_n hE rfl 0 rfl dX4_readsCondition_16 ?_
  refine y_if_eq hE 24 (by decide) (by omega) dX4_readsCondition_17 (fun c_17 => ?_) (fun c_17 => ?_)
  · refine y_iconst hE dX4_readsCondition_24 ?_
    exact J25 0 (by omega)
  · refine y_iconst hE dX4_readsCondition_20 ?_
    refine y_goto hE 25 (by decide) dX4_readsCondition_21 ?_
    exact J25 1 (by omega)
