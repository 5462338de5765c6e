set_option linter.unusedVariables false
set_option maxHeartbeats 4000000 in
set_option maxRecDepth 100000 in
theorem m_X4_readsAttribute {w : KW} {n : KN} {α : KA} {K : KS} (S : SS) (Z : SS) (cd pa fi ad nu rm we co : Int) (Q : SS) (h40 : (0 : Int) ≤ 0 ∧ 0 < n 4) (hM : MRep S n K) (hps : PS K cd pa fi ad nu rm we co) (hz : SZ S Z) (hWz : WFs Z) (hpa : 0 ≤ pa ∧ pa ≤ Z 24 0) (hfi : 0 ≤ fi ∧ fi ≤ 1) (hQs : ad = 1 → S = Q) (hQz : SZ Q Z) (had : 0 ≤ ad ∧ ad ≤ 1) (h21 : 1 ≤ Q 21 0 ∧ Q 21 0 ≤ 24) (hwe : 0 ≤ we ∧ we ≤ 15) (hco : 0 ≤ co ∧ co ≤ 3) (hcn : Q 20 (17 * (Q 21 0 - 1) + 7) = co) : KM w yX4_readsAttribute cX4_readsAttribute 2 none { frames := 3, cells := 0, slots := 0, locals := 74 } (3, 0) [.ref (α 4 0)] n α K (fun r n' α' K' => n = n' ∧ α = α' ∧ MRep (zif ad (atQ Z Q pa we co) S) n K' ∧ KO K K' (fun k _ => k = 4 ∨ k = 120) ∧ (PS K' cd (atA Z pa we co) (atF Z pa we co) ad (atN Z pa we co nu) rm (atE Z pa we co) (atC Z pa we co) ∧ True)) := by
  refine y_start (by decide) (Nat.le_of_ble_eq_true rfl) (fun x hE hQ => ?_)
  have hw := hQ.2
  subst hw
  have hE : YE x cX4_readsAttribute RX4 none "readsAttribute" 2 { frames := 3, cells := 0, slots := 0, locals := 74 } := hE
  refine y_wk (fun hWK => ?_)
  have hn0 := hWK.1
  refine y_bud (bc' := 0) (bs' := 0) (Nat.le_refl _) (Nat.le_refl _) ?_
  refine y_to (lv' := [(0, .ref (α 4 0))]) (st' := []) rfl rfl rfl ?_
  have wtxt := hWz.txt
  have wsts := hWz.sts
  have wpar := hWz.par
  have wtrs := hWz.trs
  have q24 : S 24 0 = Z 24 0 := congrFun (hz 24 (by decide) (by decide)) 0
  have q19 : S 19 0 = Z 19 0 := congrFun (hz 19 (by decide) (by decide)) 0
  have q3 : S 3 0 = Z 3 0 := congrFun (hz 3 (by decide) (by decide)) 0
  have iW := atW_in Z pa
  have i1 := at1_01 Z pa we co
  have q21 : ad = 1 → S 21 0 = Q 21 0 := fun z => by rw [hQs z]
  have J66 : ∀ (wh : Int), (wh = atW Z pa) → Y x n α K 0 0 66 [(0, .ref (α 4 0))] [.int (iI wh)] := by
    intro wh hwh
    refine y_istore_n hE rfl [(1, .int (iI wh)), (0, .ref (α 4 0))] (by decide) rfl dX4_readsAttribute_66 ?_
    refine y_aload_n hE rfl 1 rfl dX4_readsAttribute_67 ?_
    have J110 : ∀ (f : Int), (f = at1 Z pa we co) → Y x n α K 0 0 110 [(1, .int (iI wh)), (0, .ref (α 4 0))] [.int (iI f), .ref (α 4 0)] := by
      intro f hf
      refine pX4_197 hE h40 (by omega) dX4_readsAttribute_110 ?_
      refine y_aload_n hE rfl 1 rfl dX4_readsAttribute_113 ?_
      refine gX4_197 (z := f) hE h40 (by simp [up3, upr]) dX4_readsAttribute_114 ?_
      refine y_if_ne hE 121 (by decide) (by omega) dX4_readsAttribute_117 (fun c_117 => ?_) (fun c_117 => ?_)
      · have hl5 : atW Z pa < 5 := by unfold at1 at hf; (repeat' split at hf) <;> omega
        have hpl := atW_ln hl5
        have hf1v : f = 1 := by omega
        have hco3 : wh = 4 → co < 3 := fun z => by unfold at1 at hf; rw [← hwh, if_neg (by omega)] at hf; split at hf <;> omega
        refine y_aload_n hE rfl 1 rfl dX4_readsAttribute_121 ?_
        refine y_dup hE rfl dX4_readsAttribute_122 ?_
        refine gX4_191 (z := pa) hE h40 hps.2.1 dX4_readsAttribute_123 ?_
        refine y_iconst hE dX4_readsAttribute_126 ?_
        refine y_iadd hE dX4_readsAttribute_127 ?_
        refine pX4_191 hE h40 dX4_readsAttribute_128 ?_
        refine y_aload_n hE rfl 1 rfl dX4_readsAttribute_131 ?_
        refine y_dup hE rfl dX4_readsAttribute_132 ?_
        refine gX4_228 (z := we) hE h40 hps.2.2.2.2.2.2.1 dX4_readsAttribute_133 ?_
        have J148 : ∀ (m : Int), (m = if wh < 4 then pw2 wh else 0) → Y x n α (up3 (up3 K 4 0 31 f) 4 0 30 (pa + 1)) 0 0 148 [(1, .int (iI wh)), (0, .ref (α 4 0))] [.int (iI m), .int (iI we), .ref (α 4 0)] := by
          intro m hm
          have hmm : (0 ≤ wh ∧ wh < 4 ∧ we / pw2 wh % 2 = 0 ∧ m = pw2 wh) ∨ m = 0 := by
            by_cases q : wh < 4
            · left
              refine ⟨by omega, q, ?_, by rw [hm, if_pos q]⟩
              unfold at1 at hf
              rw [← hwh, if_pos q] at hf
              split at hf
              · assumption
              · omega
            · right; rw [hm, if_neg q]
          refine y_ior hE (we + m) (bit_or (k := wh) hwe hmm) dX4_readsAttribute_148 ?_
          refine pX4_228 hE h40 dX4_readsAttribute_149 ?_
          refine y_iload_n hE rfl 0 rfl dX4_readsAttribute_152 ?_
          refine y_iconst hE dX4_readsAttribute_153 ?_
          refine y_icmp_ne hE 174 (by decide) (by omega) (by omega) dX4_readsAttribute_154 (fun c_154 => ?_) (fun c_154 => ?_)
          · refine y_iload_n hE rfl 0 rfl dX4_readsAttribute_174 ?_
            refine y_iconst hE dX4_readsAttribute_175 ?_
            refine y_icmp_ne hE 189 (by decide) (by omega) (by omega) dX4_readsAttribute_176 (fun c_176 => ?_) (fun c_176 => ?_)
            · have eM : atM Z pa = atM Z pa := rfl
              refine y_aload_n hE rfl 1 rfl dX4_readsAttribute_189 ?_
              have J211 : ∀ (mo : Int), (mo = atM Z pa) → (0 ≤ mo ∧ mo ≤ 300) → Y x n α (up3 (up3 (up3 K 4 0 31 f) 4 0 30 (pa + 1)) 4 0 35 (we + m)) 0 0 211 [(1, .int (iI wh)), (0, .ref (α 4 0))] [.int (iI mo), .ref (α 4 0)] := by
                intro mo hmo hmo2
                refine y_callV hE (m_X4_readsNumber S Z cd (pa + 1) f ad nu rm (we + m) co mo h40 (MRep.t (MRep.t (MRep.t hM 31 (by decide) f) 30 (by decide) (pa + 1)) 35 (by decide) (we + m)) ⟨hps.1, (by simp [up3, upr]), (by simp [up3, upr]), hps.2.2.2.1, hps.2.2.2.2.1, hps.2.2.2.2.2.1, (by simp [up3, upr]), hps.2.2.2.2.2.2.2⟩ (by assumption) (by assumption) (by omega) (by omega) (by omega)) (lw_V q3022 q3024 qs72 q133 q3025) (nA := 1) (by decide +kernel) rfl ⟨Nat.le_of_ble_eq_true rfl, Nat.le_of_ble_eq_true rfl⟩ (hdd := rfl) (hcc := rfl) (hq := rfl) (hi := h40) (rest := []) rfl (by decide) dX4_readsAttribute_211 (bc' := 0) (bs' := 0) (Nat.le_refl _) (Nat.le_refl _) (fun r_211 n_211 α_211 K_211 hx_211 hp_211 => ?_)
                obtain ⟨rfl, rfl, hM_211, hk_211, hr_211⟩ := hp_211
                obtain ⟨⟨z25_211, z30_211, z31_211, z32_211, z33_211, z34_211, z35_211, z36_211⟩, hr_211⟩ := hr_211
                refine y_to (st' := []) rfl rfl rfl ?_
                have z_F : atF Z pa we co = nuF Z (pa + 1) 1 (atM Z pa) := by unfold atF; (repeat (first | rw [if_pos (by omega)] | rw [if_neg (by omega)]))
                have z_A : atA Z pa we co = nuA Z (pa + 1) 1 (atM Z pa) := by unfold atA; (repeat (first | rw [if_pos (by omega)] | rw [if_neg (by omega)]))
                have z_N : atN Z pa we co nu = nuV Z (pa + 1) 1 := by unfold atN; (repeat (first | rw [if_pos (by omega)] | rw [if_neg (by omega)]))
                have z_E : atE Z pa we co = we + m := by unfold atE; first | (rw [if_pos (by omega)]; done) | (rw [if_neg (by omega), ← hwh, ← hm])
                have z_C : atC Z pa we co = co := by unfold atC; (repeat (first | rw [if_pos (by omega)] | rw [if_neg (by omega)]))
                have wvv := vl_in (Z := Z) (sk Z (pa + 1))
                have wvv2 : nuV Z (pa + 1) 1 = vl Z (sk Z (pa + 1)) := rfl
                have w_F : nuF Z (pa + 1) f mo = nuF Z (pa + 1) 1 (atM Z pa) := by rw [hf1v, hmo]
                have w_A : nuA Z (pa + 1) f mo = nuA Z (pa + 1) 1 (atM Z pa) := by rw [hf1v, hmo]
                have w_V : nuV Z (pa + 1) f = nuV Z (pa + 1) 1 := by rw [hf1v]
                have w_01 := nuF_01 Z (pa + 1) 1 (atM Z pa)
                have w_in := nuA_in (Z := Z) (pa := pa + 1) (fi := 1) (m := atM Z pa) (by omega)
                refine y_aload_n hE rfl 1 rfl dX4_readsAttribute_214 ?_
                have J233 : ∀ (ix : Int), (ix = 3 + wh) → Y x n α K_211 0 0 233 [(1, .int (iI wh)), (0, .ref (α 4 0))] [.int (iI ix), .ref (α 4 0)] := by
                  intro ix hix
                  refine y_aload_n hE rfl 1 rfl dX4_readsAttribute_233 ?_
                  refine gX4_208 (z := (nuV Z (pa + 1) f)) hE h40 z33_211 dX4_readsAttribute_234 ?_
                  refine y_callV hE (m_X4_sets S Z cd (nuA Z (pa + 1) f mo) (nuF Z (pa + 1) f mo) ad (nuV Z (pa + 1) f) rm (we + m) co ix (nuV Z (pa + 1) f) h40 hM_211 ⟨z25_211, z30_211, z31_211, z32_211, z33_211, z34_211, z35_211, z36_211⟩ (by assumption) (by assumption) (by omega) (by omega) (by omega) (by omega) (by omega)) (lw_V q3036 q3038 qs75 q133 q3039) (nA := 2) (by decide +kernel) rfl ⟨Nat.le_of_ble_eq_true rfl, Nat.le_of_ble_eq_true rfl⟩ (hdd := rfl) (hcc := rfl) (hq := rfl) (hi := h40) (rest := []) rfl (by decide) dX4_readsAttribute_237 (bc' := 0) (bs' := 0) (Nat.le_refl _) (Nat.le_refl _) (fun r_237 n_237 α_237 K_237 hx_237 hp_237 => ?_)
                  obtain ⟨rfl, rfl, hM_237, hk_237, hr_237⟩ := hp_237
                  obtain ⟨⟨z25_237, z30_237, z31_237, z32_237, z33_237, z34_237, z35_237, z36_237⟩, hr_237⟩ := hr_237
                  refine y_to (st' := []) rfl rfl rfl ?_
                  refine y_vret (r := 0) hE rfl hQ dX4_readsAttribute_240 Ext.rf ?_
                  refine ⟨rfl, rfl, by   first   | (have e : zif ad (atQ Z Q pa we co) S = zif ad (cdQ Z Q (pa + 1)) S := (by unfold atQ; rw [if_neg (by omega), if_pos (by omega)]); rw [e]; exact hM_237)   | (have e : zif ad (atQ Z Q pa we co) S = setS f ad 6 1 S := (by unfold atQ; rw [if_neg (by omega), if_neg (by omega), if_pos (by omega)]; exact zif_at (fun z => by unfold setS; rw [if_pos ⟨hf1v, z⟩, hQs z]) (fun z => by unfold setS; rw [if_neg (fun y => z y.2)])); rw [e]; exact hM_237)   | (have e : zif ad (atQ Z Q pa we co) S = setS (nuF Z (pa + 1) f mo) ad ix (nuV Z (pa + 1) f) S := (by rw [w_F, w_V, hix]; unfold atQ; rw [if_neg (by omega), if_neg (by omega), if_neg (by omega), ← hwh]; exact zif_at (fun z => by unfold setS; rw [hQs z]; by_cases q : nuF Z (pa + 1) 1 (atM Z pa) = 1; (rw [if_pos q, if_pos ⟨q, z⟩]); (rw [if_neg q, if_neg (fun y => q y.1)])) (fun z => by unfold setS; rw [if_neg (fun y => z y.2)])); rw [e]; exact hM_237), (((KO.up (KO.up (KO.up KO.rf (by decide)) (by decide)) (by decide)).tr (KO.mono hk_211 (fun k i z => by (try dsimp only at z); (try dsimp only); omega))).tr (KO.mono hk_237 (fun k i z => by (try dsimp only at z); (try dsimp only); omega))), ?_, trivial⟩
                  have q := (show PS K_237 cd (nuA Z (pa + 1) f mo) (nuF Z (pa + 1) f mo) ad (nuV Z (pa + 1) f) rm (we + m) co from ⟨z25_237, z30_237, z31_237, z32_237, z33_237, z34_237, z35_237, z36_237⟩)
                  exact ⟨q.1.trans (by omega), q.2.1.trans (by omega), q.2.2.1.trans (by omega), q.2.2.2.1.trans (by omega), q.2.2.2.2.1.trans (by omega), q.2.2.2.2.2.1.trans (by omega), q.2.2.2.2.2.2.1.trans (by omega), q.2.2.2.2.2.2.2.trans (by omega)⟩
                refine y_iload_n hE rfl 0 rfl dX4_readsAttribute_215 ?_
                refine y_if_ne hE 223 (by decide) (by omega) dX4_readsAttribute_216 (fun c_216 => ?_) (fun c_216 => ?_)
                · refine y_iload_n hE rfl 0 rfl dX4_readsAttribute_223 ?_
                  refine y_iconst hE dX4_readsAttribute_224 ?_
                  refine y_icmp_ne hE 232 (by decide) (by omega) (by omega) dX4_readsAttribute_225 (fun c_225 => ?_) (fun c_225 => ?_)
                  · refine y_iconst hE dX4_readsAttribute_232 ?_
                    exact J233 5 (by omega)
                  · refine y_iconst hE dX4_readsAttribute_228 ?_
                    refine y_goto hE 233 (by decide) dX4_readsAttribute_229 ?_
                    exact J233 4 (by omega)
                · refine y_iconst hE dX4_readsAttribute_219 ?_
                  refine y_goto hE 233 (by decide) dX4_readsAttribute_220 ?_
                  exact J233 3 (by omega)
              refine y_iload_n hE rfl 0 rfl dX4_readsAttribute_190 ?_
              refine y_if_ne hE 200 (by decide) (by omega) dX4_readsAttribute_191 (fun c_191 => ?_) (fun c_191 => ?_)
              · refine y_iload_n hE rfl 0 rfl dX4_readsAttribute_200 ?_
                refine y_iconst hE dX4_readsAttribute_201 ?_
                refine y_icmp_ne hE 210 (by decide) (by omega) (by omega) dX4_readsAttribute_202 (fun c_202 => ?_) (fun c_202 => ?_)
                · refine y_iconst hE dX4_readsAttribute_210 ?_
                  exact J211 4 (by unfold atM; rw [← hwh]; (repeat (first | rw [if_pos (by omega)] | rw [if_neg (by omega)]))) (by omega)
                · refine y_bipush hE (by decide) dX4_readsAttribute_205 ?_
                  refine y_goto hE 211 (by decide) dX4_readsAttribute_207 ?_
                  exact J211 99 (by unfold atM; rw [← hwh]; (repeat (first | rw [if_pos (by omega)] | rw [if_neg (by omega)]))) (by omega)
              · refine y_sipush hE (by decide) dX4_readsAttribute_194 ?_
                refine y_goto hE 211 (by decide) dX4_readsAttribute_197 ?_
                exact J211 300 (by unfold atM; rw [← hwh]; (repeat (first | rw [if_pos (by omega)] | rw [if_neg (by omega)]))) (by omega)
            · have z_F : atF Z pa we co = 1 := by unfold atF; (repeat (first | rw [if_pos (by omega)] | rw [if_neg (by omega)]))
              have z_A : atA Z pa we co = pa + 1 := by unfold atA; (repeat (first | rw [if_pos (by omega)] | rw [if_neg (by omega)]))
              have z_N : atN Z pa we co nu = nu := by unfold atN; (repeat (first | rw [if_pos (by omega)] | rw [if_neg (by omega)]))
              have z_E : atE Z pa we co = we + m := by unfold atE; first | (rw [if_pos (by omega)]; done) | (rw [if_neg (by omega), ← hwh, ← hm])
              have z_C : atC Z pa we co = co := by unfold atC; (repeat (first | rw [if_pos (by omega)] | rw [if_neg (by omega)]))
              refine y_aload_n hE rfl 1 rfl dX4_readsAttribute_179 ?_
              refine y_bipush hE (by decide) dX4_readsAttribute_180 ?_
              refine y_iconst hE dX4_readsAttribute_182 ?_
              refine y_callV hE (m_X4_sets S Z cd (pa + 1) f ad nu rm (we + m) co 6 1 h40 (MRep.t (MRep.t (MRep.t hM 31 (by decide) f) 30 (by decide) (pa + 1)) 35 (by decide) (we + m)) ⟨hps.1, (by simp [up3, upr]), (by simp [up3, upr]), hps.2.2.2.1, hps.2.2.2.2.1, hps.2.2.2.2.2.1, (by simp [up3, upr]), hps.2.2.2.2.2.2.2⟩ (by assumption) (by assumption) (by omega) (by omega) (by omega) (by omega) (by omega)) (lw_V q3036 q3038 qs75 q133 q3039) (nA := 2) (by decide +kernel) rfl ⟨Nat.le_of_ble_eq_true rfl, Nat.le_of_ble_eq_true rfl⟩ (hdd := rfl) (hcc := rfl) (hq := rfl) (hi := h40) (rest := []) rfl (by decide) dX4_readsAttribute_183 (bc' := 0) (bs' := 0) (Nat.le_refl _) (Nat.le_refl _) (fun r_183 n_183 α_183 K_183 hx_183 hp_183 => ?_)
              obtain ⟨rfl, rfl, hM_183, hk_183, hr_183⟩ := hp_183
              obtain ⟨⟨z25_183, z30_183, z31_183, z32_183, z33_183, z34_183, z35_183, z36_183⟩, hr_183⟩ := hr_183
              refine y_to (st' := []) rfl rfl rfl ?_
              refine y_goto hE 240 (by decide) dX4_readsAttribute_186 ?_
              refine y_vret (r := 0) hE rfl hQ dX4_readsAttribute_240 Ext.rf ?_
              refine ⟨rfl, rfl, by   first   | (have e : zif ad (atQ Z Q pa we co) S = zif ad (cdQ Z Q (pa + 1)) S := (by unfold atQ; rw [if_neg (by omega), if_pos (by omega)]); rw [e]; exact hM_183)   | (have e : zif ad (atQ Z Q pa we co) S = setS f ad 6 1 S := (by unfold atQ; rw [if_neg (by omega), if_neg (by omega), if_pos (by omega)]; exact zif_at (fun z => by unfold setS; rw [if_pos ⟨hf1v, z⟩, hQs z]) (fun z => by unfold setS; rw [if_neg (fun y => z y.2)])); rw [e]; exact hM_183)   | (have e : zif ad (atQ Z Q pa we co) S = setS (nuF Z (pa + 1) f mo) ad ix (nuV Z (pa + 1) f) S := (by rw [w_F, w_V, hix]; unfold atQ; rw [if_neg (by omega), if_neg (by omega), if_neg (by omega), ← hwh]; exact zif_at (fun z => by unfold setS; rw [hQs z]; by_cases q : nuF Z (pa + 1) 1 (atM Z pa) = 1; (rw [if_pos q, if_pos ⟨q, z⟩]); (rw [if_neg q, if_neg (fun y => q y.1)])) (fun z => by unfold setS; rw [if_neg (fun y => z y.2)])); rw [e]; exact hM_183), ((KO.up (KO.up (KO.up KO.rf (by decide)) (by decide)) (by decide)).tr (KO.mono hk_183 (fun k i z => by (try dsimp only at z); (try dsimp only); omega))), ?_, trivial⟩
              have q := (show PS K_183 cd (pa + 1) f ad nu rm (we + m) co from ⟨z25_183, z30_183, z31_183, z32_183, z33_183, z34_183, z35_183, z36_183⟩)
              exact ⟨q.1.trans (by omega), q.2.1.trans (by omega), q.2.2.1.trans (by omega), q.2.2.2.1.trans (by omega), q.2.2.2.2.1.trans (by omega), q.2.2.2.2.2.1.trans (by omega), q.2.2.2.2.2.2.1.trans (by omega), q.2.2.2.2.2.2.2.trans (by omega)⟩
          · refine y_aload_n hE rfl 1 rfl dX4_readsAttribute_157 ?_
            refine y_dup hE rfl dX4_readsAttribute_158 ?_
            refine gX4_231 (z := co) hE h40 hps.2.2.2.2.2.2.2 dX4_readsAttribute_159 ?_
            refine y_iconst hE dX4_readsAttribute_162 ?_
            refine y_iadd hE dX4_readsAttribute_163 ?_
            refine pX4_231 hE h40 dX4_readsAttribute_164 ?_
            refine y_aload_n hE rfl 1 rfl dX4_readsAttribute_167 ?_
            refine y_callV hE (m_X4_readsCondition S Z cd (pa + 1) f ad nu rm (we + m) (co + 1) Q h40 (MRep.t (MRep.t (MRep.t (MRep.t hM 31 (by decide) f) 30 (by decide) (pa + 1)) 35 (by decide) (we + m)) 36 (by decide) (co + 1)) ⟨hps.1, (by simp [up3, upr]), (by simp [up3, upr]), hps.2.2.2.1, hps.2.2.2.2.1, hps.2.2.2.2.2.1, (by simp [up3, upr]), (by simp [up3, upr])⟩ (by assumption) (by assumption) (by omega) (by omega) (by omega) (by omega) (by assumption) (by omega) (by omega) (by omega)) (lw_V q3032 q3034 qs74 q133 q3035) (nA := 0) (by decide +kernel) rfl ⟨Nat.le_of_ble_eq_true rfl, Nat.le_of_ble_eq_true rfl⟩ (hdd := rfl) (hcc := rfl) (hq := rfl) (hi := h40) (rest := []) rfl (by decide) dX4_readsAttribute_168 (bc' := 0) (bs' := 0) (Nat.le_refl _) (Nat.le_refl _) (fun r_168 n_168 α_168 K_168 hx_168 hp_168 => ?_)
            obtain ⟨rfl, rfl, hM_168, hk_168, hr_168⟩ := hp_168
            obtain ⟨⟨z25_168, z30_168, z31_168, z32_168, z33_168, z34_168, z35_168, z36_168⟩, hr_168⟩ := hr_168
            refine y_to (st' := []) rfl rfl rfl ?_
            have z_F : atF Z pa we co = cdF Z (pa + 1) := by unfold atF; (repeat (first | rw [if_pos (by omega)] | rw [if_neg (by omega)]))
            have z_A : atA Z pa we co = cdA Z (pa + 1) := by unfold atA; (repeat (first | rw [if_pos (by omega)] | rw [if_neg (by omega)]))
            have z_N : atN Z pa we co nu = cdN Z (pa + 1) nu := by unfold atN; (repeat (first | rw [if_pos (by omega)] | rw [if_neg (by omega)]))
            have z_E : atE Z pa we co = we + m := by unfold atE; first | (rw [if_pos (by omega)]; done) | (rw [if_neg (by omega), ← hwh, ← hm])
            have z_C : atC Z pa we co = co + 1 := by unfold atC; (repeat (first | rw [if_pos (by omega)] | rw [if_neg (by omega)]))
            refine y_goto hE 240 (by decide) dX4_readsAttribute_171 ?_
            refine y_vret (r := 0) hE rfl hQ dX4_readsAttribute_240 Ext.rf ?_
            refine ⟨rfl, rfl, by   first   | (have e : zif ad (atQ Z Q pa we co) S = zif ad (cdQ Z Q (pa + 1)) S := (by unfold atQ; rw [if_neg (by omega), if_pos (by omega)]); rw [e]; exact hM_168)   | (have e : zif ad (atQ Z Q pa we co) S = setS f ad 6 1 S := (by unfold atQ; rw [if_neg (by omega), if_neg (by omega), if_pos (by omega)]; exact zif_at (fun z => by unfold setS; rw [if_pos ⟨hf1v, z⟩, hQs z]) (fun z => by unfold setS; rw [if_neg (fun y => z y.2)])); rw [e]; exact hM_168)   | (have e : zif ad (atQ Z Q pa we co) S = setS (nuF Z (pa + 1) f mo) ad ix (nuV Z (pa + 1) f) S := (by rw [w_F, w_V, hix]; unfold atQ; rw [if_neg (by omega), if_neg (by omega), if_neg (by omega), ← hwh]; exact zif_at (fun z => by unfold setS; rw [hQs z]; by_cases q : nuF Z (pa + 1) 1 (atM Z pa) = 1; (rw [if_pos q, if_pos ⟨q, z⟩]); (rw [if_neg q, if_neg (fun y => q y.1)])) (fun z => by unfold setS; rw [if_neg (fun y => z y.2)])); rw [e]; exact hM_168), ((KO.up (KO.up (KO.up (KO.up KO.rf (by decide)) (by decide)) (by decide)) (by decide)).tr hk_168), ?_, trivial⟩
            have q := (show PS K_168 cd (cdA Z (pa + 1)) (cdF Z (pa + 1)) ad (cdN Z (pa + 1) nu) rm (we + m) (co + 1) from ⟨z25_168, z30_168, z31_168, z32_168, z33_168, z34_168, z35_168, z36_168⟩)
            exact ⟨q.1.trans (by omega), q.2.1.trans (by omega), q.2.2.1.trans (by omega), q.2.2.2.1.trans (by omega), q.2.2.2.2.1.trans (by omega), q.2.2.2.2.2.1.trans (by omega), q.2.2.2.2.2.2.1.trans (by omega), q.2.2.2.2.2.2.2.trans (by omega)⟩
        refine y_iload_n hE rfl 0 rfl dX4_readsAttribute_136 ?_
        refine y_iconst hE dX4_readsAttribute_137 ?_
        refine y_icmp_ge hE 147 (by decide) (by omega) (by omega) dX4_readsAttribute_138 (fun c_138 => ?_) (fun c_138 => ?_)
        · refine y_iconst hE dX4_readsAttribute_147 ?_
          exact J148 0 (by first | rw [if_pos (by omega)] | rw [if_neg (by omega)])
        · refine y_iconst hE dX4_readsAttribute_141 ?_
          refine y_iload_n hE rfl 0 rfl dX4_readsAttribute_142 ?_
          refine y_ishl hE (pw2 wh) (bit_shl (by omega)) dX4_readsAttribute_143 ?_
          refine y_goto hE 148 (by decide) dX4_readsAttribute_144 ?_
          exact J148 (pw2 wh) (by first | rw [if_pos (by omega)] | rw [if_neg (by omega)])
      · have z_F : atF Z pa we co = 0 := by unfold atF; (repeat (first | rw [if_pos (by omega)] | rw [if_neg (by omega)]))
        have z_A : atA Z pa we co = pa := by unfold atA; (repeat (first | rw [if_pos (by omega)] | rw [if_neg (by omega)]))
        have z_N : atN Z pa we co nu = nu := by unfold atN; (repeat (first | rw [if_pos (by omega)] | rw [if_neg (by omega)]))
        have z_E : atE Z pa we co = we := by unfold atE; first | (rw [if_pos (by omega)]; done) | (rw [if_neg (by omega), ← hwh, ← hm])
        have z_C : atC Z pa we co = co := by unfold atC; (repeat (first | rw [if_pos (by omega)] | rw [if_neg (by omega)]))
        refine y_vret (r := 0) hE rfl hQ dX4_readsAttribute_120 Ext.rf ?_
        refine ⟨rfl, rfl, by unfold atQ; rw [if_pos (by omega), zif_e hQs]; exact (MRep.t hM 31 (by decide) f), (KO.up KO.rf (by decide)), ?_, trivial⟩
        have q := (show PS (up3 K 4 0 31 f) cd pa f ad nu rm we co from ⟨hps.1, hps.2.1, (by simp [up3, upr]), hps.2.2.2.1, hps.2.2.2.2.1, hps.2.2.2.2.2.1, hps.2.2.2.2.2.2.1, hps.2.2.2.2.2.2.2⟩)
        exact ⟨q.1.trans (by omega), q.2.1.trans (by omega), q.2.2.1.trans (by omega), q.2.2.2.1.trans (by omega), q.2.2.2.2.1.trans (by omega), q.2.2.2.2.2.1.trans (by omega), q.2.2.2.2.2.2.1.trans (by omega), q.2.2.2.2.2.2.2.trans (by omega)⟩
    refine y_iload_n hE rfl 0 rfl dX4_readsAttribute_68 ?_
    refine y_iconst hE dX4_readsAttribute_69 ?_
    refine y_icmp_ge hE 92 (by decide) (by omega) (by omega) dX4_readsAttribute_70 (fun c_70 => ?_) (fun c_70 => ?_)
    · refine y_iload_n hE rfl 0 rfl dX4_readsAttribute_92 ?_
      refine y_iconst hE dX4_readsAttribute_93 ?_
      refine y_icmp_ne hE 109 (by decide) (by omega) (by omega) dX4_readsAttribute_94 (fun c_94 => ?_) (fun c_94 => ?_)
      · refine y_iconst hE dX4_readsAttribute_109 ?_
        exact J110 0 (by unfold at1; rw [← hwh]; (repeat (first | rw [if_pos (by omega)] | rw [if_neg (by omega)])))
      · refine y_aload_n hE rfl 1 rfl dX4_readsAttribute_97 ?_
        refine gX4_231 (z := co) hE h40 hps.2.2.2.2.2.2.2 dX4_readsAttribute_98 ?_
        refine y_iconst hE dX4_readsAttribute_101 ?_
        refine y_icmp_ge hE 109 (by decide) (by omega) (by omega) dX4_readsAttribute_102 (fun c_102 => ?_) (fun c_102 => ?_)
        · refine y_iconst hE dX4_readsAttribute_109 ?_
          exact J110 0 (by unfold at1; rw [← hwh]; (repeat (first | rw [if_pos (by omega)] | rw [if_neg (by omega)])))
        · refine y_iconst hE dX4_readsAttribute_105 ?_
          refine y_goto hE 110 (by decide) dX4_readsAttribute_106 ?_
          exact J110 1 (by unfold at1; rw [← hwh]; (repeat (first | rw [if_pos (by omega)] | rw [if_neg (by omega)])))
    · refine y_aload_n hE rfl 1 rfl dX4_readsAttribute_73 ?_
      refine gX4_228 (z := we) hE h40 hps.2.2.2.2.2.2.1 dX4_readsAttribute_74 ?_
      refine y_iload_n hE rfl 0 rfl dX4_readsAttribute_77 ?_
      refine y_ishr hE (we / pw2 wh) (bit_shr hwe (by omega)) dX4_readsAttribute_78 ?_
      refine y_iconst hE dX4_readsAttribute_79 ?_
      refine y_iand hE ((we / pw2 wh) % 2) (bit_and (by have := pw2_in (k := wh) (by omega); rcases this with ⟨_, e⟩ | ⟨_, e⟩ | ⟨_, e⟩ | ⟨_, e⟩ <;> rw [e] <;> omega)) dX4_readsAttribute_80 ?_
      refine y_if_ne hE 88 (by decide) (by omega) dX4_readsAttribute_81 (fun c_81 => ?_) (fun c_81 => ?_)
      · refine y_iconst hE dX4_readsAttribute_88 ?_
        refine y_goto hE 110 (by decide) dX4_readsAttribute_89 ?_
        exact J110 0 (by unfold at1; rw [← hwh]; (repeat (first | rw [if_pos (by omega)] | rw [if_neg (by omega)])))
      · refine y_iconst hE dX4_readsAttribute_84 ?_
        refine y_goto hE 110 (by decide) dX4_readsAttribute_85 ?_
        exact J110 1 (by unfold at1; rw [← hwh]; (repeat (first | rw [if_pos (by omega)] | rw [if_neg (by omega)])))
  refine y_aload_n hE rfl 0 rfl dX4_readsAttribute_0 ?_
  refine y_bipush hE (by decide) dX4_readsAttribute_1 ?_
  refine y_callV hE (m_X4_here S Z cd pa fi ad nu rm we co 64 h40 hM ⟨hps.1, hps.2.1, hps.2.2.1, hps.2.2.2.1, hps.2.2.2.2.1, hps.2.2.2.2.2.1, hps.2.2.2.2.2.2.1, hps.2.2.2.2.2.2.2⟩ (by first | exact hz | omega) (by first | exact hWz | omega) (by first | exact hpa | omega) (by first | exact hfi | omega) (by omega)) (lw_V q3014 q3016 qs70 q133 q3017) (nA := 1) (by decide +kernel) rfl ⟨Nat.le_of_ble_eq_true rfl, Nat.le_of_ble_eq_true rfl⟩ (hdd := rfl) (hcc := rfl) (hq := rfl) (hi := h40) (rest := []) rfl (by decide) dX4_readsAttribute_3 (bc' := 0) (bs' := 0) (Nat.le_refl _) (Nat.le_refl _) (fun r_3 n_3 α_3 K_3 hx_3 hp_3 => ?_)
  obtain ⟨rfl, rfl, rfl, hr_3⟩ := hp_3
  have e_3 : hI Z pa 64 = r_3 := Eq.symm (by rw [hr_3.1])
  subst e_3
  refine y_to (st' := [.int (iI (hI Z pa 64))]) rfl rfl rfl ?_
  refine y_if_eq hE 13 (by decide) (by omega) dX4_readsAttribute_6 (fun c_6 => ?_) (fun c_6 => ?_)
  · refine y_aload_n hE rfl 0 rfl dX4_readsAttribute_13 ?_
    refine y_bipush hE (by decide) dX4_readsAttribute_14 ?_
    refine y_callV hE (m_X4_here S Z cd pa fi ad nu rm we co 43 h40 hM ⟨hps.1, hps.2.1, hps.2.2.1, hps.2.2.2.1, hps.2.2.2.2.1, hps.2.2.2.2.2.1, hps.2.2.2.2.2.2.1, hps.2.2.2.2.2.2.2⟩ (by first | exact hz | omega) (by first | exact hWz | omega) (by first | exact hpa | omega) (by first | exact hfi | omega) (by omega)) (lw_V q3014 q3016 qs70 q133 q3017) (nA := 1) (by decide +kernel) rfl ⟨Nat.le_of_ble_eq_true rfl, Nat.le_of_ble_eq_true rfl⟩ (hdd := rfl) (hcc := rfl) (hq := rfl) (hi := h40) (rest := []) rfl (by decide) dX4_readsAttribute_16 (bc' := 0) (bs' := 0) (Nat.le_refl _) (Nat.le_refl _) (fun r_16 n_16 α_16 K_16 hx_16 hp_16 => ?_)
    obtain ⟨rfl, rfl, rfl, hr_16⟩ := hp_16
    have e_16 : hI Z pa 43 = r_16 := Eq.symm (by rw [hr_16.1])
    subst e_16
    refine y_to (st' := [.int (iI (hI Z pa 43))]) rfl rfl rfl ?_
    refine y_if_eq hE 26 (by decide) (by omega) dX4_readsAttribute_19 (fun c_19 => ?_) (fun c_19 => ?_)
    · refine y_aload_n hE rfl 0 rfl dX4_readsAttribute_26 ?_
      refine y_bipush hE (by decide) dX4_readsAttribute_27 ?_
      refine y_callV hE (m_X4_here S Z cd pa fi ad nu rm we co 33 h40 hM ⟨hps.1, hps.2.1, hps.2.2.1, hps.2.2.2.1, hps.2.2.2.2.1, hps.2.2.2.2.2.1, hps.2.2.2.2.2.2.1, hps.2.2.2.2.2.2.2⟩ (by first | exact hz | omega) (by first | exact hWz | omega) (by first | exact hpa | omega) (by first | exact hfi | omega) (by omega)) (lw_V q3014 q3016 qs70 q133 q3017) (nA := 1) (by decide +kernel) rfl ⟨Nat.le_of_ble_eq_true rfl, Nat.le_of_ble_eq_true rfl⟩ (hdd := rfl) (hcc := rfl) (hq := rfl) (hi := h40) (rest := []) rfl (by decide) dX4_readsAttribute_29 (bc' := 0) (bs' := 0) (Nat.le_refl _) (Nat.le_refl _) (fun r_29 n_29 α_29 K_29 hx_29 hp_29 => ?_)
      obtain ⟨rfl, rfl, rfl, hr_29⟩ := hp_29
      have e_29 : hI Z pa 33 = r_29 := Eq.symm (by rw [hr_29.1])
      subst e_29
      refine y_to (st' := [.int (iI (hI Z pa 33))]) rfl rfl rfl ?_
      refine y_if_eq hE 39 (by decide) (by omega) dX4_readsAttribute_32 (fun c_32 => ?_) (fun c_32 => ?_)
      · refine y_aload_n hE rfl 0 rfl dX4_readsAttribute_39 ?_
        refine y_bipush hE (by decide) dX4_readsAttribute_40 ?_
        refine y_callV hE (m_X4_here S Z cd pa fi ad nu rm we co 111 h40 hM ⟨hps.1, hps.2.1, hps.2.2.1, hps.2.2.2.1, hps.2.2.2.2.1, hps.2.2.2.2.2.1, hps.2.2.2.2.2.2.1, hps.2.2.2.2.2.2.2⟩ (by first | exact hz | omega) (by first | exact hWz | omega) (by first | exact hpa | omega) (by first | exact hfi | omega) (by omega)) (lw_V q3014 q3016 qs70 q133 q3017) (nA := 1) (by decide +kernel) rfl ⟨Nat.le_of_ble_eq_true rfl, Nat.le_of_ble_eq_true rfl⟩ (hdd := rfl) (hcc := rfl) (hq := rfl) (hi := h40) (rest := []) rfl (by decide) dX4_readsAttribute_42 (bc' := 0) (bs' := 0) (Nat.le_refl _) (Nat.le_refl _) (fun r_42 n_42 α_42 K_42 hx_42 hp_42 => ?_)
        obtain ⟨rfl, rfl, rfl, hr_42⟩ := hp_42
        have e_42 : hI Z pa 111 = r_42 := Eq.symm (by rw [hr_42.1])
        subst e_42
        refine y_to (st' := [.int (iI (hI Z pa 111))]) rfl rfl rfl ?_
        refine y_if_eq hE 52 (by decide) (by omega) dX4_readsAttribute_45 (fun c_45 => ?_) (fun c_45 => ?_)
        · refine y_aload_n hE rfl 0 rfl dX4_readsAttribute_52 ?_
          refine y_bipush hE (by decide) dX4_readsAttribute_53 ?_
          refine y_callV hE (m_X4_here S Z cd pa fi ad nu rm we co 63 h40 hM ⟨hps.1, hps.2.1, hps.2.2.1, hps.2.2.2.1, hps.2.2.2.2.1, hps.2.2.2.2.2.1, hps.2.2.2.2.2.2.1, hps.2.2.2.2.2.2.2⟩ (by first | exact hz | omega) (by first | exact hWz | omega) (by first | exact hpa | omega) (by first | exact hfi | omega) (by omega)) (lw_V q3014 q3016 qs70 q133 q3017) (nA := 1) (by decide +kernel) rfl ⟨Nat.le_of_ble_eq_true rfl, Nat.le_of_ble_eq_true rfl⟩ (hdd := rfl) (hcc := rfl) (hq := rfl) (hi := h40) (rest := []) rfl (by decide) dX4_readsAttribute_55 (bc' := 0) (bs' := 0) (Nat.le_refl _) (Nat.le_refl _) (fun r_55 n_55 α_55 K_55 hx_55 hp_55 => ?_)
          obtain ⟨rfl, rfl, rfl, hr_55⟩ := hp_55
          have e_55 : hI Z pa 63 = r_55 := Eq.symm (by rw [hr_55.1])
          subst e_55
          refine y_to (st' := [.int (iI (hI Z pa 63))]) rfl rfl rfl ?_
          refine y_if_eq hE 65 (by decide) (by omega) dX4_readsAttribute_58 (fun c_58 => ?_) (fun c_58 => ?_)
          · refine y_iconst hE dX4_readsAttribute_65 ?_
            exact J66 5 (by unfold atW; (repeat (first | rw [if_pos (by omega)] | rw [if_neg (by omega)])))
          · refine y_iconst hE dX4_readsAttribute_61 ?_
            refine y_goto hE 66 (by decide) dX4_readsAttribute_62 ?_
            exact J66 4 (by unfold atW; (repeat (first | rw [if_pos (by omega)] | rw [if_neg (by omega)])))
        · refine y_iconst hE dX4_readsAttribute_48 ?_
          refine y_goto hE 66 (by decide) dX4_readsAttribute_49 ?_
          exact J66 3 (by unfold atW; (repeat (first | rw [if_pos (by omega)] | rw [if_neg (by omega)])))
      · refine y_iconst hE dX4_readsAttribute_35 ?_
        refine y_goto hE 66 (by decide) dX4_readsAttribute_36 ?_
        exact J66 2 (by unfold atW; (repeat (first | rw [if_pos (by omega)] | rw [if_neg (by omega)])))
    · refine y_iconst hE dX4_readsAttribute_22 ?_
      refine y_goto hE 66 (by decide) dX4_readsAttribute_23 ?_
      exact J66 1 (by unfold atW; (repeat (first | rw [if_pos (by omega)] | rw [if_neg (by omega)])))
  · refine y_iconst hE dX4_readsAttribute_9 ?_
    refine y_goto hE 66 (by decide) dX4_readsAttribute_10 ?_
    exact J66 0 (by unfold atW; (repeat (first | rw [if_pos (by omega)] | rw [if_neg (by omega)])))
