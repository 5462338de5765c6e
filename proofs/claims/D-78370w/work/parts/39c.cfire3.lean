set_option linter.unusedVariables false
theorem MV.fresh {S : SS} {n : KN} {K : KS} {mi ta tb fa fb t : Int} (h : MV S n K mi ta tb fa fb) : MV S n (up3 K 13 t 3 0) mi ta tb (if t = ta then 0 else fa) (if t = tb then 0 else fb) := by
  obtain ⟨a1, ⟨b1, b2, b3, b4, b5, b6, b7⟩, a3, a4, a5, a6⟩ := h
  have e : ∀ (k : Nat) (i f : Int), ¬ (k = 13 ∧ f = 3) → up3 K 13 t 3 0 k i f = K k i f := fun k i f q => by unfold up3; rw [if_neg (by omega)]
  have e3 : ∀ i v : Int, K 13 i 3 = v → up3 K 13 t 3 0 13 i 3 = if t = i then 0 else v := fun i v hv => by
    unfold up3
    by_cases q : t = i
    · rw [if_pos q, if_pos ⟨rfl, rfl, q.symm⟩]
    · rw [if_neg q, if_neg (fun z => q z.2.2.symm), hv]
  have x : ∀ f, up3 K 13 t 3 0 12 mi f = K 12 mi f := fun f => e 12 mi f (by omega)
  unfold MV
  rw [x 0, x 1, x 2, x 3, x 4, x 5, x 8, x 9, e 13 ta 0 (by omega), e 13 ta 1 (by omega), e 13 ta 2 (by omega), e 13 tb 0 (by omega), e 13 tb 1 (by omega), e 13 tb 2 (by omega)]
  refine ⟨a1, ⟨b1, b2, b3, b4, b5, b6, e3 ta fa b7⟩, a3, ?_, fun z => (a5 z).congr (e 2 _ 3 (by omega)) (fun j _ _ => ⟨e 31 _ j (by omega), e 32 _ j (by omega), e 33 _ j (by omega)⟩), ⟨a6.1, fun j j0 j1 => (e 35 mi j (by omega)).trans (a6.2.1 j j0 j1), a6.2.2⟩⟩
  rcases a4 with h | ⟨h1, ⟨g1, g2, g3, g4, g5, g6⟩, h2⟩
  · exact Or.inl h
  · exact Or.inr ⟨h1, ⟨g1, g2, g3, g4, g5, e3 tb fb g6⟩, h2⟩
theorem firC_lo {S : SS} {st be fr af sh tk : Int} (hev : 0 ≤ S 0 166 ∧ S 0 166 ≤ 30) : ∀ c : Nat, (0 ≤ firC S st be fr af sh tk c 0 166 ∧ firC S st be fr af sh tk c 0 166 ≤ 30) ∧ firC S st be fr af sh tk c 0 287 = S 0 287 ∧ ∀ j : Int, j < 166 → firC S st be fr af sh tk c 0 j = S 0 j
  | 0 => ⟨hev, rfl, fun _ _ => rfl⟩
  | c + 1 => by
    obtain ⟨h1, h2, h3⟩ := firC_lo (st := st) (be := be) (fr := fr) (af := af) (sh := sh) (tk := tk) hev c
    rw [firC]
    split
    · obtain ⟨k1, k2, k3⟩ := firK_lo (c := c) (st := st) (be := be) (fr := fr) (af := af) (tk := tk) h1 (S 5 c).toNat
      exact ⟨k1, by rw [k2, h2], fun j hj => by rw [k3 j hj, h3 j hj]⟩
    · exact ⟨h1, h2, h3⟩
set_option maxHeartbeats 4000000 in
set_option maxRecDepth 100000 in
theorem m_X12_fire {w : KW} {n : KN} {α : KA} {K : KS} (S : SS) (mi ta tb fa fb : Int) (t st q1 q2 be fr sh : Int) (hR : Rst S n K) (hW : WFs S) (hlm : 0 ≤ mi ∧ mi < n 12) (hV : MV S n K mi ta tb fa fb) (hv0 : WFv S) (hwm : 0 ≤ S 0 21 ∧ S 0 21 ≤ 24) (hev : 0 ≤ S 0 166 ∧ S 0 166 ≤ 30) (htk : K 12 mi 10 = S 0 287) (ht : 0 ≤ t ∧ t < n 13) (hst : 0 ≤ st ∧ st < S 19 0) (e0 : K 13 t 0 = st) (e1 : K 13 t 1 = q1) (e2 : K 13 t 2 = q2) (e3 : K 13 t 3 = fr) (e4 : K 13 t 4 = be) (b1 : 0 ≤ q1 ∧ q1 ≤ 1000000000) (b2 : 0 ≤ q2 ∧ q2 ≤ 1000000) (b3 : fr = 0 ∨ fr = 1) (b4 : 0 ≤ be ∧ be ≤ 2000000000000000) (hsh : 0 ≤ sh ∧ sh ≤ 1000000) : KM w yX12_fire cX12_fire 4 none { frames := 7, cells := 0, slots := 0, locals := 187 } (3, 0) [.ref (α 12 mi), .ref (α 13 t), .int (iI sh)] n α K (fun r n' α' K' => n = n' ∧ α = α' ∧ KF K K' (fun k i f => k = 12 ∧ i = (mi) ∧ f = 8 ∨ k = 12 ∧ i = (mi) ∧ f = 9 ∨ k = 35 ∧ i = (mi) ∧ 0 ≤ f ∨ k = 34 ∧ i = 1 ∧ 0 ≤ f ∨ k = 13 ∧ i = (t) ∧ f = 3) ∧ (MV (if 0 < sh then firS S st be fr (q1 * 1000000 + q2) sh (S 0 287) else S) n K' mi ta tb (if t = ta then 0 else fa) (if t = tb then 0 else fb))) := by
  refine y_start (by decide) (Nat.le_of_ble_eq_true rfl) (fun x hE hQ => ?_)
  have hw := hQ.2
  subst hw
  have hE : YE x cX12_fire RX12 none "fire" 4 { frames := 7, cells := 0, slots := 0, locals := 187 } := hE
  refine y_wk (fun hWK => ?_)
  have hn0 := hWK.1
  refine y_bud (bc' := 0) (bs' := 0) (Nat.le_refl _) (Nat.le_refl _) ?_
  refine y_to (lv' := [(0, .ref (α 12 mi)), (1, .ref (α 13 t)), (2, .int (iI sh))]) (st' := []) rfl rfl rfl ?_
  have hfoot : ∀ (k : Nat) (i f : Int), (fun k i f => k = 12 ∧ i = (mi) ∧ f = 8 ∨ k = 12 ∧ i = (mi) ∧ f = 9 ∨ k = 35 ∧ i = (mi) ∧ 0 ≤ f ∨ k = 34 ∧ i = 1 ∧ 0 ≤ f ∨ k = 13 ∧ i = (t) ∧ f = 3) k i f → ¬ SKd k f := fun k i f z => by unfold SKd; (try dsimp only at z); omega
  have wcl := hW.clips
  have n1 := hR.n1
  have n3 := hR.n3
  have n34 := hR.n34
  have n6 := hR.n6
  have n21 := hR.n21
  have n51 := hR.n51
  have n8 := hR.n8
  have n11 := hR.n11
  have wsts := hW.sts
  have wnodes := hW.nodes
  have va := hV.a
  have vb := hV.b
  have vs := hV.st
  have vl := hV.lg
  have wth := hW.thr
  have n6 := hR.n6
  have n11 := hR.n11
  have n3 := hR.n3
  have ws := hW.st st hst.1 hst.2
  have wcl := hW.clips
  have wpa := hW.1
  have hnd := st_nd2 hW hst
  obtain ⟨D, hD⟩ : ∃ D, DOk S D := hW.dep
  have J115 : ∀ (K3 : KS), (KF K K3 (fun k i f => k = 12 ∧ i = (mi) ∧ f = 8 ∨ k = 12 ∧ i = (mi) ∧ f = 9 ∨ k = 35 ∧ i = (mi) ∧ 0 ≤ f ∨ k = 34 ∧ i = 1 ∧ 0 ≤ f ∨ k = 13 ∧ i = (t) ∧ f = 3)) → (MV (if 0 < sh then firS S st be fr (q1 * 1000000 + q2) sh (S 0 287) else S) n K3 mi ta tb fa fb) → Y x n α K3 0 0 115 [(0, .ref (α 12 mi)), (1, .ref (α 13 t)), (2, .int (iI sh))] [] := by
    intro K3 hk3 hV4
    refine y_aload_n hE rfl 1 rfl dX12_fire_115 ?_
    refine y_iconst hE dX12_fire_116 ?_
    refine pX12_272 hE ht (by omega) dX12_fire_117 ?_
    exact y_vret (r := 0) hE rfl hQ dX12_fire_120 Ext.rf ⟨rfl, rfl, (KF.up hk3 (by (try dsimp only); omega)), hV4.fresh⟩
  refine y_iload_n hE rfl 2 rfl dX12_fire_0 ?_
  refine y_if_le hE 115 (by decide) (by omega) dX12_fire_1 (fun c_1 => ?_) (fun c_1 => ?_)
  · exact J115 K (KF.rf) (by first | (rw [if_neg (by omega)]; exact hV) | (rw [if_pos hs0]; unfold firS; rw [show S 8 0 = c by omega, ← hS3]; exact hV3))
  · refine y_aload_n hE rfl 0 rfl dX12_fire_4 ?_
    refine gX12_14r (z := 0) hE hlm (hR.m14 (i := mi) (by omega)) (by omega) dX12_fire_5 (fun hl_5 => ?_)
    refine y_aload_n hE rfl 0 rfl dX12_fire_8 ?_
    refine gX12_14r (z := 0) hE hlm (hR.m14 (i := mi) (by omega)) (by omega) dX12_fire_9 (fun hl_9 => ?_)
    refine gX12_244r (z := 1) hE hl_9 (hR.c9) (by omega) dX12_fire_12 (fun hl_12 => ?_)
    refine y_aload_n hE rfl 1 rfl dX12_fire_15 ?_
    refine gX12_89r (z := st) hE ht e0 (by omega) dX12_fire_16 (fun hl_16 => ?_)
    refine gX12_248r (z := (S 15 st)) hE hl_16 (hR.s1 (i := st) (by omega)) (by omega) dX12_fire_19 (fun hl_19 => ?_)
    refine y_iload_n hE rfl 2 rfl dX12_fire_22 ?_
    refine y_callVN hE (m_X1_blend S 1 (S 15 st) sh hR hl_5 hW hv0 (hnd) (by omega) hl_12 hl_19 (by omega)) q848 q850 qs6 q108 q851 (nA := 3) (by decide +kernel) rfl ⟨Nat.le_of_ble_eq_true rfl, Nat.le_of_ble_eq_true rfl⟩ (hdd := rfl) (hcc := rfl) (hq := rfl) (hi := hl_5) (rest := []) rfl (by decide) dX12_fire_23 (bc' := 0) (bs' := 0) (Nat.le_refl _) (Nat.le_refl _) (fun r_23 n_23 α_23 K_23 hx_23 hp_23 => ?_)
    obtain ⟨rfl, rfl, hk_23, hr_23⟩ := hp_23
    refine y_to (st' := []) rfl rfl rfl ?_
    refine y_iconst hE dX12_fire_26 ?_
    refine y_istore_n hE rfl [(3, .int (iI 0)), (0, .ref (α 12 mi)), (1, .ref (α 13 t)), (2, .int (iI sh))] (by decide) rfl dX12_fire_27 ?_
    have L28 : ∀ (fuel : Nat) (K2 : KS) (c : Int), (KF K K2 (fun k i f => k = 12 ∧ i = (mi) ∧ f = 8 ∨ k = 12 ∧ i = (mi) ∧ f = 9 ∨ k = 35 ∧ i = (mi) ∧ 0 ≤ f ∨ k = 34 ∧ i = 1 ∧ 0 ≤ f ∨ k = 13 ∧ i = (t) ∧ f = 3)) → (0 ≤ c ∧ c ≤ S 8 0) → (0 < sh) → (K2 13 t 3 = fr) → (MV (firC S st be fr (q1 * 1000000 + q2) sh (S 0 287) c.toNat) n K2 mi ta tb fa fb) → (∀ c : Int, 0 ≤ c → c < 12 → K2 34 1 c = wt S 4 (S 15 st) sh c) → (S 8 0 - c).toNat < fuel → Y x n α K2 0 0 28 [(3, .int (iI c)), (0, .ref (α 12 mi)), (1, .ref (α 13 t)), (2, .int (iI sh))] [] := by
      intro fuel28
      induction fuel28 with
      | zero => intro K2 c hk2 hk hs0 hf3 hV3 hwt hfu28; exact absurd hfu28 (Nat.not_lt_zero _)
      | succ fuel28 ih28 =>
        intro K2 c hk2 hk hs0 hf3 hV3 hwt hfu28
        have hl3 := firC_lo (st := st) (be := be) (fr := fr) (af := q1 * 1000000 + q2) (sh := sh) (tk := S 0 287) hev c.toNat
        have g3 : ∀ f : Nat, f ≠ 0 → (firC S st be fr (q1 * 1000000 + q2) sh (S 0 287) c.toNat) f = S f := fun f h => firC_f h _
        obtain ⟨S3, hS3⟩ : ∃ S3, S3 = (firC S st be fr (q1 * 1000000 + q2) sh (S 0 287) c.toNat) := ⟨_, rfl⟩
        rw [← hS3] at hV3 hl3 g3
        have hR3 : Rst S3 n K2 := (hR.kf hk2 hfoot).sg g3 (fun j j0 j1 => hl3.2.2 j (by omega))
        have hW3 : WFs S3 := hW.congr g3
        have hwm3 : 0 ≤ S3 0 21 ∧ S3 0 21 ≤ 24 := by rw [hl3.2.2 21 (by omega)]; exact hwm
        refine y_iload_n hE rfl 0 rfl dX12_fire_28 ?_
        refine y_aload_n hE rfl 1 rfl dX12_fire_29 ?_
        refine gX12_14r (z := 0) hE hlm ((hk2 12 mi 14 (by (try dsimp only); omega)).trans (hR.m14 (i := mi) (by omega))) (by omega) dX12_fire_30 (fun hl_30 => ?_)
        refine gX12_256r (z := 0) hE hl_30 ((hk2 1 0 1 (by (try dsimp only); omega)).trans (hR.c1)) (by omega) dX12_fire_33 (fun hl_33 => ?_)
        refine y_callV hE (m_J2_size 0 rfl hl_33) (lw_V q871 q669 q670 q111 q671) (nA := 0) (by decide +kernel) rfl ⟨Nat.le_of_ble_eq_true rfl, Nat.le_of_ble_eq_true rfl⟩ (hdd := rfl) (hcc := rfl) (hq := rfl) (hi := hl_33) (rest := [.int (iI c)]) rfl (by simp [refV_cat, Value.category]) dX12_fire_36 (bc' := 0) (bs' := 0) (Nat.le_refl _) (Nat.le_refl _) (fun r_36 n_36 α_36 K_36 hx_36 hp_36 => ?_)
        obtain ⟨rfl, rfl, rfl, hr_36⟩ := hp_36
        have e_36 : (S 8 0) = r_36 := Eq.symm (by rw [hr_36]; exact ((hk2 21 0 2 (by (try dsimp only); omega)).trans (hR.z21)))
        subst e_36
        refine y_to (st' := [.int (iI (S 8 0)), .int (iI c)]) rfl rfl rfl ?_
        refine y_icmp_ge hE 115 (by decide) (by omega) (by omega) dX12_fire_39 (fun c_39 => ?_) (fun c_39 => ?_)
        · refine y_lv [1, 2, 3] [(0, .ref (α 12 mi)), (1, .ref (α 13 t)), (2, .int (iI sh))] rfl ?_
          exact J115 K2 (hk2) (by first | (rw [if_neg (by omega)]; exact hV) | (rw [if_pos hs0]; unfold firS; rw [show S 8 0 = c by omega, ← hS3]; exact hV3))
        · have wl := hW.len c (by omega) (by omega)
          have hwc := hwt c (by omega) (by omega)
          have hwn := wt_nn hW hD 4 (S 15 st) sh c hnd
          have hwn2 := hwn.2 hsh.1
          have f0 : K2 13 t 0 = st := (hk2 13 t 0 (by (try dsimp only); omega)).trans e0
          have f1 : K2 13 t 1 = q1 := (hk2 13 t 1 (by (try dsimp only); omega)).trans e1
          have f2 : K2 13 t 2 = q2 := (hk2 13 t 2 (by (try dsimp only); omega)).trans e2
          have f4 : K2 13 t 4 = be := (hk2 13 t 4 (by (try dsimp only); omega)).trans e4
          refine y_aload_n hE rfl 1 rfl dX12_fire_42 ?_
          refine gX12_14r (z := 0) hE hlm ((hk2 12 mi 14 (by (try dsimp only); omega)).trans (hR.m14 (i := mi) (by omega))) (by omega) dX12_fire_43 (fun hl_43 => ?_)
          refine gX12_244r (z := 1) hE hl_43 ((hk2 1 0 9 (by (try dsimp only); omega)).trans (hR.c9)) (by omega) dX12_fire_46 (fun hl_46 => ?_)
          refine gX12_259r (z := 1) hE hl_46 ((hk2 3 1 0 (by (try dsimp only); omega)).trans (hR.b0 (i := 1) (by omega))) (by omega) dX12_fire_49 (fun hl_49 => ?_)
          refine y_iload_n hE rfl 0 rfl dX12_fire_52 ?_
          refine y_iald hE rfl hl_49 (by have hL : K2 34 1 (-1) = 12 := ((hk2 34 1 (-1) (by (try dsimp only); omega)).trans (hR.b34 (i := 1) (by omega))); omega) dX12_fire_53 ?_
          refine y_to (st' := [.int (iI (wt S 4 (S 15 st) sh c))]) rfl rfl (by rw [show K2 34 1 c = (wt S 4 (S 15 st) sh c) from hwc]) ?_
          refine y_if_le hE 109 (by decide) (by omega) dX12_fire_54 (fun c_54 => ?_) (fun c_54 => ?_)
          · refine y_iinc hE 0 rfl [(3, .int (iI (c + 1))), (0, .ref (α 12 mi)), (1, .ref (α 13 t)), (2, .int (iI sh))] (by decide) rfl dX12_fire_109 ?_
            refine y_goto hE 28 (by decide) dX12_fire_112 ?_
            exact ih28 K2 (c + 1) (hk2) (by omega) (by omega) (by first | exact hf3 | exact (hk_106 13 t 3 (by (try dsimp only); omega)).trans hf3) (by rw [firC_s (by omega), ← hS3]; first | (rw [if_neg (by unfold hrdI; rw [if_neg (by omega)]; omega)]; exact hV3) | (rw [if_pos (by unfold hrdI; rw [if_pos (by omega)])]; have z := hr_106; rw [hl3.2.1, g3 5 (by decide)] at z; exact z)) (by first | exact hwt | exact fun j j0 j1 => (hk_106 34 1 j (by (try dsimp only); omega)).trans (hwt j j0 j1)) (by omega)
          · refine y_aload_n hE rfl 1 rfl dX12_fire_57 ?_
            refine gX12_14r (z := 0) hE hlm ((hk2 12 mi 14 (by (try dsimp only); omega)).trans (hR.m14 (i := mi) (by omega))) (by omega) dX12_fire_58 (fun hl_58 => ?_)
            refine gX12_244r (z := 1) hE hl_58 ((hk2 1 0 9 (by (try dsimp only); omega)).trans (hR.c9)) (by omega) dX12_fire_61 (fun hl_61 => ?_)
            refine gX12_259r (z := 1) hE hl_61 ((hk2 3 1 0 (by (try dsimp only); omega)).trans (hR.b0 (i := 1) (by omega))) (by omega) dX12_fire_64 (fun hl_64 => ?_)
            refine y_iload_n hE rfl 0 rfl dX12_fire_67 ?_
            refine y_iald hE rfl hl_64 (by have hL : K2 34 1 (-1) = 12 := ((hk2 34 1 (-1) (by (try dsimp only); omega)).trans (hR.b34 (i := 1) (by omega))); omega) dX12_fire_68 ?_
            refine y_to (st' := [.int (iI (wt S 4 (S 15 st) sh c))]) rfl rfl (by rw [show K2 34 1 c = (wt S 4 (S 15 st) sh c) from hwc]) ?_
            refine y_i2l hE (by omega) dX12_fire_69 ?_
            refine y_ldc2 hE 100 (v := 100) (by decide) q2427 dX12_fire_70 ?_
            refine y_lmul hE dX12_fire_73 ?_
            refine y_aload_n hE rfl 1 rfl dX12_fire_74 ?_
            refine gX12_14r (z := 0) hE hlm ((hk2 12 mi 14 (by (try dsimp only); omega)).trans (hR.m14 (i := mi) (by omega))) (by omega) dX12_fire_75 (fun hl_75 => ?_)
            refine gX12_264 (z := (S 22 0)) hE hl_75 ((hk2 1 0 5 (by (try dsimp only); omega)).trans (hR.c5)) dX12_fire_78 ?_
            refine y_i2l hE (by omega) dX12_fire_81 ?_
            refine y_ldc2 hE 1000000 (v := 1000000) (by decide) q822 dX12_fire_82 ?_
            refine y_lmul hE dX12_fire_85 ?_
            refine y_lcmp_lt hE 109 (by decide) (by omega) (by omega) dX12_fire_86 dX12_fire_87 (fun c_86 => ?_) (fun c_86 => ?_)
            · refine y_iinc hE 0 rfl [(3, .int (iI (c + 1))), (0, .ref (α 12 mi)), (1, .ref (α 13 t)), (2, .int (iI sh))] (by decide) rfl dX12_fire_109 ?_
              refine y_goto hE 28 (by decide) dX12_fire_112 ?_
              exact ih28 K2 (c + 1) (hk2) (by omega) (by omega) (by first | exact hf3 | exact (hk_106 13 t 3 (by (try dsimp only); omega)).trans hf3) (by rw [firC_s (by omega), ← hS3]; first | (rw [if_neg (by unfold hrdI; rw [if_neg (by omega)]; omega)]; exact hV3) | (rw [if_pos (by unfold hrdI; rw [if_pos (by omega)])]; have z := hr_106; rw [hl3.2.1, g3 5 (by decide)] at z; exact z)) (by first | exact hwt | exact fun j j0 j1 => (hk_106 34 1 j (by (try dsimp only); omega)).trans (hwt j j0 j1)) (by omega)
            · refine y_aload_n hE rfl 1 rfl dX12_fire_90 ?_
              refine y_aload_n hE rfl 2 rfl dX12_fire_91 ?_
              refine y_aload_n hE rfl 1 rfl dX12_fire_92 ?_
              refine gX12_14r (z := 0) hE hlm ((hk2 12 mi 14 (by (try dsimp only); omega)).trans (hR.m14 (i := mi) (by omega))) (by omega) dX12_fire_93 (fun hl_93 => ?_)
              refine gX12_256r (z := 0) hE hl_93 ((hk2 1 0 1 (by (try dsimp only); omega)).trans (hR.c1)) (by omega) dX12_fire_96 (fun hl_96 => ?_)
              refine y_iload_n hE rfl 0 rfl dX12_fire_99 ?_
              refine y_callV hE (m_J2_get 21 51 6 0 c rfl rfl hl_96 (by have e1 : K2 21 0 1 = 0 := ((hk2 21 0 1 (by (try dsimp only); omega)).trans (hR.l21)); omega) (by have e1 : K2 21 0 1 = 0 := ((hk2 21 0 1 (by (try dsimp only); omega)).trans (hR.l21)); have e2 : K2 21 0 2 = (S 8 0) := ((hk2 21 0 2 (by (try dsimp only); omega)).trans (hR.z21)); have e3 : K2 51 0 (-1) = 12 := ((hk2 51 0 (-1) (by (try dsimp only); omega)).trans (hR.m21)); rw [e1, e2, e3]; omega) (by have e2 : K2 21 0 2 = (S 8 0) := ((hk2 21 0 2 (by (try dsimp only); omega)).trans (hR.z21)); rw [e2]; omega) (by have e1 : K2 21 0 1 = 0 := ((hk2 21 0 1 (by (try dsimp only); omega)).trans (hR.l21)); have e4 : K2 51 0 c = c := ((hk2 51 0 c (by (try dsimp only); omega)).trans (hR.c51 (i := c) (by omega))); rw [e1, e4]; omega)) (lw_V q823 q673 q674 q111 q675) (nA := 1) (by decide +kernel) rfl ⟨Nat.le_of_ble_eq_true rfl, Nat.le_of_ble_eq_true rfl⟩ (hdd := rfl) (hcc := rfl) (hq := rfl) (hi := hl_96) (rest := [.ref (α 13 t), .ref (α 12 mi)]) rfl (by simp [refV_cat, Value.category]) dX12_fire_100 (bc' := 0) (bs' := 0) (Nat.le_refl _) (Nat.le_refl _) (fun r_100 n_100 α_100 K_100 hx_100 hp_100 => ?_)
              obtain ⟨rfl, rfl, rfl, hr_100⟩ := hp_100
              have e_100 : c = r_100 := Eq.symm (by have e1 : K2 21 0 1 = 0 := ((hk2 21 0 1 (by (try dsimp only); omega)).trans (hR.l21)); have e4 : K2 51 0 c = c := ((hk2 51 0 c (by (try dsimp only); omega)).trans (hR.c51 (i := c) (by omega))); rw [hr_100.1, e1, e4])
              subst e_100
              refine y_to (st' := [refV α 6 c, .ref (α 13 t), .ref (α 12 mi)]) rfl rfl rfl ?_
              have hl_100 : (0 : Int) ≤ c ∧ c < n 6 := hr_100.2
              refine y_ref hl_100.1 ?_
              refine y_castE hE rfl rfl hl_100 q872 rfl dX12_fire_103 ?_
              refine y_callV hE (m_X12_fire_2 S3 mi ta tb fa fb t c st q1 q2 be fr (hR3) (hW3) hlm (hV3) (hwm3) (hl3.1) (by rw [hl3.2.1]; exact (hk2 12 mi 10 (by (try dsimp only); omega)).trans htk) ht (by rw [g3 19 (by decide)]; exact hst) (f0) (f1) (f2) (hf3) (f4) (b1) (b2) (b3) (b4) (by rw [g3 8 (by decide)]; omega)) (lw_V q2448 q2450 qs44 q145 q2451) (nA := 2) (by decide +kernel) rfl ⟨Nat.le_of_ble_eq_true rfl, Nat.le_of_ble_eq_true rfl⟩ (hdd := rfl) (hcc := rfl) (hq := rfl) (hi := hlm) (rest := []) rfl (by decide) dX12_fire_106 (bc' := 0) (bs' := 0) (Nat.le_refl _) (Nat.le_refl _) (fun r_106 n_106 α_106 K_106 hx_106 hp_106 => ?_)
              obtain ⟨rfl, rfl, hk_106, hr_106⟩ := hp_106
              refine y_to (st' := []) rfl rfl rfl ?_
              refine y_iinc hE 0 rfl [(3, .int (iI (c + 1))), (0, .ref (α 12 mi)), (1, .ref (α 13 t)), (2, .int (iI sh))] (by decide) rfl dX12_fire_109 ?_
              refine y_goto hE 28 (by decide) dX12_fire_112 ?_
              exact ih28 K_106 (c + 1) ((hk2.tr (KF.mono hk_106 (fun k i f z => by (try dsimp only at z ⊢); omega)))) (by omega) (by omega) (by first | exact hf3 | exact (hk_106 13 t 3 (by (try dsimp only); omega)).trans hf3) (by rw [firC_s (by omega), ← hS3]; first | (rw [if_neg (by unfold hrdI; rw [if_neg (by omega)]; omega)]; exact hV3) | (rw [if_pos (by unfold hrdI; rw [if_pos (by omega)])]; have z := hr_106; rw [hl3.2.1, g3 5 (by decide)] at z; exact z)) (by first | exact hwt | exact fun j j0 j1 => (hk_106 34 1 j (by (try dsimp only); omega)).trans (hwt j j0 j1)) (by omega)
    exact L28 _ K_23 0 ((KF.mono hk_23 (fun k i f z => by (try dsimp only at z ⊢); omega))) (by omega) (by omega) ((hk_23 13 t 3 (by (try dsimp only); omega)).trans e3) (hV.kf hk_23 (fun k i f z => by unfold MVd; (try dsimp only at z); omega)) (hr_23) (Nat.lt_succ_self _)
