set_option linter.unusedVariables false
theorem crs_eq {z be fr q ag r : Int} (hz : 0 ≤ z ∧ z ≤ 1000000) (h : r = 1 ∧ (if ag = 0 then (if fr = 0 then be + 1 else be) ≤ z ∧ z ≤ q else z ≤ q ∧ (if fr = 0 then be + 1 else be) ≤ (q - z) / 1000000 * 1000000 + z) ∨ r = 0 ∧ ¬ (if ag = 0 then (if fr = 0 then be + 1 else be) ≤ z ∧ z ≤ q else z ≤ q ∧ (if fr = 0 then be + 1 else be) ≤ (q - z) / 1000000 * 1000000 + z)) : r = crossI z be fr q ag := by
  have el : (if fr ≠ 0 then be else be + 1) = (if fr = 0 then be + 1 else be) := by by_cases e : fr = 0 <;> simp [e]
  unfold crossI
  rw [el]
  generalize (if fr = 0 then be + 1 else be) = lo at h ⊢
  by_cases e : ag = 0
  · simp only [if_pos e] at h
    rw [if_neg (show ¬ (ag ≠ 0 ∧ lo > z) by omega)]
    split <;> omega
  · simp only [if_neg e] at h
    by_cases y : lo > z
    · rw [if_pos (show ag ≠ 0 ∧ lo > z from ⟨e, y⟩)]
      split <;> omega
    · rw [if_neg (show ¬ (ag ≠ 0 ∧ lo > z) by omega)]
      split <;> omega
/-- values and log don't touch the structure -/
theorem Rst.sg {S S' : SS} {n : KN} {K : KS} (h : Rst S n K) (he : ∀ f : Nat, f ≠ 0 → S' f = S f) (h0 : ∀ j : Int, 0 ≤ j → j < S 3 0 → S' 0 j = S 0 j) : Rst S' n K := by
  have e2 := he 2 (by decide); have e3 := he 3 (by decide); have e4 := he 4 (by decide); have e5 := he 5 (by decide); have e6 := he 6 (by decide); have e7 := he 7 (by decide)
  have e8 := he 8 (by decide); have e9 := he 9 (by decide); have e10 := he 10 (by decide); have e11 := he 11 (by decide); have e12 := he 12 (by decide); have e13 := he 13 (by decide)
  have e14 := he 14 (by decide); have e15 := he 15 (by decide); have e16 := he 16 (by decide); have e17 := he 17 (by decide); have e18 := he 18 (by decide); have e19 := he 19 (by decide)
  have e20 := he 20 (by decide); have e21 := he 21 (by decide); have e22 := he 22 (by decide); have e23 := he 23 (by decide); have e24 := he 24 (by decide)
  unfold Rst RepPar RepClip RepNode RepState RepTrans RepTr1 RepCtl at *
  simp only [e2, e3, e4, e5, e6, e7, e8, e9, e10, e11, e12, e13, e14, e15, e16, e17, e18, e19, e20, e21, e22, e23, e24]
  refine ⟨?_, h.2⟩
  obtain ⟨⟨a1, a2, a3, a4, a5, a6, a7, a8⟩, -⟩ := h
  exact ⟨a1, a2, a3, a4, a5, a6, a7, fun i i0 i1 => by rw [h0 i i0 i1]; exact a8 i i0 i1⟩
theorem firK_lo {S : SS} {c st be fr af tk : Int} (hev : 0 ≤ S 0 166 ∧ S 0 166 ≤ 30) : ∀ k : Nat, (0 ≤ firK S c st be fr af tk k 0 166 ∧ firK S c st be fr af tk k 0 166 ≤ 30) ∧ firK S c st be fr af tk k 0 287 = S 0 287 ∧ ∀ j : Int, j < 166 → firK S c st be fr af tk k 0 j = S 0 j
  | 0 => ⟨hev, rfl, fun _ _ => rfl⟩
  | k + 1 => by
    obtain ⟨h1, h2, h3⟩ := firK_lo (c := c) (st := st) (be := be) (fr := fr) (af := af) (tk := tk) hev k
    rw [firK]
    split
    · exact ⟨noteS_ev h1, by rw [(noteS_hi h1).2.2.1, h2], fun j hj => by rw [noteS_lo h1 hj, h3 j hj]⟩
    · exact ⟨h1, h2, h3⟩
set_option maxHeartbeats 4000000 in
set_option maxRecDepth 100000 in
theorem m_X12_fire_2 {w : KW} {n : KN} {α : KA} {K : KS} (S : SS) (mi ta tb fa fb : Int) (t c st q1 q2 be fr : Int) (hR : Rst S n K) (hW : WFs S) (hlm : 0 ≤ mi ∧ mi < n 12) (hV : MV S n K mi ta tb fa fb) (hwm : 0 ≤ S 0 21 ∧ S 0 21 ≤ 24) (hev : 0 ≤ S 0 166 ∧ S 0 166 ≤ 30) (htk : K 12 mi 10 = S 0 287) (ht : 0 ≤ t ∧ t < n 13) (hst : 0 ≤ st ∧ st < S 19 0) (e0 : K 13 t 0 = st) (e1 : K 13 t 1 = q1) (e2 : K 13 t 2 = q2) (e3 : K 13 t 3 = fr) (e4 : K 13 t 4 = be) (b1 : 0 ≤ q1 ∧ q1 ≤ 1000000000) (b2 : 0 ≤ q2 ∧ q2 ≤ 1000000) (b3 : fr = 0 ∨ fr = 1) (b4 : 0 ≤ be ∧ be ≤ 2000000000000000) (hc : 0 ≤ c ∧ c < S 8 0) : KM w yX12_fire_2 cX12_fire_2 5 none { frames := 3, cells := 0, slots := 0, locals := 64 } (3, 0) [.ref (α 12 mi), .ref (α 13 t), .ref (α 6 c)] n α K (fun r n' α' K' => n = n' ∧ α = α' ∧ KF K K' (fun k i f => k = 12 ∧ i = (mi) ∧ f = 8 ∨ k = 12 ∧ i = (mi) ∧ f = 9 ∨ k = 35 ∧ i = (mi) ∧ 0 ≤ f) ∧ (MV (firK S c st be fr (q1 * 1000000 + q2) (S 0 287) (S 5 c).toNat) n K' mi ta tb fa fb)) := by
  refine y_start (by decide) (Nat.le_of_ble_eq_true rfl) (fun x hE hQ => ?_)
  have hw := hQ.2
  subst hw
  have hE : YE x cX12_fire_2 RX12 none "fire" 5 { frames := 3, cells := 0, slots := 0, locals := 64 } := hE
  refine y_wk (fun hWK => ?_)
  have hn0 := hWK.1
  refine y_bud (bc' := 0) (bs' := 0) (Nat.le_refl _) (Nat.le_refl _) ?_
  refine y_to (lv' := [(0, .ref (α 12 mi)), (1, .ref (α 13 t)), (2, .ref (α 6 c))]) (st' := []) rfl rfl rfl ?_
  have hfoot : ∀ (k : Nat) (i f : Int), (fun k i f => k = 12 ∧ i = (mi) ∧ f = 8 ∨ k = 12 ∧ i = (mi) ∧ f = 9 ∨ k = 35 ∧ i = (mi) ∧ 0 ≤ f) k i f → ¬ SKd k f := fun k i f z => by unfold SKd; (try dsimp only at z); omega
  have wcl := hW.clips
  have n1 := hR.n1
  have n3 := hR.n3
  have n34 := hR.n34
  have n6 := hR.n6
  have n21 := hR.n21
  have n51 := hR.n51
  have n8 := hR.n8
  have n11 := hR.n11
  have wsts := hW.sts
  have wnodes := hW.nodes
  have va := hV.a
  have vb := hV.b
  have vs := hV.st
  have vl := hV.lg
  have n6 := hR.n6
  have n26 := hR.n26
  have n56 := hR.n56
  have hc6 : 0 ≤ c ∧ c < n 6 := by omega
  have ws := hW.st st hst.1 hst.2
  have wl := hW.len c hc.1 hc.2
  have wcl := hW.clips
  have wev := hW.evs c hc.1 (by omega)
  have n11 := hR.n11
  refine y_iconst hE dX12_fire_2_0 ?_
  refine y_istore_n hE rfl [(3, .int (iI 0)), (0, .ref (α 12 mi)), (1, .ref (α 13 t)), (2, .ref (α 6 c))] (by decide) rfl dX12_fire_2_1 ?_
  have L2 : ∀ (fuel : Nat) (K2 : KS) (k : Int), (KF K K2 (fun k i f => k = 12 ∧ i = (mi) ∧ f = 8 ∨ k = 12 ∧ i = (mi) ∧ f = 9 ∨ k = 35 ∧ i = (mi) ∧ 0 ≤ f)) → (0 ≤ k ∧ k ≤ S 5 c) → (MV (firK S c st be fr (q1 * 1000000 + q2) (S 0 287) k.toNat) n K2 mi ta tb fa fb) → (S 5 c - k).toNat < fuel → Y x n α K2 0 0 2 [(3, .int (iI k)), (0, .ref (α 12 mi)), (1, .ref (α 13 t)), (2, .ref (α 6 c))] [] := by
    intro fuel2
    induction fuel2 with
    | zero => intro K2 k hk2 hk hV3 hfu2; exact absurd hfu2 (Nat.not_lt_zero _)
    | succ fuel2 ih2 =>
      intro K2 k hk2 hk hV3 hfu2
      have hl3 := firK_lo (c := c) (st := st) (be := be) (fr := fr) (af := q1 * 1000000 + q2) (tk := S 0 287) hev k.toNat
      have g3 : ∀ f : Nat, f ≠ 0 → (firK S c st be fr (q1 * 1000000 + q2) (S 0 287) k.toNat) f = S f := fun f h => firK_f h _
      obtain ⟨S3, hS3⟩ : ∃ S3, S3 = (firK S c st be fr (q1 * 1000000 + q2) (S 0 287) k.toNat) := ⟨_, rfl⟩
      rw [← hS3] at hV3 hl3 g3
      have wpa := hW.1
      have hR3 : Rst S3 n K2 := (hR.kf hk2 hfoot).sg g3 (fun j j0 j1 => hl3.2.2 j (by omega))
      have hW3 : WFs S3 := hW.congr g3
      have hwm3 : 0 ≤ S3 0 21 ∧ S3 0 21 ≤ 24 := by rw [hl3.2.2 21 (by omega)]; exact hwm
      refine y_iload_n hE rfl 0 rfl dX12_fire_2_2 ?_
      refine y_aload_n hE rfl 3 rfl dX12_fire_2_3 ?_
      refine gX12_275r (z := c) hE hc6 ((hk2 6 c 2 (by (try dsimp only); omega)).trans (hR.c62 (i := c) (by omega))) (by omega) dX12_fire_2_4 (fun hl_4 => ?_)
      refine y_callV hE (m_J2_size c rfl hl_4) (lw_V q871 q669 q670 q111 q671) (nA := 0) (by decide +kernel) rfl ⟨Nat.le_of_ble_eq_true rfl, Nat.le_of_ble_eq_true rfl⟩ (hdd := rfl) (hcc := rfl) (hq := rfl) (hi := hl_4) (rest := [.int (iI k)]) rfl (by simp [refV_cat, Value.category]) dX12_fire_2_7 (bc' := 0) (bs' := 0) (Nat.le_refl _) (Nat.le_refl _) (fun r_7 n_7 α_7 K_7 hx_7 hp_7 => ?_)
      obtain ⟨rfl, rfl, rfl, hr_7⟩ := hp_7
      have e_7 : (S 5 c) = r_7 := Eq.symm (by rw [hr_7]; exact ((hk2 26 c 2 (by (try dsimp only); omega)).trans (hR.c262 (i := c) (by omega))))
      subst e_7
      refine y_to (st' := [.int (iI (S 5 c)), .int (iI k)]) rfl rfl rfl ?_
      refine y_icmp_ge hE 76 (by decide) (by omega) (by omega) dX12_fire_2_10 (fun c_10 => ?_) (fun c_10 => ?_)
      · exact y_vret (r := 0) hE rfl hQ dX12_fire_2_76 Ext.rf ⟨rfl, rfl, hk2, by rw [show S 5 c = k by omega, ← hS3]; exact hV3⟩
      · have hve := hR.ev (i := c) hc (j := k) (by omega)
        have hvn : 0 ≤ K2 56 c k := by rw [hk2 56 c k (by (try dsimp only); omega)]; exact hve.1
        have we := hW.evt c k hc.1 hc.2 (by omega) (by omega)
        have f0 : K2 13 t 0 = st := (hk2 13 t 0 (by (try dsimp only); omega)).trans e0
        have f1 : K2 13 t 1 = q1 := (hk2 13 t 1 (by (try dsimp only); omega)).trans e1
        have f2 : K2 13 t 2 = q2 := (hk2 13 t 2 (by (try dsimp only); omega)).trans e2
        have f3 : K2 13 t 3 = fr := (hk2 13 t 3 (by (try dsimp only); omega)).trans e3
        have f4 : K2 13 t 4 = be := (hk2 13 t 4 (by (try dsimp only); omega)).trans e4
        have fl : K2 11 st 3 = S 17 st := (hk2 11 st 3 (by (try dsimp only); omega)).trans (hR.s3 (i := st) hst)
        have hz0 : 0 ≤ (S 6 (5 * c + k) * 1000000 / S 4 c) := Int.ediv_nonneg (by omega) (by omega)
        have hz1 : (S 6 (5 * c + k) * 1000000 / S 4 c) ≤ 1000000 := Int.ediv_le_of_le_mul (by omega) (by omega)
        have hx01 := crossI_01 (S 6 (5 * c + k) * 1000000 / S 4 c) be fr (q1 * 1000000 + q2) (S 17 st)
        refine y_aload_n hE rfl 3 rfl dX12_fire_2_13 ?_
        refine gX12_275r (z := c) hE hc6 ((hk2 6 c 2 (by (try dsimp only); omega)).trans (hR.c62 (i := c) (by omega))) (by omega) dX12_fire_2_14 (fun hl_14 => ?_)
        refine y_iload_n hE rfl 0 rfl dX12_fire_2_17 ?_
        refine y_callV hE (m_J2_get 26 56 7 c k rfl rfl hl_14 (by have e1 : K2 26 c 1 = c := ((hk2 26 c 1 (by (try dsimp only); omega)).trans (hR.c261 (i := c) (by omega))); omega) (by have e1 : K2 26 c 1 = c := ((hk2 26 c 1 (by (try dsimp only); omega)).trans (hR.c261 (i := c) (by omega))); have e2 : K2 26 c 2 = (S 5 c) := ((hk2 26 c 2 (by (try dsimp only); omega)).trans (hR.c262 (i := c) (by omega))); have e3 : K2 56 c (-1) = 5 := ((hk2 56 c (-1) (by (try dsimp only); omega)).trans (hR.c56 (i := c) (by omega))); rw [e1, e2, e3]; omega) (by have e2 : K2 26 c 2 = (S 5 c) := ((hk2 26 c 2 (by (try dsimp only); omega)).trans (hR.c262 (i := c) (by omega))); rw [e2]; omega) (by have e1 : K2 26 c 1 = c := ((hk2 26 c 1 (by (try dsimp only); omega)).trans (hR.c261 (i := c) (by omega))); have e4 : K2 56 c k = K 56 c k := ((hk2 56 c k (by (try dsimp only); omega)).trans rfl); rw [e1, e4]; omega)) (lw_V q823 q673 q674 q111 q675) (nA := 1) (by decide +kernel) rfl ⟨Nat.le_of_ble_eq_true rfl, Nat.le_of_ble_eq_true rfl⟩ (hdd := rfl) (hcc := rfl) (hq := rfl) (hi := hl_14) (rest := []) rfl (by decide) dX12_fire_2_18 (bc' := 0) (bs' := 0) (Nat.le_refl _) (Nat.le_refl _) (fun r_18 n_18 α_18 K_18 hx_18 hp_18 => ?_)
        obtain ⟨rfl, rfl, rfl, hr_18⟩ := hp_18
        have e_18 : K 56 c k = r_18 := Eq.symm (by have e1 : K2 26 c 1 = c := ((hk2 26 c 1 (by (try dsimp only); omega)).trans (hR.c261 (i := c) (by omega))); have e4 : K2 56 c k = K 56 c k := ((hk2 56 c k (by (try dsimp only); omega)).trans rfl); rw [hr_18.1, e1, e4])
        subst e_18
        refine y_to (st' := [refV α 7 (K 56 c k)]) rfl rfl rfl ?_
        have hl_18 : (0 : Int) ≤ K 56 c k ∧ K 56 c k < n 7 := hr_18.2
        refine y_ref hl_18.1 ?_
        refine y_castE hE rfl rfl hl_18 q2452 rfl dX12_fire_2_21 ?_
        refine y_astore hE [(4, .ref (α 7 (K 56 c k))), (3, .int (iI k)), (0, .ref (α 12 mi)), (1, .ref (α 13 t)), (2, .ref (α 6 c))] (by decide) rfl dX12_fire_2_24 ?_
        refine y_aload_n hE rfl 3 rfl dX12_fire_2_26 ?_
        refine y_aload hE 0 rfl dX12_fire_2_27 ?_
        refine gX12_279 (z := (S 6 (5 * c + k))) hE hl_18 ((hk2 7 (K 56 c k) 0 (by (try dsimp only); omega)).trans hve.2.1) dX12_fire_2_29 ?_
        refine y_i2l hE (by omega) dX12_fire_2_32 ?_
        refine y_ldc2 hE 1000000 (v := 1000000) (by decide) q822 dX12_fire_2_33 ?_
        refine y_aload_n hE rfl 4 rfl dX12_fire_2_36 ?_
        refine gX12_282 (z := (S 4 c)) hE hc6 ((hk2 6 c 1 (by (try dsimp only); omega)).trans (hR.c61 (i := c) (by omega))) dX12_fire_2_37 ?_
        refine y_i2l hE (by omega) dX12_fire_2_40 ?_
        refine y_callSN hE (m_X1_share (S 6 (5 * c + k)) 1000000 (S 4 c) (by omega) (by omega)) q825 q826 q108 q827 (nA := 3) (by decide +kernel) rfl ⟨Nat.le_of_ble_eq_true rfl, Nat.le_of_ble_eq_true rfl⟩ (rest := [.ref (α 13 t)]) rfl (by simp [refV_cat, Value.category]) dX12_fire_2_41 (bc' := 0) (bs' := 0) (Nat.le_refl _) (Nat.le_refl _) (fun r_41 n_41 α_41 K_41 hx_41 hp_41 => ?_)
        obtain ⟨rfl, rfl, rfl, hr_41⟩ := hp_41
        refine y_to (st' := [.int (iI r_41), .ref (α 13 t)]) rfl rfl rfl ?_
        refine y_callV hE (m_X13_passed t r_41 ht (by rw [f1]; exact b1) (by rw [f2]; exact b2) (by rw [f4]; exact b4) (by rw [f3]; exact b3) (by rw [f0]; exact hst.1) (by rw [f0, fl]; omega) (by omega)) (lw_V q2453 q2454 q2455 q146 q2456) (nA := 1) (by decide +kernel) rfl ⟨Nat.le_of_ble_eq_true rfl, Nat.le_of_ble_eq_true rfl⟩ (hdd := rfl) (hcc := rfl) (hq := rfl) (hi := ht) (rest := []) rfl (by decide) dX12_fire_2_44 (bc' := 0) (bs' := 0) (Nat.le_refl _) (Nat.le_refl _) (fun r_44 n_44 α_44 K_44 hx_44 hp_44 => ?_)
        obtain ⟨rfl, rfl, rfl, hr_44⟩ := hp_44
        have e_44 : (crossI (S 6 (5 * c + k) * 1000000 / S 4 c) be fr (q1 * 1000000 + q2) (S 17 st)) = r_44 := Eq.symm (by have z := hr_44; rw [f0, f1, f2, f3, f4, fl, hr_41] at z; exact crs_eq ⟨hz0, hz1⟩ z)
        subst e_44
        refine y_to (st' := [.int (iI (crossI (S 6 (5 * c + k) * 1000000 / S 4 c) be fr (q1 * 1000000 + q2) (S 17 st)))]) rfl rfl rfl ?_
        refine y_if_eq hE 70 (by decide) (by omega) dX12_fire_2_47 (fun c_47 => ?_) (fun c_47 => ?_)
        · refine y_iinc hE 1 rfl [(3, .int (iI (k + 1))), (4, .ref (α 7 (K 56 c k))), (0, .ref (α 12 mi)), (1, .ref (α 13 t)), (2, .ref (α 6 c))] (by decide) rfl dX12_fire_2_70 ?_
          refine y_goto hE 2 (by decide) dX12_fire_2_73 ?_
          refine y_lv [0, 2, 3, 4] [(3, .int (iI (k + 1))), (0, .ref (α 12 mi)), (1, .ref (α 13 t)), (2, .ref (α 6 c))] rfl ?_
          exact ih2 K2 (k + 1) (hk2) (by omega) (by rw [firK_s (by omega), ← hS3, g3 6 (by decide), g3 4 (by decide), g3 17 (by decide), g3 7 (by decide)]; first | (rw [if_neg (by omega)]; exact hV3) | (rw [if_pos (by omega), ← hl3.2.1]; exact hr_67)) (by omega)
        · refine y_aload_n hE rfl 2 rfl dX12_fire_2_50 ?_
          refine y_aload hE 0 rfl dX12_fire_2_51 ?_
          refine gX12_288 (z := (S 7 (5 * c + k))) hE hl_18 ((hk2 7 (K 56 c k) 1 (by (try dsimp only); omega)).trans hve.2.2) dX12_fire_2_53 ?_
          refine y_aload_n hE rfl 4 rfl dX12_fire_2_56 ?_
          refine gX12_291 (z := c) hE hc6 ((hk2 6 c 0 (by (try dsimp only); omega)).trans (hR.c60 (i := c) (by omega))) dX12_fire_2_57 ?_
          refine y_aload_n hE rfl 3 rfl dX12_fire_2_60 ?_
          refine gX12_89r (z := st) hE ht ((hk2 13 t 0 (by (try dsimp only); omega)).trans e0) (by omega) dX12_fire_2_61 (fun hl_61 => ?_)
          refine gX12_294 (z := st) hE hl_61 ((hk2 11 st 0 (by (try dsimp only); omega)).trans (hR.s0 (i := st) (by omega))) dX12_fire_2_64 ?_
          refine y_callV hE (m_X12_note S3 mi ta tb fa fb (S 7 (5 * c + k)) c st (hR3) (hW3) hlm (hV3) (hwm3) (hl3.1) (by rw [hl3.2.1]; exact (hk2 12 mi 10 (by (try dsimp only); omega)).trans htk)) (lw_V q2458 q2460 qs45 q145 q2461) (nA := 3) (by decide +kernel) rfl ⟨Nat.le_of_ble_eq_true rfl, Nat.le_of_ble_eq_true rfl⟩ (hdd := rfl) (hcc := rfl) (hq := rfl) (hi := hlm) (rest := []) rfl (by decide) dX12_fire_2_67 (bc' := 0) (bs' := 0) (Nat.le_refl _) (Nat.le_refl _) (fun r_67 n_67 α_67 K_67 hx_67 hp_67 => ?_)
          obtain ⟨rfl, rfl, hk_67, hr_67⟩ := hp_67
          refine y_to (st' := []) rfl rfl rfl ?_
          refine y_iinc hE 1 rfl [(3, .int (iI (k + 1))), (4, .ref (α 7 (K 56 c k))), (0, .ref (α 12 mi)), (1, .ref (α 13 t)), (2, .ref (α 6 c))] (by decide) rfl dX12_fire_2_70 ?_
          refine y_goto hE 2 (by decide) dX12_fire_2_73 ?_
          refine y_lv [0, 2, 3, 4] [(3, .int (iI (k + 1))), (0, .ref (α 12 mi)), (1, .ref (α 13 t)), (2, .ref (α 6 c))] rfl ?_
          exact ih2 K_67 (k + 1) ((hk2.tr (KF.mono hk_67 (fun k i f z => by (try dsimp only at z ⊢); omega)))) (by omega) (by rw [firK_s (by omega), ← hS3, g3 6 (by decide), g3 4 (by decide), g3 17 (by decide), g3 7 (by decide)]; first | (rw [if_neg (by omega)]; exact hV3) | (rw [if_pos (by omega), ← hl3.2.1]; exact hr_67)) (by omega)
  exact L2 _ K 0 (KF.rf) (by omega) (hV) (Nat.lt_succ_self _)
