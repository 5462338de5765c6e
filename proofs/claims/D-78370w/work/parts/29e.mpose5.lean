set_option linter.unusedVariables false
def eC (P : SP) (k : Int) : Int := match P[k.toNat]? with | some e => e.1 | none => 0
def eT (P : SP) (k : Int) : Int := match P[k.toNat]? with | some e => e.2.1 | none => 0
def eW (P : SP) (k : Int) : Int := match P[k.toNat]? with | some e => e.2.2 | none => 0
theorem PA.ats {P : SP} {m : Int} {fc ft fw : Int → Int} (h : PA P m fc ft fw) {k : Int} (hk : 0 ≤ k ∧ k < m) : fc k = eC P k ∧ ft k = eT P k ∧ fw k = eW P k := by
  obtain ⟨e, -, h1, h2⟩ := h.at hk
  unfold eC eT eW
  rw [h1]; exact h2
theorem e_in {P : SP} (h : EOk P) {k : Int} (hk : 0 ≤ k ∧ k < P.length) : 0 ≤ eC P k ∧ eC P k < 12 ∧ 0 ≤ eT P k ∧ eT P k < 500 ∧ 0 ≤ eW P k ∧ eW P k ≤ 1000000 := by
  have hl : k.toNat < P.length := by omega
  have := h _ (List.getElem_mem hl)
  unfold eC eT eW
  rw [List.getElem?_eq_getElem hl]
  exact this
def oPoseSize (S : SS) : Int × Int × SS := (0, ((poseS S).length : Int), S)
def oPoseClip (S : SS) (k : Int) : Int × Int × SS := if ¬ (0 ≤ k ∧ k < (poseS S).length) then (1, 0, S) else (0, eC (poseS S) k, S)
def oPoseTime (S : SS) (k : Int) : Int × Int × SS := if ¬ (0 ≤ k ∧ k < (poseS S).length) then (1, 0, S) else (0, eT (poseS S) k, S)
def oPoseWeight (S : SS) (k : Int) : Int × Int × SS := if ¬ (0 ≤ k ∧ k < (poseS S).length) then (1, 0, S) else (0, eW (poseS S) k, S)
set_option maxHeartbeats 4000000 in
set_option maxRecDepth 100000 in
theorem m_X4_poseSize {w : KW} {n : KN} {α : KA} {K : KS} (S : SS) (T : Int)  (h40 : (0 : Int) ≤ 0 ∧ 0 < n 4) (hM : MRep S n K) (hW : WFs S) (hX : WFm S 0 T) (hv0 : WFv S) : KM w yX4_poseSize cX4_poseSize 1 (some (.int)) { frames := 4, cells := 0, slots := 0, locals := 104 } (0, 0) [.ref (α 4 0)] n α K (fun r n' α' K' => n = n' ∧ α = α' ∧ (MRep (oPoseSize S).2.2 n K' ∧ KO K K' MK ∧ K' 4 0 25 = (oPoseSize S).1 ∧ r = (oPoseSize S).2.1)) := by
  refine y_start (by decide) (Nat.le_of_ble_eq_true rfl) (fun x hE hQ => ?_)
  have hw := hQ.2
  subst hw
  have hE : YE x cX4_poseSize RX4 (some (.int)) "poseSize" 1 { frames := 4, cells := 0, slots := 0, locals := 104 } := hE
  refine y_wk (fun hWK => ?_)
  have hn0 := hWK.1
  refine y_bud (bc' := 0) (bs' := 0) (Nat.le_refl _) (Nat.le_refl _) ?_
  refine y_to (lv' := [(0, .ref (α 4 0))]) (st' := []) rfl rfl rfl ?_
  have wpar := hW.par
  have wclips := hW.clips
  have wnodes := hW.nodes
  have wsts := hW.sts
  have wtrs := hW.trs
  have wthr := hW.thr
  have wtxt := hW.txt
  have xinn := hX.inn
  have xcuts := hX.cuts
  have xfro := hX.fro
  have xmany := hX.many
  have xevn := hX.evn
  have xtks := hX.tks
  simp only [Int.zero_add] at xinn xcuts xfro xmany xevn xtks
  obtain ⟨hpo, hpl⟩ := poseS_ok hW hX
  have hpe : EOk (poseS S) := PoseB.eok hW (x := 1000000) hpo (Int.le_refl _)
  refine y_aload_n hE rfl 0 rfl dX4_poseSize_0 ?_
  refine y_iconst hE dX4_poseSize_1 ?_
  refine pX4_94 hE h40 dX4_poseSize_2 ?_
  refine y_aload_n hE rfl 0 rfl dX4_poseSize_5 ?_
  have hz4 : (up3 K 4 0 25 0) 4 0 25 = 0 := by first | (simp [up3]; done) | (simp [up3]; assumption)
  refine y_callV hE (m_X4_poses S T h40 (MRep.t hM 25 (by decide) 0) (by assumption) (by assumption) (by assumption)) (lw_V q3048 q3050 qs76 q133 q3051) (nA := 0) (by decide +kernel) rfl ⟨Nat.le_of_ble_eq_true rfl, Nat.le_of_ble_eq_true rfl⟩ (hdd := rfl) (hcc := rfl) (hq := rfl) (hi := h40) (rest := []) rfl (by decide) dX4_poseSize_6 (bc' := 0) (bs' := 0) (Nat.le_refl _) (Nat.le_refl _) (fun r_6 n_6 α_6 K_6 hx_6 hp_6 => ?_)
  obtain ⟨rfl, rfl, hM_6, hk_6, hr_6⟩ := hp_6
  have hk4 := hr_6.2
  have hpm : K_6 4 0 40 = (poseS S).length := hr_6.1.1
  refine y_to (st' := []) rfl rfl rfl ?_
  refine y_aload_n hE rfl 0 rfl dX4_poseSize_9 ?_
  refine gX4_265 (z := K_6 4 0 40) hE h40 rfl dX4_poseSize_10 ?_
  refine y_iret hE rfl rfl hQ dX4_poseSize_13 Ext.rf ?_
  refine ⟨rfl, rfl, ?_⟩
  unfold oPoseSize
  exact ⟨hM_6, ((KO.up KO.rf (by unfold MK; decide)).tr (KO.mono hk_6 (fun k i z => by unfold MK; (try dsimp only at z); (try dsimp only); omega))), hk4.trans hz4, hpm⟩
set_option maxHeartbeats 4000000 in
set_option maxRecDepth 100000 in
theorem m_X4_hasEntry {w : KW} {n : KN} {α : KA} {K : KS} (S : SS) (T k : Int) (h40 : (0 : Int) ≤ 0 ∧ 0 < n 4) (hM : MRep S n K) (hW : WFs S) (hv0 : WFv S) (hX : WFm S 0 T) (hk : -2147483648 ≤ k ∧ k ≤ 2147483647) : KM w yX4_hasEntry cX4_hasEntry 2 (some (.boolean)) { frames := 4, cells := 0, slots := 0, locals := 104 } (0, 0) [.ref (α 4 0), .int (iI k)] n α K (fun r n' α' K' => n = n' ∧ α = α' ∧ MRep (S) n K' ∧ KO K K' (fun k i => k = 127 ∨ k = 128 ∨ k = 129 ∨ k = 137 ∨ k = 138 ∨ k = 139 ∨ k = 4) ∧ (RPm (poseS S) K' ∧ K' 4 0 25 = 0 ∧ (r = 1 ∧ (0 ≤ k ∧ k < (poseS S).length) ∨ r = 0 ∧ ¬ (0 ≤ k ∧ k < (poseS S).length)))) := by
  refine y_start (by decide) (Nat.le_of_ble_eq_true rfl) (fun x hE hQ => ?_)
  have hw := hQ.2
  subst hw
  have hE : YE x cX4_hasEntry RX4 (some (.boolean)) "hasEntry" 2 { frames := 4, cells := 0, slots := 0, locals := 104 } := hE
  refine y_wk (fun hWK => ?_)
  have hn0 := hWK.1
  refine y_bud (bc' := 0) (bs' := 0) (Nat.le_refl _) (Nat.le_refl _) ?_
  refine y_to (lv' := [(0, .ref (α 4 0)), (1, .int (iI k))]) (st' := []) rfl rfl rfl ?_
  have wpar := hW.par
  have wclips := hW.clips
  have wnodes := hW.nodes
  have wsts := hW.sts
  have wtrs := hW.trs
  have wthr := hW.thr
  have wtxt := hW.txt
  have xinn := hX.inn
  have xcuts := hX.cuts
  have xfro := hX.fro
  have xmany := hX.many
  have xevn := hX.evn
  have xtks := hX.tks
  simp only [Int.zero_add] at xinn xcuts xfro xmany xevn xtks
  obtain ⟨hpo, hpl⟩ := poseS_ok hW hX
  have hpe : EOk (poseS S) := PoseB.eok hW (x := 1000000) hpo (Int.le_refl _)
  refine y_aload_n hE rfl 0 rfl dX4_hasEntry_0 ?_
  refine y_iconst hE dX4_hasEntry_1 ?_
  refine pX4_94 hE h40 dX4_hasEntry_2 ?_
  refine y_aload_n hE rfl 0 rfl dX4_hasEntry_5 ?_
  have hz4 : (up3 K 4 0 25 0) 4 0 25 = 0 := by first | (simp [up3]; done) | (simp [up3]; assumption)
  refine y_callV hE (m_X4_poses S T h40 (MRep.t hM 25 (by decide) 0) (by assumption) (by assumption) (by assumption)) (lw_V q3048 q3050 qs76 q133 q3051) (nA := 0) (by decide +kernel) rfl ⟨Nat.le_of_ble_eq_true rfl, Nat.le_of_ble_eq_true rfl⟩ (hdd := rfl) (hcc := rfl) (hq := rfl) (hi := h40) (rest := []) rfl (by decide) dX4_hasEntry_6 (bc' := 0) (bs' := 0) (Nat.le_refl _) (Nat.le_refl _) (fun r_6 n_6 α_6 K_6 hx_6 hp_6 => ?_)
  obtain ⟨rfl, rfl, hM_6, hk_6, hr_6⟩ := hp_6
  have hk4 := hr_6.2
  have hpm : K_6 4 0 40 = (poseS S).length := hr_6.1.1
  refine y_to (st' := []) rfl rfl rfl ?_
  refine y_iload_n hE rfl 1 rfl dX4_hasEntry_9 ?_
  refine y_i2l hE (by omega) dX4_hasEntry_10 ?_
  refine y_lconst hE 0 (by decide) dX4_hasEntry_11 ?_
  refine y_aload_n hE rfl 0 rfl dX4_hasEntry_12 ?_
  refine gX4_265 (z := K_6 4 0 40) hE h40 rfl dX4_hasEntry_13 ?_
  refine y_iconst hE dX4_hasEntry_16 ?_
  refine y_isub hE dX4_hasEntry_17 ?_
  refine y_i2l hE (by omega) dX4_hasEntry_18 ?_
  refine y_callS hE (m_X4_in k 0 ((K_6 4 0 40) - 1) (by omega) (by omega) (by omega)) (lw_S q2868 q2869 q133 q2870) (nA := 3) (by decide +kernel) rfl ⟨Nat.le_of_ble_eq_true rfl, Nat.le_of_ble_eq_true rfl⟩ (rest := []) rfl (by decide) dX4_hasEntry_19 (bc' := 0) (bs' := 0) (Nat.le_refl _) (Nat.le_refl _) (fun r_19 n_19 α_19 K_19 hx_19 hp_19 => ?_)
  obtain ⟨rfl, rfl, rfl, hr_19⟩ := hp_19
  refine y_to (st' := [.int (iI r_19)]) rfl rfl rfl ?_
  exact y_iret hE rfl (nar_b (by omega)).1 hQ dX4_hasEntry_22 Ext.rf ⟨rfl, rfl, hM_6, ((KO.up KO.rf (by decide)).tr hk_6), hr_6.1, hk4.trans hz4, by omega⟩
set_option maxHeartbeats 4000000 in
set_option maxRecDepth 100000 in
theorem m_X4_poseClip {w : KW} {n : KN} {α : KA} {K : KS} (S : SS) (T : Int) (k : Int) (h40 : (0 : Int) ≤ 0 ∧ 0 < n 4) (hM : MRep S n K) (hW : WFs S) (hX : WFm S 0 T) (hv0 : WFv S) (hk : -2147483648 ≤ k ∧ k ≤ 2147483647) : KM w yX4_poseClip cX4_poseClip 2 (some (.int)) { frames := 5, cells := 0, slots := 0, locals := 125 } (0, 0) [.ref (α 4 0), .int (iI k)] n α K (fun r n' α' K' => n = n' ∧ α = α' ∧ (MRep (oPoseClip S k).2.2 n K' ∧ KO K K' MK ∧ K' 4 0 25 = (oPoseClip S k).1 ∧ r = (oPoseClip S k).2.1)) := by
  refine y_start (by decide) (Nat.le_of_ble_eq_true rfl) (fun x hE hQ => ?_)
  have hw := hQ.2
  subst hw
  have hE : YE x cX4_poseClip RX4 (some (.int)) "poseClip" 2 { frames := 5, cells := 0, slots := 0, locals := 125 } := hE
  refine y_wk (fun hWK => ?_)
  have hn0 := hWK.1
  refine y_bud (bc' := 0) (bs' := 0) (Nat.le_refl _) (Nat.le_refl _) ?_
  refine y_to (lv' := [(0, .ref (α 4 0)), (1, .int (iI k))]) (st' := []) rfl rfl rfl ?_
  have wpar := hW.par
  have wclips := hW.clips
  have wnodes := hW.nodes
  have wsts := hW.sts
  have wtrs := hW.trs
  have wthr := hW.thr
  have wtxt := hW.txt
  have xinn := hX.inn
  have xcuts := hX.cuts
  have xfro := hX.fro
  have xmany := hX.many
  have xevn := hX.evn
  have xtks := hX.tks
  simp only [Int.zero_add] at xinn xcuts xfro xmany xevn xtks
  obtain ⟨hpo, hpl⟩ := poseS_ok hW hX
  have hpe : EOk (poseS S) := PoseB.eok hW (x := 1000000) hpo (Int.le_refl _)
  refine y_aload_n hE rfl 0 rfl dX4_poseClip_0 ?_
  refine y_iload_n hE rfl 1 rfl dX4_poseClip_1 ?_
  refine y_callV hE (m_X4_hasEntry S T k h40 hM hW hv0 hX hk) (lw_V q3081 q3083 qs83 q133 q3084) (nA := 1) (by decide +kernel) rfl ⟨Nat.le_of_ble_eq_true rfl, Nat.le_of_ble_eq_true rfl⟩ (hdd := rfl) (hcc := rfl) (hq := rfl) (hi := h40) (rest := []) rfl (by decide) dX4_poseClip_2 (bc' := 0) (bs' := 0) (Nat.le_refl _) (Nat.le_refl _) (fun r_2 n_2 α_2 K_2 hx_2 hp_2 => ?_)
  obtain ⟨rfl, rfl, hM_2, hk_2, hr_2⟩ := hp_2
  obtain ⟨hR, hk4, hrr⟩ := hr_2
  have hpm : K_2 4 0 40 = (poseS S).length := hR.1
  refine y_to (st' := [.int (iI r_2)]) rfl rfl rfl ?_
  refine y_if_eq hE 17 (by decide) (by omega) dX4_poseClip_5 (fun c_5 => ?_) (fun c_5 => ?_)
  · refine y_aload_n hE rfl 0 rfl dX4_poseClip_17 ?_
    refine y_iconst hE dX4_poseClip_18 ?_
    refine y_callV hE (m_X4_fails 1 h40) (lw_V q2871 q2873 qs53 q133 q2874) (nA := 1) (by decide +kernel) rfl ⟨Nat.le_of_ble_eq_true rfl, Nat.le_of_ble_eq_true rfl⟩ (hdd := rfl) (hcc := rfl) (hq := rfl) (hi := h40) (rest := []) rfl (by decide) dX4_poseClip_19 (bc' := 0) (bs' := 0) (Nat.le_refl _) (Nat.le_refl _) (fun r_19 n_19 α_19 K_19 hx_19 hp_19 => ?_)
    obtain ⟨rfl, rfl, rfl, hr_19⟩ := hp_19
    refine y_to (st' := [.int (iI r_19)]) rfl rfl rfl ?_
    refine y_iret hE rfl rfl hQ dX4_poseClip_22 Ext.rf ?_
    refine ⟨rfl, rfl, ?_⟩
    unfold oPoseClip
    (repeat (first | rw [if_pos (by omega)] | rw [if_neg (by omega)]))
    exact ⟨(MRep.t hM_2 25 (by decide) 1), (KO.up (KO.mono hk_2 (fun k i z => by unfold MK; (try dsimp only at z); (try dsimp only); omega)) (by unfold MK; decide)), by first | exact hk4 | (simp [up3]; done), by first | rfl | exact hat | (dsimp only; omega)⟩
  · have hat := (PA.ats hR (k := k) (by omega)).1
    have hein := e_in hpe (k := k) (by omega)
    refine y_aload_n hE rfl 0 rfl dX4_poseClip_8 ?_
    refine gX4_82r (z := 0) hE h40 (MObj.r hM_2.1 37 (by decide)) (by omega) dX4_poseClip_9 (fun hl_9 => ?_)
    refine y_iload_n hE rfl 1 rfl dX4_poseClip_12 ?_
    refine y_iald hE rfl hl_9 (by have hL : K_2 137 0 (-1) = 72 := (MObj.l hM_2.1 37 (by decide)); omega) dX4_poseClip_13 ?_
    refine y_goto hE 22 (by decide) dX4_poseClip_14 ?_
    refine y_iret hE rfl rfl hQ dX4_poseClip_22 Ext.rf ?_
    refine ⟨rfl, rfl, ?_⟩
    unfold oPoseClip
    (repeat (first | rw [if_pos (by omega)] | rw [if_neg (by omega)]))
    exact ⟨hM_2, (KO.mono hk_2 (fun k i z => by unfold MK; (try dsimp only at z); (try dsimp only); omega)), by first | exact hk4 | (simp [up3]; done), by first | rfl | exact hat | (dsimp only; omega)⟩
set_option maxHeartbeats 4000000 in
set_option maxRecDepth 100000 in
theorem m_X4_poseTime {w : KW} {n : KN} {α : KA} {K : KS} (S : SS) (T : Int) (k : Int) (h40 : (0 : Int) ≤ 0 ∧ 0 < n 4) (hM : MRep S n K) (hW : WFs S) (hX : WFm S 0 T) (hv0 : WFv S) (hk : -2147483648 ≤ k ∧ k ≤ 2147483647) : KM w yX4_poseTime cX4_poseTime 2 (some (.int)) { frames := 5, cells := 0, slots := 0, locals := 125 } (0, 0) [.ref (α 4 0), .int (iI k)] n α K (fun r n' α' K' => n = n' ∧ α = α' ∧ (MRep (oPoseTime S k).2.2 n K' ∧ KO K K' MK ∧ K' 4 0 25 = (oPoseTime S k).1 ∧ r = (oPoseTime S k).2.1)) := by
  refine y_start (by decide) (Nat.le_of_ble_eq_true rfl) (fun x hE hQ => ?_)
  have hw := hQ.2
  subst hw
  have hE : YE x cX4_poseTime RX4 (some (.int)) "poseTime" 2 { frames := 5, cells := 0, slots := 0, locals := 125 } := hE
  refine y_wk (fun hWK => ?_)
  have hn0 := hWK.1
  refine y_bud (bc' := 0) (bs' := 0) (Nat.le_refl _) (Nat.le_refl _) ?_
  refine y_to (lv' := [(0, .ref (α 4 0)), (1, .int (iI k))]) (st' := []) rfl rfl rfl ?_
  have wpar := hW.par
  have wclips := hW.clips
  have wnodes := hW.nodes
  have wsts := hW.sts
  have wtrs := hW.trs
  have wthr := hW.thr
  have wtxt := hW.txt
  have xinn := hX.inn
  have xcuts := hX.cuts
  have xfro := hX.fro
  have xmany := hX.many
  have xevn := hX.evn
  have xtks := hX.tks
  simp only [Int.zero_add] at xinn xcuts xfro xmany xevn xtks
  obtain ⟨hpo, hpl⟩ := poseS_ok hW hX
  have hpe : EOk (poseS S) := PoseB.eok hW (x := 1000000) hpo (Int.le_refl _)
  refine y_aload_n hE rfl 0 rfl dX4_poseTime_0 ?_
  refine y_iload_n hE rfl 1 rfl dX4_poseTime_1 ?_
  refine y_callV hE (m_X4_hasEntry S T k h40 hM hW hv0 hX hk) (lw_V q3081 q3083 qs83 q133 q3084) (nA := 1) (by decide +kernel) rfl ⟨Nat.le_of_ble_eq_true rfl, Nat.le_of_ble_eq_true rfl⟩ (hdd := rfl) (hcc := rfl) (hq := rfl) (hi := h40) (rest := []) rfl (by decide) dX4_poseTime_2 (bc' := 0) (bs' := 0) (Nat.le_refl _) (Nat.le_refl _) (fun r_2 n_2 α_2 K_2 hx_2 hp_2 => ?_)
  obtain ⟨rfl, rfl, hM_2, hk_2, hr_2⟩ := hp_2
  obtain ⟨hR, hk4, hrr⟩ := hr_2
  have hpm : K_2 4 0 40 = (poseS S).length := hR.1
  refine y_to (st' := [.int (iI r_2)]) rfl rfl rfl ?_
  refine y_if_eq hE 17 (by decide) (by omega) dX4_poseTime_5 (fun c_5 => ?_) (fun c_5 => ?_)
  · refine y_aload_n hE rfl 0 rfl dX4_poseTime_17 ?_
    refine y_iconst hE dX4_poseTime_18 ?_
    refine y_callV hE (m_X4_fails 1 h40) (lw_V q2871 q2873 qs53 q133 q2874) (nA := 1) (by decide +kernel) rfl ⟨Nat.le_of_ble_eq_true rfl, Nat.le_of_ble_eq_true rfl⟩ (hdd := rfl) (hcc := rfl) (hq := rfl) (hi := h40) (rest := []) rfl (by decide) dX4_poseTime_19 (bc' := 0) (bs' := 0) (Nat.le_refl _) (Nat.le_refl _) (fun r_19 n_19 α_19 K_19 hx_19 hp_19 => ?_)
    obtain ⟨rfl, rfl, rfl, hr_19⟩ := hp_19
    refine y_to (st' := [.int (iI r_19)]) rfl rfl rfl ?_
    refine y_iret hE rfl rfl hQ dX4_poseTime_22 Ext.rf ?_
    refine ⟨rfl, rfl, ?_⟩
    unfold oPoseTime
    (repeat (first | rw [if_pos (by omega)] | rw [if_neg (by omega)]))
    exact ⟨(MRep.t hM_2 25 (by decide) 1), (KO.up (KO.mono hk_2 (fun k i z => by unfold MK; (try dsimp only at z); (try dsimp only); omega)) (by unfold MK; decide)), by first | exact hk4 | (simp [up3]; done), by first | rfl | exact hat | (dsimp only; omega)⟩
  · have hat := (PA.ats hR (k := k) (by omega)).2.1
    have hein := e_in hpe (k := k) (by omega)
    refine y_aload_n hE rfl 0 rfl dX4_poseTime_8 ?_
    refine gX4_85r (z := 0) hE h40 (MObj.r hM_2.1 38 (by decide)) (by omega) dX4_poseTime_9 (fun hl_9 => ?_)
    refine y_iload_n hE rfl 1 rfl dX4_poseTime_12 ?_
    refine y_iald hE rfl hl_9 (by have hL : K_2 138 0 (-1) = 72 := (MObj.l hM_2.1 38 (by decide)); omega) dX4_poseTime_13 ?_
    refine y_goto hE 22 (by decide) dX4_poseTime_14 ?_
    refine y_iret hE rfl rfl hQ dX4_poseTime_22 Ext.rf ?_
    refine ⟨rfl, rfl, ?_⟩
    unfold oPoseTime
    (repeat (first | rw [if_pos (by omega)] | rw [if_neg (by omega)]))
    exact ⟨hM_2, (KO.mono hk_2 (fun k i z => by unfold MK; (try dsimp only at z); (try dsimp only); omega)), by first | exact hk4 | (simp [up3]; done), by first | rfl | exact hat | (dsimp only; omega)⟩
set_option maxHeartbeats 4000000 in
set_option maxRecDepth 100000 in
theorem m_X4_poseWeight {w : KW} {n : KN} {α : KA} {K : KS} (S : SS) (T : Int) (k : Int) (h40 : (0 : Int) ≤ 0 ∧ 0 < n 4) (hM : MRep S n K) (hW : WFs S) (hX : WFm S 0 T) (hv0 : WFv S) (hk : -2147483648 ≤ k ∧ k ≤ 2147483647) : KM w yX4_poseWeight cX4_poseWeight 2 (some (.int)) { frames := 5, cells := 0, slots := 0, locals := 125 } (0, 0) [.ref (α 4 0), .int (iI k)] n α K (fun r n' α' K' => n = n' ∧ α = α' ∧ (MRep (oPoseWeight S k).2.2 n K' ∧ KO K K' MK ∧ K' 4 0 25 = (oPoseWeight S k).1 ∧ r = (oPoseWeight S k).2.1)) := by
  refine y_start (by decide) (Nat.le_of_ble_eq_true rfl) (fun x hE hQ => ?_)
  have hw := hQ.2
  subst hw
  have hE : YE x cX4_poseWeight RX4 (some (.int)) "poseWeight" 2 { frames := 5, cells := 0, slots := 0, locals := 125 } := hE
  refine y_wk (fun hWK => ?_)
  have hn0 := hWK.1
  refine y_bud (bc' := 0) (bs' := 0) (Nat.le_refl _) (Nat.le_refl _) ?_
  refine y_to (lv' := [(0, .ref (α 4 0)), (1, .int (iI k))]) (st' := []) rfl rfl rfl ?_
  have wpar := hW.par
  have wclips := hW.clips
  have wnodes := hW.nodes
  have wsts := hW.sts
  have wtrs := hW.trs
  have wthr := hW.thr
  have wtxt := hW.txt
  have xinn := hX.inn
  have xcuts := hX.cuts
  have xfro := hX.fro
  have xmany := hX.many
  have xevn := hX.evn
  have xtks := hX.tks
  simp only [Int.zero_add] at xinn xcuts xfro xmany xevn xtks
  obtain ⟨hpo, hpl⟩ := poseS_ok hW hX
  have hpe : EOk (poseS S) := PoseB.eok hW (x := 1000000) hpo (Int.le_refl _)
  refine y_aload_n hE rfl 0 rfl dX4_poseWeight_0 ?_
  refine y_iload_n hE rfl 1 rfl dX4_poseWeight_1 ?_
  refine y_callV hE (m_X4_hasEntry S T k h40 hM hW hv0 hX hk) (lw_V q3081 q3083 qs83 q133 q3084) (nA := 1) (by decide +kernel) rfl ⟨Nat.le_of_ble_eq_true rfl, Nat.le_of_ble_eq_true rfl⟩ (hdd := rfl) (hcc := rfl) (hq := rfl) (hi := h40) (rest := []) rfl (by decide) dX4_poseWeight_2 (bc' := 0) (bs' := 0) (Nat.le_refl _) (Nat.le_refl _) (fun r_2 n_2 α_2 K_2 hx_2 hp_2 => ?_)
  obtain ⟨rfl, rfl, hM_2, hk_2, hr_2⟩ := hp_2
  obtain ⟨hR, hk4, hrr⟩ := hr_2
  have hpm : K_2 4 0 40 = (poseS S).length := hR.1
  refine y_to (st' := [.int (iI r_2)]) rfl rfl rfl ?_
  refine y_if_eq hE 18 (by decide) (by omega) dX4_poseWeight_5 (fun c_5 => ?_) (fun c_5 => ?_)
  · refine y_aload_n hE rfl 0 rfl dX4_poseWeight_18 ?_
    refine y_iconst hE dX4_poseWeight_19 ?_
    refine y_callV hE (m_X4_fails 1 h40) (lw_V q2871 q2873 qs53 q133 q2874) (nA := 1) (by decide +kernel) rfl ⟨Nat.le_of_ble_eq_true rfl, Nat.le_of_ble_eq_true rfl⟩ (hdd := rfl) (hcc := rfl) (hq := rfl) (hi := h40) (rest := []) rfl (by decide) dX4_poseWeight_20 (bc' := 0) (bs' := 0) (Nat.le_refl _) (Nat.le_refl _) (fun r_20 n_20 α_20 K_20 hx_20 hp_20 => ?_)
    obtain ⟨rfl, rfl, rfl, hr_20⟩ := hp_20
    refine y_to (st' := [.int (iI r_20)]) rfl rfl rfl ?_
    refine y_iret hE rfl rfl hQ dX4_poseWeight_23 Ext.rf ?_
    refine ⟨rfl, rfl, ?_⟩
    unfold oPoseWeight
    (repeat (first | rw [if_pos (by omega)] | rw [if_neg (by omega)]))
    exact ⟨(MRep.t hM_2 25 (by decide) 1), (KO.up (KO.mono hk_2 (fun k i z => by unfold MK; (try dsimp only at z); (try dsimp only); omega)) (by unfold MK; decide)), by first | exact hk4 | (simp [up3]; done), by first | rfl | exact hat | (dsimp only; omega)⟩
  · have hat := (PA.ats hR (k := k) (by omega)).2.2
    have hein := e_in hpe (k := k) (by omega)
    refine y_aload_n hE rfl 0 rfl dX4_poseWeight_8 ?_
    refine gX4_88r (z := 0) hE h40 (MObj.r hM_2.1 39 (by decide)) (by omega) dX4_poseWeight_9 (fun hl_9 => ?_)
    refine y_iload_n hE rfl 1 rfl dX4_poseWeight_12 ?_
    refine y_lald hE rfl hl_9 (by have hL : K_2 139 0 (-1) = 72 := (MObj.l hM_2.1 39 (by decide)); omega) dX4_poseWeight_13 ?_
    refine y_l2i hE dX4_poseWeight_14 ?_
    refine y_goto hE 23 (by decide) dX4_poseWeight_15 ?_
    refine y_iret hE rfl rfl hQ dX4_poseWeight_23 Ext.rf ?_
    refine ⟨rfl, rfl, ?_⟩
    unfold oPoseWeight
    (repeat (first | rw [if_pos (by omega)] | rw [if_neg (by omega)]))
    exact ⟨hM_2, (KO.mono hk_2 (fun k i z => by unfold MK; (try dsimp only at z); (try dsimp only); omega)), by first | exact hk4 | (simp [up3]; done), by first | rfl | exact hat | (dsimp only; omega)⟩
