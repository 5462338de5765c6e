set_option linter.unusedVariables false
theorem RPm.ko {P : SP} {K K' : KS} {Q : Nat → Int → Prop} (h : RPm P K) (hk : KO K K' Q) (h1 : ¬ Q 4 0) (h2 : ¬ Q 137 0) (h3 : ¬ Q 138 0) (h4 : ¬ Q 139 0) : RPm P K' :=
  PA.congr h (hk 4 0 h1 40) (fun j _ _ => ⟨hk 137 0 h2 j, hk 138 0 h3 j, hk 139 0 h4 j⟩)
/-- a pose with a bound of its weight -/
def PoseB (S : SS) (P : SP) (x : Int) : Prop := P.Pairwise lexLt ∧ (∀ e ∈ P, 0 ≤ e.1 ∧ e.1 < S 8 0 ∧ 0 ≤ e.2.1 ∧ e.2.1 < 500 ∧ 0 < e.2.2) ∧ sumW P ≤ x
theorem PoseB.nil {S : SS} {x : Int} (h : 0 ≤ x) : PoseB S [] x := ⟨List.Pairwise.nil, fun e he => absurd he (List.not_mem_nil), h⟩
theorem PoseB.mono {S : SS} {P : SP} {x y : Int} (h : PoseB S P x) (hx : x ≤ y) : PoseB S P y := ⟨h.1, h.2.1, Int.le_trans h.2.2 hx⟩
theorem sumW_le : ∀ (P : SP), (∀ e ∈ P, 0 < e.2.2) → 0 ≤ sumW P ∧ ∀ e ∈ P, e.2.2 ≤ sumW P
  | [], _ => ⟨Int.le_refl _, fun e he => absurd he (List.not_mem_nil)⟩
  | e :: P, h => by
    obtain ⟨h1, h2⟩ := sumW_le P (fun x hx => h x (List.mem_cons_of_mem _ hx))
    have h3 := h e (List.mem_cons_self ..)
    have e1 : sumW (e :: P) = e.2.2 + sumW P := by unfold sumW; rw [List.map_cons, List.sum_cons]
    rw [e1]
    refine ⟨by omega, fun x hx => ?_⟩
    rcases List.mem_cons.mp hx with rfl | hx
    · omega
    · have := h2 x hx; omega
theorem PoseB.eok {S : SS} (hW : WFs S) {P : SP} {x : Int} (h : PoseB S P x) (hx : x ≤ 1000000) : EOk P := fun e he => by
  have h1 := h.2.1 e he
  have h2 := (sumW_le P (fun y hy => (h.2.1 y hy).2.2.2.2)).2 e he
  have h3 := h.2.2
  have h4 := hW.clips
  omega
theorem PoseB.ins {S : SS} {P : SP} {x c t w : Int} (h : PoseB S P x) (hc : 0 ≤ c ∧ c < S 8 0) (ht : 0 ≤ t ∧ t < 500) (hw : 0 < w) : PoseB S (insP P c t w) (x + w) := by
  refine ⟨insP_ord P h.1, fun e he => ?_, by rw [insP_sum]; have := h.2.2; omega⟩
  rcases insP_mem P e he with hq | rfl | ⟨e0, hq, rfl⟩
  · exact h.2.1 e hq
  · exact ⟨hc.1, hc.2, ht.1, ht.2, hw⟩
  · have := h.2.1 e0 hq
    exact ⟨hc.1, hc.2, ht.1, ht.2, by dsimp only; omega⟩
/-- a track's entries are added to a pose, of the first k clips -/
def trkP (S : SS) (i ph w : Int) (P : SP) : Nat → SP
  | 0 => P
  | k + 1 => if wt S 4 i w k > 0 then insP (trkP S i ph w P k) k (min (S 4 k - 1) (ph * S 4 k / 1000000)) (wt S 4 i w k) else trkP S i ph w P k
theorem trkP_s {S : SS} {i ph w : Int} {P : SP} {k : Int} (h : 0 ≤ k) : trkP S i ph w P (k + 1).toNat = if wt S 4 i w k > 0 then insP (trkP S i ph w P k.toNat) k (min (S 4 k - 1) (ph * S 4 k / 1000000)) (wt S 4 i w k) else trkP S i ph w P k.toNat := by
  rw [show (k + 1).toNat = k.toNat + 1 by omega, trkP, show ((k.toNat : Nat) : Int) = k by omega]
theorem time_in {S : SS} (hW : WFs S) {c ph : Int} (hc : 0 ≤ c ∧ c < S 8 0) (hp : 0 ≤ ph) : 0 ≤ min (S 4 c - 1) (ph * S 4 c / 1000000) ∧ min (S 4 c - 1) (ph * S 4 c / 1000000) < 500 := by
  have h1 := hW.len c hc.1 hc.2
  have h2 : 0 ≤ ph * S 4 c / 1000000 := Int.ediv_nonneg (Int.mul_nonneg hp (by omega)) (by omega)
  omega
theorem trkP_ok {S : SS} (hW : WFs S) {i ph w x : Int} {P : SP} (hi : NdOk S i) (hp : 0 ≤ ph) (hP : PoseB S P x) : ∀ k : Nat, (k : Int) ≤ S 8 0 → PoseB S (trkP S i ph w P k) (x + sumTo (wt S 4 i w) k) ∧ (trkP S i ph w P k).length ≤ P.length + cntP (wt S 4 i w) k
  | 0, _ => ⟨by rw [trkP, sumTo, Int.add_zero]; exact hP, by rw [trkP, cntP]; omega⟩
  | k + 1, hk => by
    obtain ⟨D, hD⟩ : ∃ D, DOk S D := hW.dep
    obtain ⟨h1, h2⟩ := trkP_ok hW (w := w) hi hp hP k (by omega)
    have hn := (wt_nn hW hD 4 i w k hi).1
    rw [trkP, sumTo, cntP]
    by_cases e : wt S 4 i w k > 0
    · rw [if_pos e]
      have hl := (insP_len (c := k) (t := min (S 4 k - 1) (ph * S 4 k / 1000000)) (w := wt S 4 i w k) (trkP S i ph w P k)).2
      refine ⟨?_, by omega⟩
      rw [← Int.add_assoc]
      exact h1.ins ⟨by omega, by omega⟩ (time_in hW ⟨by omega, by omega⟩ hp) e
    · rw [if_neg e]
      exact ⟨h1.mono (by omega), by omega⟩
theorem cntP_mono {g : Int → Int} {k : Nat} : ∀ d : Nat, cntP g k ≤ cntP g (k + d)
  | 0 => Int.le_refl _
  | d + 1 => by have := cntP_mono (g := g) (k := k) d; rw [show k + (d + 1) = k + d + 1 by omega, cntP]; split <;> omega
theorem trkP_fin {S : SS} (hW : WFs S) {i ph w x : Int} {P : SP} (hi : NdOk S i) (hp : 0 ≤ ph) (hw : 0 ≤ w) (hP : PoseB S P x) {k : Int} (hk : 0 ≤ k ∧ k ≤ S 8 0) : PoseB S (trkP S i ph w P k.toNat) (x + w) ∧ (trkP S i ph w P k.toNat).length ≤ P.length + 8 := by
  obtain ⟨D, hD⟩ : ∃ D, DOk S D := hW.dep
  obtain ⟨h1, h2⟩ := trkP_ok hW (w := w) hi hp hP k.toNat (by omega)
  have hcl := hW.clips
  have a := sumTo_mono (g := wt S 4 i w) (fun j => (wt_nn hW hD 4 i w j hi).1) (k := k.toNat) (12 - k.toNat)
  have b := cntP_mono (g := wt S 4 i w) (k := k.toNat) (12 - k.toNat)
  rw [show k.toNat + (12 - k.toNat) = 12 by omega] at a b
  have c := wt_sum hW hD 4 i w hi hw
  have d := wt_cnt (S := S) 4 i w
  have e : e2 4 = 8 := by decide
  exact ⟨h1.mono (by omega), by omega⟩
set_option maxHeartbeats 4000000 in
set_option maxRecDepth 100000 in
theorem m_X4_addsTrack {w : KW} {n : KN} {α : KA} {K : KS} (S : SS) (P : SP) (a wg : Int) (h40 : (0 : Int) ≤ 0 ∧ 0 < n 4) (hM : MRep S n K) (hW : WFs S) (hv0 : WFv S) (hP : RPm P K) (hB : PoseB S P (1000000 - wg)) (hl : P.length ≤ 60) (ha : 0 ≤ a ∧ a + 2 < 1160) (hs : 0 ≤ S 0 a ∧ S 0 a < S 19 0) (hph : 0 ≤ S 0 (a + 2) ∧ S 0 (a + 2) ≤ 1000000) (hw : 0 ≤ wg ∧ wg ≤ 1000000) : KM w yX4_addsTrack cX4_addsTrack 7 none { frames := 2, cells := 0, slots := 0, locals := 56 } (3, 0) [.ref (α 4 0), .int (iI a), .long (iL wg)] n α K (fun r n' α' K' => n = n' ∧ α = α' ∧ MRep (S) n K' ∧ KO K K' (fun k i => k = 127 ∨ k = 128 ∨ k = 129 ∨ k = 137 ∨ k = 138 ∨ k = 139 ∨ k = 4) ∧ (RPm (trkP S (S 15 (S 0 a)) (S 0 (a + 2)) wg P (S 8 0).toNat) K' ∧ K' 4 0 25 = K 4 0 25)) := by
  refine y_start (by decide) (Nat.le_of_ble_eq_true rfl) (fun x hE hQ => ?_)
  have hw := hQ.2
  subst hw
  have hE : YE x cX4_addsTrack RX4 none "addsTrack" 7 { frames := 2, cells := 0, slots := 0, locals := 56 } := hE
  refine y_wk (fun hWK => ?_)
  have hn0 := hWK.1
  refine y_bud (bc' := 0) (bs' := 0) (Nat.le_refl _) (Nat.le_refl _) ?_
  refine y_to (lv' := [(0, .ref (α 4 0)), (1, .int (iI a)), (2, .long (iL wg))]) (st' := []) rfl rfl rfl ?_
  have wpar := hW.par
  have wclips := hW.clips
  have wnodes := hW.nodes
  have wsts := hW.sts
  have wtrs := hW.trs
  have wthr := hW.thr
  have wtxt := hW.txt
  have ws := hW.st (S 0 a) hs.1 hs.2
  have hnd := st_nd hW hs
  obtain ⟨D, hD⟩ : ∃ D, DOk S D := hW.dep
  refine y_aload_n hE rfl 0 rfl dX4_addsTrack_0 ?_
  refine y_aload_n hE rfl 0 rfl dX4_addsTrack_1 ?_
  refine gX4_47r (z := 0) hE h40 (MObj.r hM.1 15 (by decide)) (by omega) dX4_addsTrack_2 (fun hl_2 => ?_)
  refine y_aload_n hE rfl 0 rfl dX4_addsTrack_5 ?_
  refine gX4_7r (z := 0) hE h40 (MObj.r hM.1 0 (by decide)) (by omega) dX4_addsTrack_6 (fun hl_6 => ?_)
  refine y_iload_n hE rfl 1 rfl dX4_addsTrack_9 ?_
  refine y_iconst hE dX4_addsTrack_10 ?_
  refine y_iadd hE dX4_addsTrack_11 ?_
  refine y_to (st' := [.int (iI a), .ref (α 100 0), .ref (α 115 0), .ref (α 4 0)]) rfl rfl (by rw [Int.add_zero]) ?_
  refine y_iald hE rfl hl_6 (by have hL : K 100 0 (-1) = 1160 := (MObj.l hM.1 0 (by decide)); omega) dX4_addsTrack_12 ?_
  refine y_to (st' := [.int (iI (S 0 a)), .ref (α 115 0), .ref (α 4 0)]) rfl rfl (by rw [show K 100 0 a = S 0 a from (MRep.ra hM 0 rfl (by omega) (by first | omega | (show _ < (1160 : Int); omega)))]) ?_
  refine y_iald hE rfl hl_2 (by have hL : K 115 0 (-1) = 10 := (MObj.l hM.1 15 (by decide)); omega) dX4_addsTrack_13 ?_
  refine y_to (st' := [.int (iI (S 15 (S 0 a))), .ref (α 4 0)]) rfl rfl (by rw [show K 115 0 (S 0 a) = S 15 (S 0 a) from (MRep.ra hM 15 rfl (by omega) (by first | omega | (show _ < (10 : Int); omega)))]) ?_
  refine y_lload_n hE rfl 2 rfl dX4_addsTrack_14 ?_
  refine y_callV hE (m_X4_blends S (S 15 (S 0 a)) wg h40 hM hW hv0 (by assumption) hw) (lw_V q3057 q3059 qs78 q133 q3060) (nA := 2) (by decide +kernel) rfl ⟨Nat.le_of_ble_eq_true rfl, Nat.le_of_ble_eq_true rfl⟩ (hdd := rfl) (hcc := rfl) (hq := rfl) (hi := h40) (rest := []) rfl (by decide) dX4_addsTrack_15 (bc' := 0) (bs' := 0) (Nat.le_refl _) (Nat.le_refl _) (fun r_15 n_15 α_15 K_15 hx_15 hp_15 => ?_)
  obtain ⟨rfl, rfl, hM_15, hk_15, hr_15⟩ := hp_15
  refine y_to (st' := []) rfl rfl rfl ?_
  refine y_iconst hE dX4_addsTrack_18 ?_
  refine y_istore hE [(4, .int (iI 0)), (0, .ref (α 4 0)), (1, .int (iI a)), (2, .long (iL wg))] (by decide) rfl dX4_addsTrack_19 ?_
  have L21 : ∀ (fuel : Nat) (K2 : KS) (c : Int), (MRep S n K2) → (KO K K2 (fun k i => k = 127 ∨ k = 128 ∨ k = 129 ∨ k = 137 ∨ k = 138 ∨ k = 139 ∨ k = 4)) → (0 ≤ c ∧ c ≤ S 8 0) → (RPm (trkP S (S 15 (S 0 a)) (S 0 (a + 2)) wg P c.toNat) K2) → (∀ c : Int, 0 ≤ c → c < 12 → K2 127 0 c = wt S 4 (S 15 (S 0 a)) wg c) → (K2 4 0 25 = K 4 0 25) → (S 8 0 - c).toNat < fuel → Y x n α K2 0 0 21 [(4, .int (iI c)), (0, .ref (α 4 0)), (1, .int (iI a)), (2, .long (iL wg))] [] := by
    intro fuel21
    induction fuel21 with
    | zero => intro K2 c hM2 hk2 hk hR hwt h25 hfu21; exact absurd hfu21 (Nat.not_lt_zero _)
    | succ fuel21 ih21 =>
      intro K2 c hM2 hk2 hk hR hwt h25 hfu21
      refine y_iload hE 0 rfl dX4_addsTrack_21 ?_
      refine y_aload_n hE rfl 1 rfl dX4_addsTrack_23 ?_
      refine gX4_120 (z := S 8 0) hE h40 (hM2.2.2.2.1) dX4_addsTrack_24 ?_
      refine y_icmp_ge hE 116 (by decide) (by omega) (by omega) dX4_addsTrack_27 (fun c_27 => ?_) (fun c_27 => ?_)
      · exact y_vret (r := 0) hE rfl hQ dX4_addsTrack_116 Ext.rf ⟨rfl, rfl, hM2, hk2, by rw [show S 8 0 = c by omega]; exact hR, h25⟩
      · have wl := hW.len c (by omega) (by omega)
        have hwc := hwt c (by omega) (by omega)
        have hwn := wt_nn hW hD 4 (S 15 (S 0 a)) wg c hnd
        have hwn2 := hwn.2 hw.1
        have htk := trkP_fin hW (k := c) hnd hph.1 hw.1 hB (by omega)
        have hti := time_in hW (c := c) (by omega) hph.1
        have hpl0 : 0 ≤ S 0 (a + 2) * S 4 c := Int.mul_nonneg hph.1 (by omega)
        have hpl1 : S 0 (a + 2) * S 4 c ≤ 1000000 * 500 := Int.mul_le_mul hph.2 (by omega) (by omega) (by omega)
        refine y_aload_n hE rfl 1 rfl dX4_addsTrack_30 ?_
        refine gX4_72r (z := 0) hE h40 (MObj.r hM2.1 27 (by decide)) (by omega) dX4_addsTrack_31 (fun hl_31 => ?_)
        refine y_iload hE 0 rfl dX4_addsTrack_34 ?_
        refine y_lald hE rfl hl_31 (by have hL : K2 127 0 (-1) = 12 := (MObj.l hM2.1 27 (by decide)); omega) dX4_addsTrack_36 ?_
        refine y_to (st' := [.long (iL (wt S 4 (S 15 (S 0 a)) wg c))]) rfl rfl (by rw [show K2 127 0 c = (wt S 4 (S 15 (S 0 a)) wg c) from hwc]) ?_
        refine y_lconst hE 0 (by decide) dX4_addsTrack_37 ?_
        refine y_lcmp_le hE 110 (by decide) (by omega) (by omega) dX4_addsTrack_38 dX4_addsTrack_39 (fun c_38 => ?_) (fun c_38 => ?_)
        · refine y_iinc hE 0 rfl [(4, .int (iI (c + 1))), (0, .ref (α 4 0)), (1, .int (iI a)), (2, .long (iL wg))] (by decide) rfl dX4_addsTrack_110 ?_
          refine y_goto hE 21 (by decide) dX4_addsTrack_113 ?_
          exact ih21 K2 (c + 1) (hM2) (hk2) (by omega) (by rw [trkP_s (by omega)]; first | (rw [if_neg (by omega)]; exact hR) | (rw [if_pos (by omega), ← htm]; exact hr_107.1)) (by first | exact hwt | exact fun c c0 c1 => (hk_107 127 0 (by decide) c).trans (hwt c c0 c1)) (by first | exact h25 | exact hr_107.2.trans h25) (by omega)
        · refine y_aload_n hE rfl 1 rfl dX4_addsTrack_42 ?_
          refine gX4_7r (z := 0) hE h40 (MObj.r hM2.1 0 (by decide)) (by omega) dX4_addsTrack_43 (fun hl_43 => ?_)
          refine y_iload_n hE rfl 2 rfl dX4_addsTrack_46 ?_
          refine y_iconst hE dX4_addsTrack_47 ?_
          refine y_iadd hE dX4_addsTrack_48 ?_
          refine y_iald hE rfl hl_43 (by have hL : K2 100 0 (-1) = 1160 := (MObj.l hM2.1 0 (by decide)); omega) dX4_addsTrack_49 ?_
          refine y_to (st' := [.int (iI (S 0 (a + 2)))]) rfl rfl (by rw [show K2 100 0 (a + 2) = S 0 (a + 2) from (MRep.ra hM2 0 rfl (by omega) (by first | omega | (show _ < (1160 : Int); omega)))]) ?_
          refine y_i2l hE (by omega) dX4_addsTrack_50 ?_
          refine y_aload_n hE rfl 1 rfl dX4_addsTrack_51 ?_
          refine gX4_20r (z := 0) hE h40 (MObj.r hM2.1 4 (by decide)) (by omega) dX4_addsTrack_52 (fun hl_52 => ?_)
          refine y_iload hE 0 rfl dX4_addsTrack_55 ?_
          refine y_iald hE rfl hl_52 (by have hL : K2 104 0 (-1) = 12 := (MObj.l hM2.1 4 (by decide)); omega) dX4_addsTrack_57 ?_
          refine y_to (st' := [.int (iI (S 4 c)), .long (iL (S 0 (a + 2)))]) rfl rfl (by rw [show K2 104 0 c = S 4 c from (MRep.ra hM2 4 rfl (by omega) (by first | omega | (show _ < (12 : Int); omega)))]) ?_
          refine y_i2l hE (by omega) dX4_addsTrack_58 ?_
          refine y_lmul hE dX4_addsTrack_59 ?_
          refine y_ldc2 hE 1000000 (v := 1000000) (by decide) q3052 dX4_addsTrack_60 ?_
          refine y_ldiv hE (by omega) (by omega) dX4_addsTrack_63 ?_
          refine y_lstore hE [(5, .long (iL (((S 0 (a + 2)) * (S 4 c)) / 1000000))), (4, .int (iI c)), (0, .ref (α 4 0)), (1, .int (iI a)), (2, .long (iL wg))] (by decide) rfl dX4_addsTrack_64 ?_
          have J100 : ∀ (tm : Int), (tm = min (S 4 c - 1) (S 0 (a + 2) * S 4 c / 1000000)) → Y x n α K2 0 0 100 [(5, .long (iL (((S 0 (a + 2)) * (S 4 c)) / 1000000))), (4, .int (iI c)), (0, .ref (α 4 0)), (1, .int (iI a)), (2, .long (iL wg))] [.int (iI tm), .int (iI c), .ref (α 4 0)] := by
            intro tm htm
            refine y_aload_n hE rfl 2 rfl dX4_addsTrack_100 ?_
            refine gX4_72r (z := 0) hE h40 (MObj.r hM2.1 27 (by decide)) (by omega) dX4_addsTrack_101 (fun hl_101 => ?_)
            refine y_iload hE 1 rfl dX4_addsTrack_104 ?_
            refine y_lald hE rfl hl_101 (by have hL : K2 127 0 (-1) = 12 := (MObj.l hM2.1 27 (by decide)); omega) dX4_addsTrack_106 ?_
            refine y_to (st' := [.long (iL (wt S 4 (S 15 (S 0 a)) wg c)), .int (iI tm), .int (iI c), .ref (α 4 0)]) rfl rfl (by rw [show K2 127 0 c = (wt S 4 (S 15 (S 0 a)) wg c) from hwc]) ?_
            refine y_callV hE (m_X4_addsEntry S (trkP S (S 15 (S 0 a)) (S 0 (a + 2)) wg P c.toNat) c tm (wt S 4 (S 15 (S 0 a)) wg c) h40 hM2 (hR) (htk.1.eok hW (by omega)) (by have := htk.2; omega) (by omega) (by rw [htm]; exact hti) (by omega)) (lw_V q3065 q3067 qs80 q133 q3068) (nA := 3) (by decide +kernel) rfl ⟨Nat.le_of_ble_eq_true rfl, Nat.le_of_ble_eq_true rfl⟩ (hdd := rfl) (hcc := rfl) (hq := rfl) (hi := h40) (rest := []) rfl (by decide) dX4_addsTrack_107 (bc' := 0) (bs' := 0) (Nat.le_refl _) (Nat.le_refl _) (fun r_107 n_107 α_107 K_107 hx_107 hp_107 => ?_)
            obtain ⟨rfl, rfl, hM_107, hk_107, hr_107⟩ := hp_107
            refine y_to (st' := []) rfl rfl rfl ?_
            refine y_iinc hE 1 rfl [(4, .int (iI (c + 1))), (5, .long (iL (((S 0 (a + 2)) * (S 4 c)) / 1000000))), (0, .ref (α 4 0)), (1, .int (iI a)), (2, .long (iL wg))] (by decide) rfl dX4_addsTrack_110 ?_
            refine y_goto hE 21 (by decide) dX4_addsTrack_113 ?_
            refine y_lv [0, 2, 3, 4] [(4, .int (iI (c + 1))), (0, .ref (α 4 0)), (1, .int (iI a)), (2, .long (iL wg))] rfl ?_
            exact ih21 K_107 (c + 1) (hM_107) ((hk2.tr (KO.mono hk_107 (fun k i z => by (try dsimp only at z); (try dsimp only); omega)))) (by omega) (by rw [trkP_s (by omega)]; first | (rw [if_neg (by omega)]; exact hR) | (rw [if_pos (by omega), ← htm]; exact hr_107.1)) (by first | exact hwt | exact fun c c0 c1 => (hk_107 127 0 (by decide) c).trans (hwt c c0 c1)) (by first | exact h25 | exact hr_107.2.trans h25) (by omega)
          refine y_aload_n hE rfl 2 rfl dX4_addsTrack_66 ?_
          refine y_iload hE 1 rfl dX4_addsTrack_67 ?_
          refine y_lload hE 0 rfl dX4_addsTrack_69 ?_
          refine y_aload_n hE rfl 2 rfl dX4_addsTrack_71 ?_
          refine gX4_20r (z := 0) hE h40 (MObj.r hM2.1 4 (by decide)) (by omega) dX4_addsTrack_72 (fun hl_72 => ?_)
          refine y_iload hE 1 rfl dX4_addsTrack_75 ?_
          refine y_iald hE rfl hl_72 (by have hL : K2 104 0 (-1) = 12 := (MObj.l hM2.1 4 (by decide)); omega) dX4_addsTrack_77 ?_
          refine y_to (st' := [.int (iI (S 4 c)), .long (iL (((S 0 (a + 2)) * (S 4 c)) / 1000000)), .int (iI c), .ref (α 4 0)]) rfl rfl (by rw [show K2 104 0 c = S 4 c from (MRep.ra hM2 4 rfl (by omega) (by first | omega | (show _ < (12 : Int); omega)))]) ?_
          refine y_iconst hE dX4_addsTrack_78 ?_
          refine y_isub hE dX4_addsTrack_79 ?_
          refine y_i2l hE (by omega) dX4_addsTrack_80 ?_
          refine y_lcmp_le hE 97 (by decide) (by omega) (by omega) dX4_addsTrack_81 dX4_addsTrack_82 (fun c_81 => ?_) (fun c_81 => ?_)
          · refine y_lload hE 0 rfl dX4_addsTrack_97 ?_
            refine y_l2i hE dX4_addsTrack_99 ?_
            exact J100 (((S 0 (a + 2)) * (S 4 c)) / 1000000) (by omega)
          · refine y_aload_n hE rfl 2 rfl dX4_addsTrack_85 ?_
            refine gX4_20r (z := 0) hE h40 (MObj.r hM2.1 4 (by decide)) (by omega) dX4_addsTrack_86 (fun hl_86 => ?_)
            refine y_iload hE 1 rfl dX4_addsTrack_89 ?_
            refine y_iald hE rfl hl_86 (by have hL : K2 104 0 (-1) = 12 := (MObj.l hM2.1 4 (by decide)); omega) dX4_addsTrack_91 ?_
            refine y_to (st' := [.int (iI (S 4 c)), .int (iI c), .ref (α 4 0)]) rfl rfl (by rw [show K2 104 0 c = S 4 c from (MRep.ra hM2 4 rfl (by omega) (by first | omega | (show _ < (12 : Int); omega)))]) ?_
            refine y_iconst hE dX4_addsTrack_92 ?_
            refine y_isub hE dX4_addsTrack_93 ?_
            refine y_goto hE 100 (by decide) dX4_addsTrack_94 ?_
            exact J100 ((S 4 c) - 1) (by omega)
  exact L21 _ K_15 0 (hM_15) ((KO.mono hk_15 (fun k i z => by (try dsimp only at z); (try dsimp only); omega))) (by omega) (hP.ko hk_15 (by decide) (by decide) (by decide) (by decide)) (hr_15) (hk_15 4 0 (by decide) 25) (Nat.lt_succ_self _)
