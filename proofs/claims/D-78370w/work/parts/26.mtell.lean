set_option linter.unusedVariables false
/-- a track of m -/
def TkOk (S : SS) (a T : Int) : Prop := 0 ≤ S 0 a ∧ S 0 a < S 19 0 ∧ 0 ≤ S 0 (a + 1) ∧ S 0 (a + 1) ≤ 5 * T ∧ 0 ≤ S 0 (a + 2) ∧ S 0 (a + 2) ≤ 1000000 ∧ (S 17 (S 0 a) ≠ 0 → S 0 (a + 2) < 1000000) ∧ 0 ≤ S 0 (a + 3) ∧ S 0 (a + 3) ≤ 1
def lexLt (e f : Int × Int × Int) : Prop := e.1 < f.1 ∨ e.1 = f.1 ∧ e.2.1 < f.2.1
def sumW (P : SP) : Int := (P.map fun e => e.2.2).sum
/-- a pose: ordered, each entry's clip, time, weight in range, of a whole -/
def PoseOk (S : SS) (P : SP) : Prop := P.Pairwise lexLt ∧ (∀ e ∈ P, 0 ≤ e.1 ∧ e.1 < S 8 0 ∧ 0 ≤ e.2.1 ∧ e.2.1 < 500 ∧ 0 < e.2.2) ∧ sumW P ≤ 1000000
/-- the frozen pose of a slice -/
def frS (S : SS) (b : Int) : SP := (List.range (S 0 (b + 21)).toNat).map fun (k : Nat) => (S 0 (b + 22 + 3 * (k : Int)), S 0 (b + 23 + 3 * k), S 0 (b + 24 + 3 * k))
/-- what holds of a machine at b of m -/
def WFm (S : SS) (b : Int) (T : Int) : Prop :=
  (S 0 (b + 8) = 0 ∨ S 0 (b + 8) = 1 ∧ 0 < S 19 0) ∧
  (0 ≤ S 0 (b + 11) ∧ S 0 (b + 11) ≤ 2) ∧
  (S 0 (b + 20) = 0 ∨ S 0 (b + 20) = 1 ∧ S 0 (b + 8) = 1) ∧
  (0 ≤ S 0 (b + 21) ∧ S 0 (b + 21) ≤ 8 + 8 * S 0 (b + 11)) ∧
  (0 ≤ S 0 (b + 166) ∧ S 0 (b + 166) ≤ 30) ∧
  (0 ≤ S 0 (b + 287) ∧ S 0 (b + 287) ≤ T) ∧
  (0 < S 19 0 → TkOk S (b + 12) T) ∧
  (S 0 (b + 8) = 1 → TkOk S (b + 16) T ∧ 0 ≤ S 0 (b + 9) ∧ S 0 (b + 9) < S 21 0 ∧ 0 ≤ S 0 (b + 10) ∧ S 0 (b + 10) < S 20 (17 * S 0 (b + 9) + 2)) ∧
  (S 0 (b + 20) = 1 → PoseOk S (frS S b)) ∧
  (0 ≤ S 0 (b + 17) ∧ S 0 (b + 17) ≤ 5 * T ∧ 0 ≤ S 0 (b + 18) ∧ S 0 (b + 18) ≤ 1000000 ∧ 0 ≤ S 0 (b + 19) ∧ S 0 (b + 19) ≤ 1) ∧
  (0 ≤ S 0 (b + 288) ∧ S 0 (b + 288) ≤ 120 * T) ∧
  (∀ j : Int, 0 ≤ j → j < 4 * S 0 (b + 166) → 0 ≤ S 0 (b + 167 + j) ∧ S 0 (b + 167 + j) ≤ T + 99) ∧
  (0 ≤ S 0 (b + 289) ∧ S 0 (b + 289) ≤ 8) ∧
  (∀ p : Int, 0 ≤ p → p < 8 → -100 ≤ S 0 (b + p) ∧ S 0 (b + p) ≤ 100)
theorem WFm.inn {S : SS} {b : Int} {T : Int} (h : WFm S b T) : S 0 (b + 8) = 0 ∨ S 0 (b + 8) = 1 ∧ 0 < S 19 0 := h.1
theorem WFm.cuts {S : SS} {b : Int} {T : Int} (h : WFm S b T) : 0 ≤ S 0 (b + 11) ∧ S 0 (b + 11) ≤ 2 := h.2.1
theorem WFm.fro {S : SS} {b : Int} {T : Int} (h : WFm S b T) : S 0 (b + 20) = 0 ∨ S 0 (b + 20) = 1 ∧ S 0 (b + 8) = 1 := h.2.2.1
theorem WFm.many {S : SS} {b : Int} {T : Int} (h : WFm S b T) : 0 ≤ S 0 (b + 21) ∧ S 0 (b + 21) ≤ 8 + 8 * S 0 (b + 11) := h.2.2.2.1
theorem WFm.evn {S : SS} {b : Int} {T : Int} (h : WFm S b T) : 0 ≤ S 0 (b + 166) ∧ S 0 (b + 166) ≤ 30 := h.2.2.2.2.1
theorem WFm.tks {S : SS} {b : Int} {T : Int} (h : WFm S b T) : 0 ≤ S 0 (b + 287) ∧ S 0 (b + 287) ≤ T := h.2.2.2.2.2.1
theorem WFm.ta {S : SS} {b : Int} {T : Int} (h : WFm S b T) : 0 < S 19 0 → TkOk S (b + 12) T := h.2.2.2.2.2.2.1
theorem WFm.tb {S : SS} {b : Int} {T : Int} (h : WFm S b T) : S 0 (b + 8) = 1 → TkOk S (b + 16) T ∧ 0 ≤ S 0 (b + 9) ∧ S 0 (b + 9) < S 21 0 ∧ 0 ≤ S 0 (b + 10) ∧ S 0 (b + 10) < S 20 (17 * S 0 (b + 9) + 2) := h.2.2.2.2.2.2.2.1
theorem WFm.fz {S : SS} {b : Int} {T : Int} (h : WFm S b T) : S 0 (b + 20) = 1 → PoseOk S (frS S b) := h.2.2.2.2.2.2.2.2.1
theorem WFm.tbr {S : SS} {b : Int} {T : Int} (h : WFm S b T) : 0 ≤ S 0 (b + 17) ∧ S 0 (b + 17) ≤ 5 * T ∧ 0 ≤ S 0 (b + 18) ∧ S 0 (b + 18) ≤ 1000000 ∧ 0 ≤ S 0 (b + 19) ∧ S 0 (b + 19) ≤ 1 := h.2.2.2.2.2.2.2.2.2.1
theorem WFm.frd {S : SS} {b : Int} {T : Int} (h : WFm S b T) : 0 ≤ S 0 (b + 288) ∧ S 0 (b + 288) ≤ 120 * T := h.2.2.2.2.2.2.2.2.2.2.1
theorem WFm.evr {S : SS} {b : Int} {T : Int} (h : WFm S b T) : ∀ j : Int, 0 ≤ j → j < 4 * S 0 (b + 166) → 0 ≤ S 0 (b + 167 + j) ∧ S 0 (b + 167 + j) ≤ T + 99 := h.2.2.2.2.2.2.2.2.2.2.2.1
theorem WFm.kpt {S : SS} {b : Int} {T : Int} (h : WFm S b T) : 0 ≤ S 0 (b + 289) ∧ S 0 (b + 289) ≤ 8 := h.2.2.2.2.2.2.2.2.2.2.2.2.1
theorem WFm.vals {S : SS} {b : Int} {T : Int} (h : WFm S b T) : ∀ p : Int, 0 ≤ p → p < 8 → -100 ≤ S 0 (b + p) ∧ S 0 (b + p) ≤ 100 := h.2.2.2.2.2.2.2.2.2.2.2.2.2
def WFv (S : SS) : Prop := ∀ p : Int, 0 ≤ p → p < 8 → -100 ≤ S 0 p ∧ S 0 p ≤ 100
def oState (S : SS) : Int × Int × SS := if S 19 0 = 0 then (1, 0, S) else (0, S 0 12, S)
def oTarget (S : SS) : Int × Int × SS := (0, if S 0 8 = 0 then -1 else S 0 16, S)
def oTrans (S : SS) : Int × Int × SS := (0, if S 0 8 = 0 then -1 else S 0 9, S)
def oElapsed (S : SS) : Int × Int × SS := (0, if S 0 8 = 0 then -1 else S 0 10, S)
def oFrozen (S : SS) : Int × Int × SS := (0, if S 0 8 = 1 ∧ S 0 20 = 1 then 1 else 0, S)
def prgS (S : SS) (a : Int) : Int := S 0 (a + 1) * 1000000 + S 0 (a + 2)
def oProgress (S : SS) (g : Int) : Int × Int × SS := if S 19 0 = 0 ∨ g ≠ 0 ∧ S 0 8 = 0 then (1, 0, S) else (0, prgS S (if g = 0 then 12 else 16), S)
def oFired (S : SS) : Int × Int × SS := (0, S 0 288, S)
def oEvent (S : SS) (e k : Int) : Int × Int × SS := if ¬ (0 ≤ e ∧ e < S 0 166) then (1, 0, S) else if ¬ (0 ≤ k ∧ k ≤ 3) then (2, 0, S) else (0, S 0 (167 + 4 * e + k), S)
def oCount (S : SS) (k : Int) : Int × Int × SS := if k = 0 then (0, S 3 0, S) else if k = 1 then (0, S 8 0, S) else if k = 2 then (0, S 14 0, S) else if k = 3 then (0, S 19 0, S) else if k = 4 then (0, S 21 0, S) else if k = 5 then (0, S 0 287, S) else if k = 6 then (0, S 0 166, S) else if k = 7 then (0, S 24 0, S) else (1, 0, S)
/-- m places are copied, set to 0 -/
def cpyS (S : SS) (fr to m : Int) : SS := fun f j => if f = 0 ∧ to ≤ j ∧ j < to + m then S 0 (j - to + fr) else S f j
def zroS (S : SS) (a b : Int) : SS := fun f j => if f = 0 ∧ a ≤ j ∧ j < b then 0 else S f j
theorem cpyS_0 (S : SS) (fr to : Int) : cpyS S fr to 0 = S := by
  funext f j; unfold cpyS; rw [if_neg (by omega)]
theorem cpyS_r {S : SS} {fr to m j : Int} (h : j < to ∨ to + m ≤ j) (f : Nat) : cpyS S fr to m f j = S f j := by
  unfold cpyS; rw [if_neg (by omega)]
theorem cpyS_s {S : SS} {fr to m : Int} (h : 0 ≤ m) (hd : fr + m < to ∨ to + m ≤ fr + m) : up2 (cpyS S fr to m) 0 (to + m) (cpyS S fr to m 0 (fr + m)) = cpyS S fr to (m + 1) := by
  rw [cpyS_r (j := fr + m) (by omega)]
  funext f j
  unfold up2 cpyS
  by_cases e : f = 0 ∧ j = to + m
  · rw [if_pos e, if_pos (by omega), e.2, show to + m - to + fr = fr + m by omega]
  · rw [if_neg e]
    by_cases e2 : f = 0 ∧ to ≤ j ∧ j < to + m
    · rw [if_pos e2, if_pos (by omega)]
    · rw [if_neg e2, if_neg (by omega)]
theorem zroS_0 (S : SS) (a : Int) : zroS S a a = S := by
  funext f j; unfold zroS; rw [if_neg (by omega)]
theorem zroS_s {S : SS} {a b : Int} (h : a ≤ b) : up2 (zroS S a b) 0 b 0 = zroS S a (b + 1) := by
  funext f j
  unfold up2 zroS
  by_cases e : f = 0 ∧ j = b
  · rw [if_pos e, if_pos (by omega)]
  · rw [if_neg e]
    by_cases e2 : f = 0 ∧ a ≤ j ∧ j < b
    · rw [if_pos e2, if_pos (by omega)]
    · rw [if_neg e2, if_neg (by omega)]
def oReset (S : SS) : Int × Int × SS := (0, S 0 287, up2 (up2 (up2 (begS (zroS S 0 8)) 0 166 0) 0 287 0) 0 288 0)
def oKeep (S : SS) (b : Int) : Int × Int × SS := if ¬ (0 ≤ b ∧ b ≤ 1) then (1, 0, S) else if S 19 0 = 0 then (2, 0, S) else (0, S 0 287, up2 (cpyS (up2 S 0 289 (S 3 0)) 0 (290 + 290 * b) 290) 1 b 1)
def oRestore (S : SS) (b : Int) : Int × Int × SS := if ¬ (0 ≤ b ∧ b ≤ 1) then (1, 0, S) else if S 1 b = 0 then (2, 0, S) else (0, S 0 (290 + 290 * b + 287), zroS (cpyS S (290 + 290 * b) 0 290) (S 0 (290 + 290 * b + 289)) 8)
set_option maxHeartbeats 4000000 in
set_option maxRecDepth 100000 in
theorem m_X4_thrown {w : KW} {n : KN} {α : KA} {K : KS} (S : SS)  (h40 : (0 : Int) ≤ 0 ∧ 0 < n 4) (hM : MRep S n K) : KM w yX4_thrown cX4_thrown 1 (some (.int)) { frames := 0, cells := 0, slots := 0, locals := 0 } (0, 0) [.ref (α 4 0)] n α K (fun r n' α' K' => n = n' ∧ α = α' ∧ K = K' ∧ (r = K 4 0 25)) := by
  refine y_start (by decide) (Nat.le_of_ble_eq_true rfl) (fun x hE hQ => ?_)
  have hw := hQ.2
  subst hw
  have hE : YE x cX4_thrown RX4 (some (.int)) "thrown" 1 { frames := 0, cells := 0, slots := 0, locals := 0 } := hE
  refine y_wk (fun hWK => ?_)
  have hn0 := hWK.1
  refine y_bud (bc' := 0) (bs' := 0) (Nat.le_refl _) (Nat.le_refl _) ?_
  refine y_to (lv' := [(0, .ref (α 4 0))]) (st' := []) rfl rfl rfl ?_
  refine y_aload_n hE rfl 0 rfl dX4_thrown_0 ?_
  refine gX4_94 (z := K 4 0 25) hE h40 rfl dX4_thrown_1 ?_
  exact y_iret hE rfl rfl hQ dX4_thrown_4 Ext.rf ⟨rfl, rfl, rfl, rfl⟩
set_option maxHeartbeats 4000000 in
set_option maxRecDepth 100000 in
theorem m_X4_state {w : KW} {n : KN} {α : KA} {K : KS} (S : SS) (T : Int)  (h40 : (0 : Int) ≤ 0 ∧ 0 < n 4) (hM : MRep S n K) (hW : WFs S) (hX : WFm S 0 T) : KM w yX4_state cX4_state 1 (some (.int)) { frames := 1, cells := 0, slots := 0, locals := 21 } (0, 0) [.ref (α 4 0)] n α K (fun r n' α' K' => n = n' ∧ α = α' ∧ (MRep (oState S).2.2 n K' ∧ KO K K' MK ∧ K' 4 0 25 = (oState S).1 ∧ r = (oState S).2.1)) := by
  refine y_start (by decide) (Nat.le_of_ble_eq_true rfl) (fun x hE hQ => ?_)
  have hw := hQ.2
  subst hw
  have hE : YE x cX4_state RX4 (some (.int)) "state" 1 { frames := 1, cells := 0, slots := 0, locals := 21 } := hE
  refine y_wk (fun hWK => ?_)
  have hn0 := hWK.1
  refine y_bud (bc' := 0) (bs' := 0) (Nat.le_refl _) (Nat.le_refl _) ?_
  refine y_to (lv' := [(0, .ref (α 4 0))]) (st' := []) rfl rfl rfl ?_
  have wpar := hW.par
  have wclips := hW.clips
  have wnodes := hW.nodes
  have wsts := hW.sts
  have wtrs := hW.trs
  have wthr := hW.thr
  have wtxt := hW.txt
  have xinn := hX.inn
  have xcuts := hX.cuts
  have xfro := hX.fro
  have xmany := hX.many
  have xevn := hX.evn
  have xtks := hX.tks
  simp only [Int.zero_add] at xinn xcuts xfro xmany xevn xtks
  refine y_aload_n hE rfl 0 rfl dX4_state_0 ?_
  refine y_iconst hE dX4_state_1 ?_
  refine pX4_94 hE h40 dX4_state_2 ?_
  refine y_aload_n hE rfl 0 rfl dX4_state_5 ?_
  refine gX4_145 (z := S 19 0) hE h40 (hM.2.2.2.2.2.1) dX4_state_6 ?_
  refine y_if_ne hE 20 (by decide) (by omega) dX4_state_9 (fun c_9 => ?_) (fun c_9 => ?_)
  · refine y_aload_n hE rfl 0 rfl dX4_state_20 ?_
    refine gX4_7r (z := 0) hE h40 (MObj.r hM.1 0 (by decide)) (by omega) dX4_state_21 (fun hl_21 => ?_)
    refine y_bipush hE (by decide) dX4_state_24 ?_
    refine y_iald hE rfl hl_21 (by have hL : (up3 K 4 0 25 0) 100 0 (-1) = 1160 := (MObj.l hM.1 0 (by decide)); omega) dX4_state_26 ?_
    refine y_to (st' := [.int (iI (S 0 12))]) rfl rfl (by rw [show (up3 K 4 0 25 0) 100 0 12 = S 0 12 from (MRep.ra hM 0 rfl (by omega) (by first | omega | (show _ < (1160 : Int); omega)))]) ?_
    refine y_iret hE rfl rfl hQ dX4_state_27 Ext.rf ?_
    refine ⟨rfl, rfl, ?_⟩
    unfold oState
    (repeat (first | rw [if_pos (by omega)] | rw [if_neg (by omega)]))
    exact ⟨(MRep.t hM 25 (by decide) 0), (KO.up KO.rf (by unfold MK; decide)), by simp [up3], by first | rfl | (dsimp only; omega)⟩
  · refine y_aload_n hE rfl 0 rfl dX4_state_12 ?_
    refine y_iconst hE dX4_state_13 ?_
    refine y_callV hE (m_X4_fails 1 h40) (lw_V q2871 q2873 qs53 q133 q2874) (nA := 1) (by decide +kernel) rfl ⟨Nat.le_of_ble_eq_true rfl, Nat.le_of_ble_eq_true rfl⟩ (hdd := rfl) (hcc := rfl) (hq := rfl) (hi := h40) (rest := []) rfl (by decide) dX4_state_14 (bc' := 0) (bs' := 0) (Nat.le_refl _) (Nat.le_refl _) (fun r_14 n_14 α_14 K_14 hx_14 hp_14 => ?_)
    obtain ⟨rfl, rfl, rfl, hr_14⟩ := hp_14
    refine y_to (st' := [.int (iI r_14)]) rfl rfl rfl ?_
    refine y_goto hE 27 (by decide) dX4_state_17 ?_
    refine y_iret hE rfl rfl hQ dX4_state_27 Ext.rf ?_
    refine ⟨rfl, rfl, ?_⟩
    unfold oState
    (repeat (first | rw [if_pos (by omega)] | rw [if_neg (by omega)]))
    exact ⟨(MRep.t (MRep.t hM 25 (by decide) 0) 25 (by decide) 1), (KO.up (KO.up KO.rf (by unfold MK; decide)) (by unfold MK; decide)), by simp [up3], by first | rfl | (dsimp only; omega)⟩
set_option maxHeartbeats 4000000 in
set_option maxRecDepth 100000 in
theorem m_X4_target {w : KW} {n : KN} {α : KA} {K : KS} (S : SS) (T : Int)  (h40 : (0 : Int) ≤ 0 ∧ 0 < n 4) (hM : MRep S n K) (hW : WFs S) (hX : WFm S 0 T) : KM w yX4_target cX4_target 1 (some (.int)) { frames := 0, cells := 0, slots := 0, locals := 0 } (0, 0) [.ref (α 4 0)] n α K (fun r n' α' K' => n = n' ∧ α = α' ∧ (MRep (oTarget S).2.2 n K' ∧ KO K K' MK ∧ K' 4 0 25 = (oTarget S).1 ∧ r = (oTarget S).2.1)) := by
  refine y_start (by decide) (Nat.le_of_ble_eq_true rfl) (fun x hE hQ => ?_)
  have hw := hQ.2
  subst hw
  have hE : YE x cX4_target RX4 (some (.int)) "target" 1 { frames := 0, cells := 0, slots := 0, locals := 0 } := hE
  refine y_wk (fun hWK => ?_)
  have hn0 := hWK.1
  refine y_bud (bc' := 0) (bs' := 0) (Nat.le_refl _) (Nat.le_refl _) ?_
  refine y_to (lv' := [(0, .ref (α 4 0))]) (st' := []) rfl rfl rfl ?_
  have wpar := hW.par
  have wclips := hW.clips
  have wnodes := hW.nodes
  have wsts := hW.sts
  have wtrs := hW.trs
  have wthr := hW.thr
  have wtxt := hW.txt
  have xinn := hX.inn
  have xcuts := hX.cuts
  have xfro := hX.fro
  have xmany := hX.many
  have xevn := hX.evn
  have xtks := hX.tks
  simp only [Int.zero_add] at xinn xcuts xfro xmany xevn xtks
  refine y_aload_n hE rfl 0 rfl dX4_target_0 ?_
  refine y_iconst hE dX4_target_1 ?_
  refine pX4_94 hE h40 dX4_target_2 ?_
  refine y_aload_n hE rfl 0 rfl dX4_target_5 ?_
  refine gX4_7r (z := 0) hE h40 (MObj.r hM.1 0 (by decide)) (by omega) dX4_target_6 (fun hl_6 => ?_)
  refine y_bipush hE (by decide) dX4_target_9 ?_
  refine y_iald hE rfl hl_6 (by have hL : (up3 K 4 0 25 0) 100 0 (-1) = 1160 := (MObj.l hM.1 0 (by decide)); omega) dX4_target_11 ?_
  refine y_to (st' := [.int (iI (S 0 8))]) rfl rfl (by rw [show (up3 K 4 0 25 0) 100 0 8 = S 0 8 from (MRep.ra hM 0 rfl (by omega) (by first | omega | (show _ < (1160 : Int); omega)))]) ?_
  refine y_if_ne hE 19 (by decide) (by omega) dX4_target_12 (fun c_12 => ?_) (fun c_12 => ?_)
  · refine y_aload_n hE rfl 0 rfl dX4_target_19 ?_
    refine gX4_7r (z := 0) hE h40 (MObj.r hM.1 0 (by decide)) (by omega) dX4_target_20 (fun hl_20 => ?_)
    refine y_bipush hE (by decide) dX4_target_23 ?_
    refine y_iald hE rfl hl_20 (by have hL : (up3 K 4 0 25 0) 100 0 (-1) = 1160 := (MObj.l hM.1 0 (by decide)); omega) dX4_target_25 ?_
    refine y_to (st' := [.int (iI (S 0 16))]) rfl rfl (by rw [show (up3 K 4 0 25 0) 100 0 16 = S 0 16 from (MRep.ra hM 0 rfl (by omega) (by first | omega | (show _ < (1160 : Int); omega)))]) ?_
    refine y_iret hE rfl rfl hQ dX4_target_26 Ext.rf ?_
    refine ⟨rfl, rfl, ?_⟩
    unfold oTarget
    dsimp only
    (repeat (first | rw [if_pos (by omega)] | rw [if_neg (by omega)]))
    exact ⟨(MRep.t hM 25 (by decide) 0), (KO.up KO.rf (by unfold MK; decide)), by simp [up3], rfl⟩
  · refine y_iconst hE dX4_target_15 ?_
    refine y_goto hE 26 (by decide) dX4_target_16 ?_
    refine y_iret hE rfl rfl hQ dX4_target_26 Ext.rf ?_
    refine ⟨rfl, rfl, ?_⟩
    unfold oTarget
    dsimp only
    (repeat (first | rw [if_pos (by omega)] | rw [if_neg (by omega)]))
    exact ⟨(MRep.t hM 25 (by decide) 0), (KO.up KO.rf (by unfold MK; decide)), by simp [up3], rfl⟩
set_option maxHeartbeats 4000000 in
set_option maxRecDepth 100000 in
theorem m_X4_transition {w : KW} {n : KN} {α : KA} {K : KS} (S : SS) (T : Int)  (h40 : (0 : Int) ≤ 0 ∧ 0 < n 4) (hM : MRep S n K) (hW : WFs S) (hX : WFm S 0 T) : KM w yX4_transition cX4_transition 1 (some (.int)) { frames := 0, cells := 0, slots := 0, locals := 0 } (0, 0) [.ref (α 4 0)] n α K (fun r n' α' K' => n = n' ∧ α = α' ∧ (MRep (oTrans S).2.2 n K' ∧ KO K K' MK ∧ K' 4 0 25 = (oTrans S).1 ∧ r = (oTrans S).2.1)) := by
  refine y_start (by decide) (Nat.le_of_ble_eq_true rfl) (fun x hE hQ => ?_)
  have hw := hQ.2
  subst hw
  have hE : YE x cX4_transition RX4 (some (.int)) "transition" 1 { frames := 0, cells := 0, slots := 0, locals := 0 } := hE
  refine y_wk (fun hWK => ?_)
  have hn0 := hWK.1
  refine y_bud (bc' := 0) (bs' := 0) (Nat.le_refl _) (Nat.le_refl _) ?_
  refine y_to (lv' := [(0, .ref (α 4 0))]) (st' := []) rfl rfl rfl ?_
  have wpar := hW.par
  have wclips := hW.clips
  have wnodes := hW.nodes
  have wsts := hW.sts
  have wtrs := hW.trs
  have wthr := hW.thr
  have wtxt := hW.txt
  have xinn := hX.inn
  have xcuts := hX.cuts
  have xfro := hX.fro
  have xmany := hX.many
  have xevn := hX.evn
  have xtks := hX.tks
  simp only [Int.zero_add] at xinn xcuts xfro xmany xevn xtks
  refine y_aload_n hE rfl 0 rfl dX4_transition_0 ?_
  refine y_iconst hE dX4_transition_1 ?_
  refine pX4_94 hE h40 dX4_transition_2 ?_
  refine y_aload_n hE rfl 0 rfl dX4_transition_5 ?_
  refine gX4_7r (z := 0) hE h40 (MObj.r hM.1 0 (by decide)) (by omega) dX4_transition_6 (fun hl_6 => ?_)
  refine y_bipush hE (by decide) dX4_transition_9 ?_
  refine y_iald hE rfl hl_6 (by have hL : (up3 K 4 0 25 0) 100 0 (-1) = 1160 := (MObj.l hM.1 0 (by decide)); omega) dX4_transition_11 ?_
  refine y_to (st' := [.int (iI (S 0 8))]) rfl rfl (by rw [show (up3 K 4 0 25 0) 100 0 8 = S 0 8 from (MRep.ra hM 0 rfl (by omega) (by first | omega | (show _ < (1160 : Int); omega)))]) ?_
  refine y_if_ne hE 19 (by decide) (by omega) dX4_transition_12 (fun c_12 => ?_) (fun c_12 => ?_)
  · refine y_aload_n hE rfl 0 rfl dX4_transition_19 ?_
    refine gX4_7r (z := 0) hE h40 (MObj.r hM.1 0 (by decide)) (by omega) dX4_transition_20 (fun hl_20 => ?_)
    refine y_bipush hE (by decide) dX4_transition_23 ?_
    refine y_iald hE rfl hl_20 (by have hL : (up3 K 4 0 25 0) 100 0 (-1) = 1160 := (MObj.l hM.1 0 (by decide)); omega) dX4_transition_25 ?_
    refine y_to (st' := [.int (iI (S 0 9))]) rfl rfl (by rw [show (up3 K 4 0 25 0) 100 0 9 = S 0 9 from (MRep.ra hM 0 rfl (by omega) (by first | omega | (show _ < (1160 : Int); omega)))]) ?_
    refine y_iret hE rfl rfl hQ dX4_transition_26 Ext.rf ?_
    refine ⟨rfl, rfl, ?_⟩
    unfold oTrans
    dsimp only
    (repeat (first | rw [if_pos (by omega)] | rw [if_neg (by omega)]))
    exact ⟨(MRep.t hM 25 (by decide) 0), (KO.up KO.rf (by unfold MK; decide)), by simp [up3], rfl⟩
  · refine y_iconst hE dX4_transition_15 ?_
    refine y_goto hE 26 (by decide) dX4_transition_16 ?_
    refine y_iret hE rfl rfl hQ dX4_transition_26 Ext.rf ?_
    refine ⟨rfl, rfl, ?_⟩
    unfold oTrans
    dsimp only
    (repeat (first | rw [if_pos (by omega)] | rw [if_neg (by omega)]))
    exact ⟨(MRep.t hM 25 (by decide) 0), (KO.up KO.rf (by unfold MK; decide)), by simp [up3], rfl⟩
set_option maxHeartbeats 4000000 in
set_option maxRecDepth 100000 in
theorem m_X4_elapsed {w : KW} {n : KN} {α : KA} {K : KS} (S : SS) (T : Int)  (h40 : (0 : Int) ≤ 0 ∧ 0 < n 4) (hM : MRep S n K) (hW : WFs S) (hX : WFm S 0 T) : KM w yX4_elapsed cX4_elapsed 1 (some (.int)) { frames := 0, cells := 0, slots := 0, locals := 0 } (0, 0) [.ref (α 4 0)] n α K (fun r n' α' K' => n = n' ∧ α = α' ∧ (MRep (oElapsed S).2.2 n K' ∧ KO K K' MK ∧ K' 4 0 25 = (oElapsed S).1 ∧ r = (oElapsed S).2.1)) := by
  refine y_start (by decide) (Nat.le_of_ble_eq_true rfl) (fun x hE hQ => ?_)
  have hw := hQ.2
  subst hw
  have hE : YE x cX4_elapsed RX4 (some (.int)) "elapsed" 1 { frames := 0, cells := 0, slots := 0, locals := 0 } := hE
  refine y_wk (fun hWK => ?_)
  have hn0 := hWK.1
  refine y_bud (bc' := 0) (bs' := 0) (Nat.le_refl _) (Nat.le_refl _) ?_
  refine y_to (lv' := [(0, .ref (α 4 0))]) (st' := []) rfl rfl rfl ?_
  have wpar := hW.par
  have wclips := hW.clips
  have wnodes := hW.nodes
  have wsts := hW.sts
  have wtrs := hW.trs
  have wthr := hW.thr
  have wtxt := hW.txt
  have xinn := hX.inn
  have xcuts := hX.cuts
  have xfro := hX.fro
  have xmany := hX.many
  have xevn := hX.evn
  have xtks := hX.tks
  simp only [Int.zero_add] at xinn xcuts xfro xmany xevn xtks
  refine y_aload_n hE rfl 0 rfl dX4_elapsed_0 ?_
  refine y_iconst hE dX4_elapsed_1 ?_
  refine pX4_94 hE h40 dX4_elapsed_2 ?_
  refine y_aload_n hE rfl 0 rfl dX4_elapsed_5 ?_
  refine gX4_7r (z := 0) hE h40 (MObj.r hM.1 0 (by decide)) (by omega) dX4_elapsed_6 (fun hl_6 => ?_)
  refine y_bipush hE (by decide) dX4_elapsed_9 ?_
  refine y_iald hE rfl hl_6 (by have hL : (up3 K 4 0 25 0) 100 0 (-1) = 1160 := (MObj.l hM.1 0 (by decide)); omega) dX4_elapsed_11 ?_
  refine y_to (st' := [.int (iI (S 0 8))]) rfl rfl (by rw [show (up3 K 4 0 25 0) 100 0 8 = S 0 8 from (MRep.ra hM 0 rfl (by omega) (by first | omega | (show _ < (1160 : Int); omega)))]) ?_
  refine y_if_ne hE 19 (by decide) (by omega) dX4_elapsed_12 (fun c_12 => ?_) (fun c_12 => ?_)
  · refine y_aload_n hE rfl 0 rfl dX4_elapsed_19 ?_
    refine gX4_7r (z := 0) hE h40 (MObj.r hM.1 0 (by decide)) (by omega) dX4_elapsed_20 (fun hl_20 => ?_)
    refine y_bipush hE (by decide) dX4_elapsed_23 ?_
    refine y_iald hE rfl hl_20 (by have hL : (up3 K 4 0 25 0) 100 0 (-1) = 1160 := (MObj.l hM.1 0 (by decide)); omega) dX4_elapsed_25 ?_
    refine y_to (st' := [.int (iI (S 0 10))]) rfl rfl (by rw [show (up3 K 4 0 25 0) 100 0 10 = S 0 10 from (MRep.ra hM 0 rfl (by omega) (by first | omega | (show _ < (1160 : Int); omega)))]) ?_
    refine y_iret hE rfl rfl hQ dX4_elapsed_26 Ext.rf ?_
    refine ⟨rfl, rfl, ?_⟩
    unfold oElapsed
    dsimp only
    (repeat (first | rw [if_pos (by omega)] | rw [if_neg (by omega)]))
    exact ⟨(MRep.t hM 25 (by decide) 0), (KO.up KO.rf (by unfold MK; decide)), by simp [up3], rfl⟩
  · refine y_iconst hE dX4_elapsed_15 ?_
    refine y_goto hE 26 (by decide) dX4_elapsed_16 ?_
    refine y_iret hE rfl rfl hQ dX4_elapsed_26 Ext.rf ?_
    refine ⟨rfl, rfl, ?_⟩
    unfold oElapsed
    dsimp only
    (repeat (first | rw [if_pos (by omega)] | rw [if_neg (by omega)]))
    exact ⟨(MRep.t hM 25 (by decide) 0), (KO.up KO.rf (by unfold MK; decide)), by simp [up3], rfl⟩
set_option maxHeartbeats 4000000 in
set_option maxRecDepth 100000 in
theorem m_X4_isFrozen {w : KW} {n : KN} {α : KA} {K : KS} (S : SS) (T : Int)  (h40 : (0 : Int) ≤ 0 ∧ 0 < n 4) (hM : MRep S n K) (hW : WFs S) (hX : WFm S 0 T) : KM w yX4_isFrozen cX4_isFrozen 1 (some (.boolean)) { frames := 0, cells := 0, slots := 0, locals := 0 } (0, 0) [.ref (α 4 0)] n α K (fun r n' α' K' => n = n' ∧ α = α' ∧ (MRep (oFrozen S).2.2 n K' ∧ KO K K' MK ∧ K' 4 0 25 = (oFrozen S).1 ∧ r = (oFrozen S).2.1)) := by
  refine y_start (by decide) (Nat.le_of_ble_eq_true rfl) (fun x hE hQ => ?_)
  have hw := hQ.2
  subst hw
  have hE : YE x cX4_isFrozen RX4 (some (.boolean)) "isFrozen" 1 { frames := 0, cells := 0, slots := 0, locals := 0 } := hE
  refine y_wk (fun hWK => ?_)
  have hn0 := hWK.1
  refine y_bud (bc' := 0) (bs' := 0) (Nat.le_refl _) (Nat.le_refl _) ?_
  refine y_to (lv' := [(0, .ref (α 4 0))]) (st' := []) rfl rfl rfl ?_
  have wpar := hW.par
  have wclips := hW.clips
  have wnodes := hW.nodes
  have wsts := hW.sts
  have wtrs := hW.trs
  have wthr := hW.thr
  have wtxt := hW.txt
  have xinn := hX.inn
  have xcuts := hX.cuts
  have xfro := hX.fro
  have xmany := hX.many
  have xevn := hX.evn
  have xtks := hX.tks
  simp only [Int.zero_add] at xinn xcuts xfro xmany xevn xtks
  refine y_aload_n hE rfl 0 rfl dX4_isFrozen_0 ?_
  refine y_iconst hE dX4_isFrozen_1 ?_
  refine pX4_94 hE h40 dX4_isFrozen_2 ?_
  refine y_aload_n hE rfl 0 rfl dX4_isFrozen_5 ?_
  refine gX4_7r (z := 0) hE h40 (MObj.r hM.1 0 (by decide)) (by omega) dX4_isFrozen_6 (fun hl_6 => ?_)
  refine y_bipush hE (by decide) dX4_isFrozen_9 ?_
  refine y_iald hE rfl hl_6 (by have hL : (up3 K 4 0 25 0) 100 0 (-1) = 1160 := (MObj.l hM.1 0 (by decide)); omega) dX4_isFrozen_11 ?_
  refine y_to (st' := [.int (iI (S 0 8))]) rfl rfl (by rw [show (up3 K 4 0 25 0) 100 0 8 = S 0 8 from (MRep.ra hM 0 rfl (by omega) (by first | omega | (show _ < (1160 : Int); omega)))]) ?_
  refine y_iconst hE dX4_isFrozen_12 ?_
  have J32 : ∀ (b : Int), (b = 1 ∧ S 0 8 = 1 ∧ S 0 20 = 1 ∨ b = 0 ∧ ¬ (S 0 8 = 1 ∧ S 0 20 = 1)) → Y x n α (up3 K 4 0 25 0) 0 0 32 [(0, .ref (α 4 0))] [.int (iI b)] := by
    intro b hb
    refine y_iret hE rfl (nar_b (by omega)).1 hQ dX4_isFrozen_32 Ext.rf ?_
    refine ⟨rfl, rfl, ?_⟩
    unfold oFrozen
    dsimp only
    (repeat (first | rw [if_pos (by omega)] | rw [if_neg (by omega)]))
    exact ⟨(MRep.t hM 25 (by decide) 0), (KO.up KO.rf (by unfold MK; decide)), by simp [up3], by omega⟩
  refine y_icmp_ne hE 31 (by decide) (by omega) (by omega) dX4_isFrozen_13 (fun c_13 => ?_) (fun c_13 => ?_)
  · refine y_iconst hE dX4_isFrozen_31 ?_
    exact J32 0 (by omega)
  · refine y_aload_n hE rfl 0 rfl dX4_isFrozen_16 ?_
    refine gX4_7r (z := 0) hE h40 (MObj.r hM.1 0 (by decide)) (by omega) dX4_isFrozen_17 (fun hl_17 => ?_)
    refine y_bipush hE (by decide) dX4_isFrozen_20 ?_
    refine y_iald hE rfl hl_17 (by have hL : (up3 K 4 0 25 0) 100 0 (-1) = 1160 := (MObj.l hM.1 0 (by decide)); omega) dX4_isFrozen_22 ?_
    refine y_to (st' := [.int (iI (S 0 20))]) rfl rfl (by rw [show (up3 K 4 0 25 0) 100 0 20 = S 0 20 from (MRep.ra hM 0 rfl (by omega) (by first | omega | (show _ < (1160 : Int); omega)))]) ?_
    refine y_iconst hE dX4_isFrozen_23 ?_
    refine y_icmp_ne hE 31 (by decide) (by omega) (by omega) dX4_isFrozen_24 (fun c_24 => ?_) (fun c_24 => ?_)
    · refine y_iconst hE dX4_isFrozen_31 ?_
      exact J32 0 (by omega)
    · refine y_iconst hE dX4_isFrozen_27 ?_
      refine y_goto hE 32 (by decide) dX4_isFrozen_28 ?_
      exact J32 1 (by omega)
set_option maxHeartbeats 4000000 in
set_option maxRecDepth 100000 in
theorem m_X4_fired {w : KW} {n : KN} {α : KA} {K : KS} (S : SS) (T : Int)  (h40 : (0 : Int) ≤ 0 ∧ 0 < n 4) (hM : MRep S n K) (hW : WFs S) (hX : WFm S 0 T) : KM w yX4_fired cX4_fired 1 (some (.int)) { frames := 0, cells := 0, slots := 0, locals := 0 } (0, 0) [.ref (α 4 0)] n α K (fun r n' α' K' => n = n' ∧ α = α' ∧ (MRep (oFired S).2.2 n K' ∧ KO K K' MK ∧ K' 4 0 25 = (oFired S).1 ∧ r = (oFired S).2.1)) := by
  refine y_start (by decide) (Nat.le_of_ble_eq_true rfl) (fun x hE hQ => ?_)
  have hw := hQ.2
  subst hw
  have hE : YE x cX4_fired RX4 (some (.int)) "fired" 1 { frames := 0, cells := 0, slots := 0, locals := 0 } := hE
  refine y_wk (fun hWK => ?_)
  have hn0 := hWK.1
  refine y_bud (bc' := 0) (bs' := 0) (Nat.le_refl _) (Nat.le_refl _) ?_
  refine y_to (lv' := [(0, .ref (α 4 0))]) (st' := []) rfl rfl rfl ?_
  have wpar := hW.par
  have wclips := hW.clips
  have wnodes := hW.nodes
  have wsts := hW.sts
  have wtrs := hW.trs
  have wthr := hW.thr
  have wtxt := hW.txt
  have xinn := hX.inn
  have xcuts := hX.cuts
  have xfro := hX.fro
  have xmany := hX.many
  have xevn := hX.evn
  have xtks := hX.tks
  simp only [Int.zero_add] at xinn xcuts xfro xmany xevn xtks
  refine y_aload_n hE rfl 0 rfl dX4_fired_0 ?_
  refine y_iconst hE dX4_fired_1 ?_
  refine pX4_94 hE h40 dX4_fired_2 ?_
  refine y_aload_n hE rfl 0 rfl dX4_fired_5 ?_
  refine gX4_7r (z := 0) hE h40 (MObj.r hM.1 0 (by decide)) (by omega) dX4_fired_6 (fun hl_6 => ?_)
  refine y_sipush hE (by decide) dX4_fired_9 ?_
  refine y_iald hE rfl hl_6 (by have hL : (up3 K 4 0 25 0) 100 0 (-1) = 1160 := (MObj.l hM.1 0 (by decide)); omega) dX4_fired_12 ?_
  refine y_to (st' := [.int (iI (S 0 288))]) rfl rfl (by rw [show (up3 K 4 0 25 0) 100 0 288 = S 0 288 from (MRep.ra hM 0 rfl (by omega) (by first | omega | (show _ < (1160 : Int); omega)))]) ?_
  refine y_iret hE rfl rfl hQ dX4_fired_13 Ext.rf ?_
  refine ⟨rfl, rfl, ?_⟩
  unfold oFired
  (repeat (first | rw [if_pos (by omega)] | rw [if_neg (by omega)]))
  exact ⟨(MRep.t hM 25 (by decide) 0), (KO.up KO.rf (by unfold MK; decide)), by simp [up3], by first | rfl | (dsimp only; omega)⟩
set_option maxHeartbeats 4000000 in
set_option maxRecDepth 100000 in
theorem m_X4_event {w : KW} {n : KN} {α : KA} {K : KS} (S : SS) (T : Int) (e k : Int) (h40 : (0 : Int) ≤ 0 ∧ 0 < n 4) (hM : MRep S n K) (hW : WFs S) (hX : WFm S 0 T) (he : -2147483648 ≤ e ∧ e ≤ 2147483647) (hk : -2147483648 ≤ k ∧ k ≤ 2147483647) : KM w yX4_event cX4_event 3 (some (.int)) { frames := 1, cells := 0, slots := 0, locals := 25 } (0, 0) [.ref (α 4 0), .int (iI e), .int (iI k)] n α K (fun r n' α' K' => n = n' ∧ α = α' ∧ (MRep (oEvent S e k).2.2 n K' ∧ KO K K' MK ∧ K' 4 0 25 = (oEvent S e k).1 ∧ r = (oEvent S e k).2.1)) := by
  refine y_start (by decide) (Nat.le_of_ble_eq_true rfl) (fun x hE hQ => ?_)
  have hw := hQ.2
  subst hw
  have hE : YE x cX4_event RX4 (some (.int)) "event" 3 { frames := 1, cells := 0, slots := 0, locals := 25 } := hE
  refine y_wk (fun hWK => ?_)
  have hn0 := hWK.1
  refine y_bud (bc' := 0) (bs' := 0) (Nat.le_refl _) (Nat.le_refl _) ?_
  refine y_to (lv' := [(0, .ref (α 4 0)), (1, .int (iI e)), (2, .int (iI k))]) (st' := []) rfl rfl rfl ?_
  have wpar := hW.par
  have wclips := hW.clips
  have wnodes := hW.nodes
  have wsts := hW.sts
  have wtrs := hW.trs
  have wthr := hW.thr
  have wtxt := hW.txt
  have xinn := hX.inn
  have xcuts := hX.cuts
  have xfro := hX.fro
  have xmany := hX.many
  have xevn := hX.evn
  have xtks := hX.tks
  simp only [Int.zero_add] at xinn xcuts xfro xmany xevn xtks
  refine y_aload_n hE rfl 0 rfl dX4_event_0 ?_
  refine y_iconst hE dX4_event_1 ?_
  refine pX4_94 hE h40 dX4_event_2 ?_
  refine y_iload_n hE rfl 1 rfl dX4_event_5 ?_
  refine y_i2l hE (by omega) dX4_event_6 ?_
  refine y_lconst hE 0 (by decide) dX4_event_7 ?_
  refine y_aload_n hE rfl 0 rfl dX4_event_8 ?_
  refine gX4_7r (z := 0) hE h40 (MObj.r hM.1 0 (by decide)) (by omega) dX4_event_9 (fun hl_9 => ?_)
  refine y_sipush hE (by decide) dX4_event_12 ?_
  refine y_iald hE rfl hl_9 (by have hL : (up3 K 4 0 25 0) 100 0 (-1) = 1160 := (MObj.l hM.1 0 (by decide)); omega) dX4_event_15 ?_
  refine y_to (st' := [.int (iI (S 0 166)), .long (iL 0), .long (iL e)]) rfl rfl (by rw [show (up3 K 4 0 25 0) 100 0 166 = S 0 166 from (MRep.ra hM 0 rfl (by omega) (by first | omega | (show _ < (1160 : Int); omega)))]) ?_
  refine y_iconst hE dX4_event_16 ?_
  refine y_isub hE dX4_event_17 ?_
  refine y_i2l hE (by omega) dX4_event_18 ?_
  refine y_callS hE (m_X4_in e 0 ((S 0 166) - 1) (by omega) (by omega) (by omega)) (lw_S q2868 q2869 q133 q2870) (nA := 3) (by decide +kernel) rfl ⟨Nat.le_of_ble_eq_true rfl, Nat.le_of_ble_eq_true rfl⟩ (rest := []) rfl (by decide) dX4_event_19 (bc' := 0) (bs' := 0) (Nat.le_refl _) (Nat.le_refl _) (fun r_19 n_19 α_19 K_19 hx_19 hp_19 => ?_)
  obtain ⟨rfl, rfl, rfl, hr_19⟩ := hp_19
  refine y_to (st' := [.int (iI r_19)]) rfl rfl rfl ?_
  refine y_if_ne hE 31 (by decide) (by omega) dX4_event_22 (fun c_22 => ?_) (fun c_22 => ?_)
  · refine y_iload_n hE rfl 2 rfl dX4_event_31 ?_
    refine y_i2l hE (by omega) dX4_event_32 ?_
    refine y_lconst hE 0 (by decide) dX4_event_33 ?_
    refine y_ldc2 hE 3 (v := 3) (by decide) q2932 dX4_event_34 ?_
    refine y_callS hE (m_X4_in k 0 3 (by omega) (by omega) (by omega)) (lw_S q2868 q2869 q133 q2870) (nA := 3) (by decide +kernel) rfl ⟨Nat.le_of_ble_eq_true rfl, Nat.le_of_ble_eq_true rfl⟩ (rest := []) rfl (by decide) dX4_event_37 (bc' := 0) (bs' := 0) (Nat.le_refl _) (Nat.le_refl _) (fun r_37 n_37 α_37 K_37 hx_37 hp_37 => ?_)
    obtain ⟨rfl, rfl, rfl, hr_37⟩ := hp_37
    refine y_to (st' := [.int (iI r_37)]) rfl rfl rfl ?_
    refine y_if_eq hE 60 (by decide) (by omega) dX4_event_40 (fun c_40 => ?_) (fun c_40 => ?_)
    · refine y_aload_n hE rfl 0 rfl dX4_event_60 ?_
      refine y_iconst hE dX4_event_61 ?_
      refine y_callV hE (m_X4_fails 2 h40) (lw_V q2871 q2873 qs53 q133 q2874) (nA := 1) (by decide +kernel) rfl ⟨Nat.le_of_ble_eq_true rfl, Nat.le_of_ble_eq_true rfl⟩ (hdd := rfl) (hcc := rfl) (hq := rfl) (hi := h40) (rest := []) rfl (by decide) dX4_event_62 (bc' := 0) (bs' := 0) (Nat.le_refl _) (Nat.le_refl _) (fun r_62 n_62 α_62 K_62 hx_62 hp_62 => ?_)
      obtain ⟨rfl, rfl, rfl, hr_62⟩ := hp_62
      refine y_to (st' := [.int (iI r_62)]) rfl rfl rfl ?_
      refine y_iret hE rfl rfl hQ dX4_event_65 Ext.rf ?_
      refine ⟨rfl, rfl, ?_⟩
      unfold oEvent
      (repeat (first | rw [if_pos (by omega)] | rw [if_neg (by omega)]))
      exact ⟨(MRep.t (MRep.t hM 25 (by decide) 0) 25 (by decide) 2), (KO.up (KO.up KO.rf (by unfold MK; decide)) (by unfold MK; decide)), by simp [up3], by first | rfl | (dsimp only; omega)⟩
    · refine y_aload_n hE rfl 0 rfl dX4_event_43 ?_
      refine gX4_7r (z := 0) hE h40 (MObj.r hM.1 0 (by decide)) (by omega) dX4_event_44 (fun hl_44 => ?_)
      refine y_sipush hE (by decide) dX4_event_47 ?_
      refine y_iconst hE dX4_event_50 ?_
      refine y_iload_n hE rfl 1 rfl dX4_event_51 ?_
      refine y_imul hE dX4_event_52 ?_
      refine y_iadd hE dX4_event_53 ?_
      refine y_iload_n hE rfl 2 rfl dX4_event_54 ?_
      refine y_iadd hE dX4_event_55 ?_
      refine y_iald hE rfl hl_44 (by have hL : (up3 K 4 0 25 0) 100 0 (-1) = 1160 := (MObj.l hM.1 0 (by decide)); omega) dX4_event_56 ?_
      refine y_to (st' := [.int (iI (S 0 ((167 + (4 * e)) + k)))]) rfl rfl (by rw [show (up3 K 4 0 25 0) 100 0 ((167 + (4 * e)) + k) = S 0 ((167 + (4 * e)) + k) from (MRep.ra hM 0 rfl (by omega) (by first | omega | (show _ < (1160 : Int); omega)))]) ?_
      refine y_goto hE 65 (by decide) dX4_event_57 ?_
      refine y_iret hE rfl rfl hQ dX4_event_65 Ext.rf ?_
      refine ⟨rfl, rfl, ?_⟩
      unfold oEvent
      (repeat (first | rw [if_pos (by omega)] | rw [if_neg (by omega)]))
      exact ⟨(MRep.t hM 25 (by decide) 0), (KO.up KO.rf (by unfold MK; decide)), by simp [up3], by first | rfl | (dsimp only; omega)⟩
  · refine y_aload_n hE rfl 0 rfl dX4_event_25 ?_
    refine y_iconst hE dX4_event_26 ?_
    refine y_callV hE (m_X4_fails 1 h40) (lw_V q2871 q2873 qs53 q133 q2874) (nA := 1) (by decide +kernel) rfl ⟨Nat.le_of_ble_eq_true rfl, Nat.le_of_ble_eq_true rfl⟩ (hdd := rfl) (hcc := rfl) (hq := rfl) (hi := h40) (rest := []) rfl (by decide) dX4_event_27 (bc' := 0) (bs' := 0) (Nat.le_refl _) (Nat.le_refl _) (fun r_27 n_27 α_27 K_27 hx_27 hp_27 => ?_)
    obtain ⟨rfl, rfl, rfl, hr_27⟩ := hp_27
    refine y_to (st' := [.int (iI r_27)]) rfl rfl rfl ?_
    refine y_iret hE rfl rfl hQ dX4_event_30 Ext.rf ?_
    refine ⟨rfl, rfl, ?_⟩
    unfold oEvent
    (repeat (first | rw [if_pos (by omega)] | rw [if_neg (by omega)]))
    exact ⟨(MRep.t (MRep.t hM 25 (by decide) 0) 25 (by decide) 1), (KO.up (KO.up KO.rf (by unfold MK; decide)) (by unfold MK; decide)), by simp [up3], by first | rfl | (dsimp only; omega)⟩
set_option maxHeartbeats 4000000 in
set_option maxRecDepth 100000 in
theorem m_X4_count {w : KW} {n : KN} {α : KA} {K : KS} (S : SS) (T : Int) (k : Int) (h40 : (0 : Int) ≤ 0 ∧ 0 < n 4) (hM : MRep S n K) (hW : WFs S) (hX : WFm S 0 T) (hk : -2147483648 ≤ k ∧ k ≤ 2147483647) : KM w yX4_count cX4_count 2 (some (.int)) { frames := 1, cells := 0, slots := 0, locals := 21 } (0, 0) [.ref (α 4 0), .int (iI k)] n α K (fun r n' α' K' => n = n' ∧ α = α' ∧ (MRep (oCount S k).2.2 n K' ∧ KO K K' MK ∧ K' 4 0 25 = (oCount S k).1 ∧ r = (oCount S k).2.1)) := by
  refine y_start (by decide) (Nat.le_of_ble_eq_true rfl) (fun x hE hQ => ?_)
  have hw := hQ.2
  subst hw
  have hE : YE x cX4_count RX4 (some (.int)) "count" 2 { frames := 1, cells := 0, slots := 0, locals := 21 } := hE
  refine y_wk (fun hWK => ?_)
  have hn0 := hWK.1
  refine y_bud (bc' := 0) (bs' := 0) (Nat.le_refl _) (Nat.le_refl _) ?_
  refine y_to (lv' := [(0, .ref (α 4 0)), (1, .int (iI k))]) (st' := []) rfl rfl rfl ?_
  have wpar := hW.par
  have wclips := hW.clips
  have wnodes := hW.nodes
  have wsts := hW.sts
  have wtrs := hW.trs
  have wthr := hW.thr
  have wtxt := hW.txt
  have xinn := hX.inn
  have xcuts := hX.cuts
  have xfro := hX.fro
  have xmany := hX.many
  have xevn := hX.evn
  have xtks := hX.tks
  simp only [Int.zero_add] at xinn xcuts xfro xmany xevn xtks
  refine y_aload_n hE rfl 0 rfl dX4_count_0 ?_
  refine y_iconst hE dX4_count_1 ?_
  refine pX4_94 hE h40 dX4_count_2 ?_
  refine y_iload_n hE rfl 1 rfl dX4_count_5 ?_
  by_cases c_6_0 : k = 0
  · refine y_tsw hE (by omega) dX4_count_6 46 52 (by omega) (by rw [c_6_0]; rfl) (by decide) ?_
    refine y_aload_n hE rfl 0 rfl dX4_count_52 ?_
    refine gX4_107 (z := S 3 0) hE h40 (hM.2.2.1) dX4_count_53 ?_
    refine y_iret hE rfl rfl hQ dX4_count_56 Ext.rf ?_
    refine ⟨rfl, rfl, ?_⟩
    unfold oCount
    (repeat (first | rw [if_pos (by omega)] | rw [if_neg (by omega)]))
    exact ⟨(MRep.t hM 25 (by decide) 0), (KO.up KO.rf (by unfold MK; decide)), by simp [up3], by first | rfl | (dsimp only; omega)⟩
  by_cases c_6_1 : k = 1
  · refine y_tsw hE (by omega) dX4_count_6 51 57 (by omega) (by rw [c_6_1]; rfl) (by decide) ?_
    refine y_aload_n hE rfl 0 rfl dX4_count_57 ?_
    refine gX4_120 (z := S 8 0) hE h40 (hM.2.2.2.1) dX4_count_58 ?_
    refine y_iret hE rfl rfl hQ dX4_count_61 Ext.rf ?_
    refine ⟨rfl, rfl, ?_⟩
    unfold oCount
    (repeat (first | rw [if_pos (by omega)] | rw [if_neg (by omega)]))
    exact ⟨(MRep.t hM 25 (by decide) 0), (KO.up KO.rf (by unfold MK; decide)), by simp [up3], by first | rfl | (dsimp only; omega)⟩
  by_cases c_6_2 : k = 2
  · refine y_tsw hE (by omega) dX4_count_6 56 62 (by omega) (by rw [c_6_2]; rfl) (by decide) ?_
    refine y_aload_n hE rfl 0 rfl dX4_count_62 ?_
    refine gX4_128 (z := S 14 0) hE h40 (hM.2.2.2.2.1) dX4_count_63 ?_
    refine y_iret hE rfl rfl hQ dX4_count_66 Ext.rf ?_
    refine ⟨rfl, rfl, ?_⟩
    unfold oCount
    (repeat (first | rw [if_pos (by omega)] | rw [if_neg (by omega)]))
    exact ⟨(MRep.t hM 25 (by decide) 0), (KO.up KO.rf (by unfold MK; decide)), by simp [up3], by first | rfl | (dsimp only; omega)⟩
  by_cases c_6_3 : k = 3
  · refine y_tsw hE (by omega) dX4_count_6 61 67 (by omega) (by rw [c_6_3]; rfl) (by decide) ?_
    refine y_aload_n hE rfl 0 rfl dX4_count_67 ?_
    refine gX4_145 (z := S 19 0) hE h40 (hM.2.2.2.2.2.1) dX4_count_68 ?_
    refine y_iret hE rfl rfl hQ dX4_count_71 Ext.rf ?_
    refine ⟨rfl, rfl, ?_⟩
    unfold oCount
    (repeat (first | rw [if_pos (by omega)] | rw [if_neg (by omega)]))
    exact ⟨(MRep.t hM 25 (by decide) 0), (KO.up KO.rf (by unfold MK; decide)), by simp [up3], by first | rfl | (dsimp only; omega)⟩
  by_cases c_6_4 : k = 4
  · refine y_tsw hE (by omega) dX4_count_6 66 72 (by omega) (by rw [c_6_4]; rfl) (by decide) ?_
    refine y_aload_n hE rfl 0 rfl dX4_count_72 ?_
    refine gX4_159 (z := S 21 0) hE h40 (hM.2.2.2.2.2.2.1) dX4_count_73 ?_
    refine y_iret hE rfl rfl hQ dX4_count_76 Ext.rf ?_
    refine ⟨rfl, rfl, ?_⟩
    unfold oCount
    (repeat (first | rw [if_pos (by omega)] | rw [if_neg (by omega)]))
    exact ⟨(MRep.t hM 25 (by decide) 0), (KO.up KO.rf (by unfold MK; decide)), by simp [up3], by first | rfl | (dsimp only; omega)⟩
  by_cases c_6_5 : k = 5
  · refine y_tsw hE (by omega) dX4_count_6 71 77 (by omega) (by rw [c_6_5]; rfl) (by decide) ?_
    refine y_aload_n hE rfl 0 rfl dX4_count_77 ?_
    refine gX4_7r (z := 0) hE h40 (MObj.r hM.1 0 (by decide)) (by omega) dX4_count_78 (fun hl_78 => ?_)
    refine y_sipush hE (by decide) dX4_count_81 ?_
    refine y_iald hE rfl hl_78 (by have hL : (up3 K 4 0 25 0) 100 0 (-1) = 1160 := (MObj.l hM.1 0 (by decide)); omega) dX4_count_84 ?_
    refine y_to (st' := [.int (iI (S 0 287))]) rfl rfl (by rw [show (up3 K 4 0 25 0) 100 0 287 = S 0 287 from (MRep.ra hM 0 rfl (by omega) (by first | omega | (show _ < (1160 : Int); omega)))]) ?_
    refine y_iret hE rfl rfl hQ dX4_count_85 Ext.rf ?_
    refine ⟨rfl, rfl, ?_⟩
    unfold oCount
    (repeat (first | rw [if_pos (by omega)] | rw [if_neg (by omega)]))
    exact ⟨(MRep.t hM 25 (by decide) 0), (KO.up KO.rf (by unfold MK; decide)), by simp [up3], by first | rfl | (dsimp only; omega)⟩
  by_cases c_6_6 : k = 6
  · refine y_tsw hE (by omega) dX4_count_6 80 86 (by omega) (by rw [c_6_6]; rfl) (by decide) ?_
    refine y_aload_n hE rfl 0 rfl dX4_count_86 ?_
    refine gX4_7r (z := 0) hE h40 (MObj.r hM.1 0 (by decide)) (by omega) dX4_count_87 (fun hl_87 => ?_)
    refine y_sipush hE (by decide) dX4_count_90 ?_
    refine y_iald hE rfl hl_87 (by have hL : (up3 K 4 0 25 0) 100 0 (-1) = 1160 := (MObj.l hM.1 0 (by decide)); omega) dX4_count_93 ?_
    refine y_to (st' := [.int (iI (S 0 166))]) rfl rfl (by rw [show (up3 K 4 0 25 0) 100 0 166 = S 0 166 from (MRep.ra hM 0 rfl (by omega) (by first | omega | (show _ < (1160 : Int); omega)))]) ?_
    refine y_iret hE rfl rfl hQ dX4_count_94 Ext.rf ?_
    refine ⟨rfl, rfl, ?_⟩
    unfold oCount
    (repeat (first | rw [if_pos (by omega)] | rw [if_neg (by omega)]))
    exact ⟨(MRep.t hM 25 (by decide) 0), (KO.up KO.rf (by unfold MK; decide)), by simp [up3], by first | rfl | (dsimp only; omega)⟩
  by_cases c_6_7 : k = 7
  · refine y_tsw hE (by omega) dX4_count_6 89 95 (by omega) (by rw [c_6_7]; rfl) (by decide) ?_
    refine y_aload_n hE rfl 0 rfl dX4_count_95 ?_
    refine gX4_188 (z := S 24 0) hE h40 (hM.2.2.2.2.2.2.2.2) dX4_count_96 ?_
    refine y_iret hE rfl rfl hQ dX4_count_99 Ext.rf ?_
    refine ⟨rfl, rfl, ?_⟩
    unfold oCount
    (repeat (first | rw [if_pos (by omega)] | rw [if_neg (by omega)]))
    exact ⟨(MRep.t hM 25 (by decide) 0), (KO.up KO.rf (by unfold MK; decide)), by simp [up3], by first | rfl | (dsimp only; omega)⟩
  refine y_tswD hE (by omega) dX4_count_6 100 (by omega) (by decide) ?_
  refine y_aload_n hE rfl 0 rfl dX4_count_100 ?_
  refine y_iconst hE dX4_count_101 ?_
  refine y_callV hE (m_X4_fails 1 h40) (lw_V q2871 q2873 qs53 q133 q2874) (nA := 1) (by decide +kernel) rfl ⟨Nat.le_of_ble_eq_true rfl, Nat.le_of_ble_eq_true rfl⟩ (hdd := rfl) (hcc := rfl) (hq := rfl) (hi := h40) (rest := []) rfl (by decide) dX4_count_102 (bc' := 0) (bs' := 0) (Nat.le_refl _) (Nat.le_refl _) (fun r_102 n_102 α_102 K_102 hx_102 hp_102 => ?_)
  obtain ⟨rfl, rfl, rfl, hr_102⟩ := hp_102
  refine y_to (st' := [.int (iI r_102)]) rfl rfl rfl ?_
  refine y_iret hE rfl rfl hQ dX4_count_105 Ext.rf ?_
  refine ⟨rfl, rfl, ?_⟩
  unfold oCount
  (repeat (first | rw [if_pos (by omega)] | rw [if_neg (by omega)]))
  exact ⟨(MRep.t (MRep.t hM 25 (by decide) 0) 25 (by decide) 1), (KO.up (KO.up KO.rf (by unfold MK; decide)) (by unfold MK; decide)), by simp [up3], by first | rfl | (dsimp only; omega)⟩
set_option maxHeartbeats 4000000 in
set_option maxRecDepth 100000 in
theorem m_X4_progressOf {w : KW} {n : KN} {α : KA} {K : KS} (S : SS) (a : Int) (h40 : (0 : Int) ≤ 0 ∧ 0 < n 4) (hM : MRep S n K) (ha : 0 ≤ a ∧ a + 2 < 1160) (h1 : -2147483648 ≤ S 0 (a + 1) ∧ S 0 (a + 1) ≤ 2147483647) (h2 : -2147483648 ≤ S 0 (a + 2) ∧ S 0 (a + 2) ≤ 2147483647) : KM w yX4_progressOf cX4_progressOf 2 (some (.long)) { frames := 0, cells := 0, slots := 0, locals := 0 } (1, 0) [.ref (α 4 0), .int (iI a)] n α K (fun r n' α' K' => n = n' ∧ α = α' ∧ K = K' ∧ (r = prgS S a)) := by
  refine y_start (by decide) (Nat.le_of_ble_eq_true rfl) (fun x hE hQ => ?_)
  have hw := hQ.2
  subst hw
  have hE : YE x cX4_progressOf RX4 (some (.long)) "progressOf" 2 { frames := 0, cells := 0, slots := 0, locals := 0 } := hE
  refine y_wk (fun hWK => ?_)
  have hn0 := hWK.1
  refine y_bud (bc' := 0) (bs' := 0) (Nat.le_refl _) (Nat.le_refl _) ?_
  refine y_to (lv' := [(0, .ref (α 4 0)), (1, .int (iI a))]) (st' := []) rfl rfl rfl ?_
  refine y_aload_n hE rfl 0 rfl dX4_progressOf_0 ?_
  refine gX4_7r (z := 0) hE h40 (MObj.r hM.1 0 (by decide)) (by omega) dX4_progressOf_1 (fun hl_1 => ?_)
  refine y_iload_n hE rfl 1 rfl dX4_progressOf_4 ?_
  refine y_iconst hE dX4_progressOf_5 ?_
  refine y_iadd hE dX4_progressOf_6 ?_
  refine y_iald hE rfl hl_1 (by have hL : K 100 0 (-1) = 1160 := (MObj.l hM.1 0 (by decide)); omega) dX4_progressOf_7 ?_
  refine y_to (st' := [.int (iI (S 0 (a + 1)))]) rfl rfl (by rw [show K 100 0 (a + 1) = S 0 (a + 1) from (MRep.ra hM 0 rfl (by omega) (by first | omega | (show _ < (1160 : Int); omega)))]) ?_
  refine y_i2l hE (by omega) dX4_progressOf_8 ?_
  refine y_ldc2 hE 1000000 (v := 1000000) (by decide) q3052 dX4_progressOf_9 ?_
  refine y_lmul hE dX4_progressOf_12 ?_
  refine y_aload_n hE rfl 0 rfl dX4_progressOf_13 ?_
  refine gX4_7r (z := 0) hE h40 (MObj.r hM.1 0 (by decide)) (by omega) dX4_progressOf_14 (fun hl_14 => ?_)
  refine y_iload_n hE rfl 1 rfl dX4_progressOf_17 ?_
  refine y_iconst hE dX4_progressOf_18 ?_
  refine y_iadd hE dX4_progressOf_19 ?_
  refine y_iald hE rfl hl_14 (by have hL : K 100 0 (-1) = 1160 := (MObj.l hM.1 0 (by decide)); omega) dX4_progressOf_20 ?_
  refine y_to (st' := [.int (iI (S 0 (a + 2))), .long (iL ((S 0 (a + 1)) * 1000000))]) rfl rfl (by rw [show K 100 0 (a + 2) = S 0 (a + 2) from (MRep.ra hM 0 rfl (by omega) (by first | omega | (show _ < (1160 : Int); omega)))]) ?_
  refine y_i2l hE (by omega) dX4_progressOf_21 ?_
  refine y_ladd hE dX4_progressOf_22 ?_
  exact y_lret hE rfl hQ dX4_progressOf_23 Ext.rf ⟨rfl, rfl, rfl, rfl⟩
set_option maxHeartbeats 4000000 in
set_option maxRecDepth 100000 in
theorem m_X4_progress {w : KW} {n : KN} {α : KA} {K : KS} (S : SS) (T : Int) (g : Int) (h40 : (0 : Int) ≤ 0 ∧ 0 < n 4) (hM : MRep S n K) (hW : WFs S) (hX : WFm S 0 T) (hg : 0 ≤ g ∧ g ≤ 1) (hT0 : 0 ≤ T ∧ T ≤ 20000) : KM w yX4_progress cX4_progress 2 (some (.long)) { frames := 1, cells := 0, slots := 0, locals := 21 } (1, 0) [.ref (α 4 0), .int (iI g)] n α K (fun r n' α' K' => n = n' ∧ α = α' ∧ (MRep (oProgress S g).2.2 n K' ∧ KO K K' MK ∧ K' 4 0 25 = (oProgress S g).1 ∧ r = (oProgress S g).2.1)) := by
  refine y_start (by decide) (Nat.le_of_ble_eq_true rfl) (fun x hE hQ => ?_)
  have hw := hQ.2
  subst hw
  have hE : YE x cX4_progress RX4 (some (.long)) "progress" 2 { frames := 1, cells := 0, slots := 0, locals := 21 } := hE
  refine y_wk (fun hWK => ?_)
  have hn0 := hWK.1
  refine y_bud (bc' := 0) (bs' := 0) (Nat.le_refl _) (Nat.le_refl _) ?_
  refine y_to (lv' := [(0, .ref (α 4 0)), (1, .int (iI g))]) (st' := []) rfl rfl rfl ?_
  have wpar := hW.par
  have wclips := hW.clips
  have wnodes := hW.nodes
  have wsts := hW.sts
  have wtrs := hW.trs
  have wthr := hW.thr
  have wtxt := hW.txt
  have xinn := hX.inn
  have xcuts := hX.cuts
  have xfro := hX.fro
  have xmany := hX.many
  have xevn := hX.evn
  have xtks := hX.tks
  simp only [Int.zero_add] at xinn xcuts xfro xmany xevn xtks
  refine y_aload_n hE rfl 0 rfl dX4_progress_0 ?_
  refine y_iconst hE dX4_progress_1 ?_
  refine pX4_94 hE h40 dX4_progress_2 ?_
  refine y_aload_n hE rfl 0 rfl dX4_progress_5 ?_
  refine gX4_145 (z := S 19 0) hE h40 (hM.2.2.2.2.2.1) dX4_progress_6 ?_
  have J26 : (S 19 0 = 0 ∨ g ≠ 0 ∧ S 0 8 = 0) → Y x n α (up3 K 4 0 25 0) 0 0 26 [(0, .ref (α 4 0)), (1, .int (iI g))] [] := by
    intro hz
    refine y_aload_n hE rfl 0 rfl dX4_progress_26 ?_
    refine y_iconst hE dX4_progress_27 ?_
    refine y_callV hE (m_X4_fails 1 h40) (lw_V q2871 q2873 qs53 q133 q2874) (nA := 1) (by decide +kernel) rfl ⟨Nat.le_of_ble_eq_true rfl, Nat.le_of_ble_eq_true rfl⟩ (hdd := rfl) (hcc := rfl) (hq := rfl) (hi := h40) (rest := []) rfl (by decide) dX4_progress_28 (bc' := 0) (bs' := 0) (Nat.le_refl _) (Nat.le_refl _) (fun r_28 n_28 α_28 K_28 hx_28 hp_28 => ?_)
    obtain ⟨rfl, rfl, rfl, hr_28⟩ := hp_28
    refine y_to (st' := [.int (iI r_28)]) rfl rfl rfl ?_
    refine y_pop hE rfl dX4_progress_31 ?_
    refine y_lconst hE 0 (by decide) dX4_progress_32 ?_
    refine y_lret hE rfl hQ dX4_progress_33 Ext.rf ?_
    refine ⟨rfl, rfl, ?_⟩
    unfold oProgress
    (repeat (first | rw [if_pos (by omega)] | rw [if_neg (by omega)]))
    exact ⟨(MRep.t (MRep.t hM 25 (by decide) 0) 25 (by decide) 1), (KO.up (KO.up KO.rf (by unfold MK; decide)) (by unfold MK; decide)), by simp [up3], by first | rfl | (dsimp only; omega)⟩
  refine y_if_eq hE 26 (by decide) (by omega) dX4_progress_9 (fun c_9 => ?_) (fun c_9 => ?_)
  · exact J26  (by omega)
  · refine y_iload_n hE rfl 1 rfl dX4_progress_12 ?_
    have J34 : (¬ (S 19 0 = 0 ∨ g ≠ 0 ∧ S 0 8 = 0)) → Y x n α (up3 K 4 0 25 0) 0 0 34 [(0, .ref (α 4 0)), (1, .int (iI g))] [] := by
      intro hz
      refine y_aload_n hE rfl 0 rfl dX4_progress_34 ?_
      refine y_iload_n hE rfl 1 rfl dX4_progress_35 ?_
      have J46 : ∀ (a : Int), (a = if g = 0 then 12 else 16) → Y x n α (up3 K 4 0 25 0) 0 0 46 [(0, .ref (α 4 0)), (1, .int (iI g))] [.int (iI a), .ref (α 4 0)] := by
        intro a ha
        have hb : (-2147483648 ≤ S 0 (a + 1) ∧ S 0 (a + 1) ≤ 2147483647) ∧ (-2147483648 ≤ S 0 (a + 2) ∧ S 0 (a + 2) ≤ 2147483647) ∧ (a = 12 ∨ a = 16) := by
          by_cases e : g = 0
          · rw [if_pos e] at ha
            have q := hX.ta (by omega)
            unfold TkOk at q
            simp only [Int.zero_add] at q
            rw [ha]
            omega
          · rw [if_neg e] at ha
            have q := (hX.tb (by simp only [Int.zero_add]; omega)).1
            unfold TkOk at q
            simp only [Int.zero_add] at q
            rw [ha]
            omega
        refine y_callV hE (m_X4_progressOf S a h40 (MRep.t hM 25 (by decide) 0) (by omega) (by omega) (by omega)) (lw_V q3121 q3123 qs90 q133 q3124) (nA := 1) (by decide +kernel) rfl ⟨Nat.le_of_ble_eq_true rfl, Nat.le_of_ble_eq_true rfl⟩ (hdd := rfl) (hcc := rfl) (hq := rfl) (hi := h40) (rest := []) rfl (by decide) dX4_progress_46 (bc' := 0) (bs' := 0) (Nat.le_refl _) (Nat.le_refl _) (fun r_46 n_46 α_46 K_46 hx_46 hp_46 => ?_)
        obtain ⟨rfl, rfl, rfl, hr_46⟩ := hp_46
        have e_46 : prgS S a = r_46 := Eq.symm (by rw [hr_46])
        subst e_46
        refine y_to (st' := [.long (iL (prgS S a))]) rfl rfl rfl ?_
        refine y_lret hE rfl hQ dX4_progress_49 Ext.rf ?_
        refine ⟨rfl, rfl, ?_⟩
        unfold oProgress
        rw [if_neg hz]
        exact ⟨(MRep.t hM 25 (by decide) 0), (KO.up KO.rf (by unfold MK; decide)), by simp [up3], by rw [ha]⟩
      refine y_if_eq hE 44 (by decide) (by omega) dX4_progress_36 (fun c_36 => ?_) (fun c_36 => ?_)
      · refine y_bipush hE (by decide) dX4_progress_44 ?_
        exact J46 12 (by first | rw [if_pos (by omega)] | rw [if_neg (by omega)])
      · refine y_bipush hE (by decide) dX4_progress_39 ?_
        refine y_goto hE 46 (by decide) dX4_progress_41 ?_
        exact J46 16 (by first | rw [if_pos (by omega)] | rw [if_neg (by omega)])
    refine y_if_eq hE 34 (by decide) (by omega) dX4_progress_13 (fun c_13 => ?_) (fun c_13 => ?_)
    · exact J34  (by omega)
    · refine y_aload_n hE rfl 0 rfl dX4_progress_16 ?_
      refine gX4_7r (z := 0) hE h40 (MObj.r hM.1 0 (by decide)) (by omega) dX4_progress_17 (fun hl_17 => ?_)
      refine y_bipush hE (by decide) dX4_progress_20 ?_
      refine y_iald hE rfl hl_17 (by have hL : (up3 K 4 0 25 0) 100 0 (-1) = 1160 := (MObj.l hM.1 0 (by decide)); omega) dX4_progress_22 ?_
      refine y_to (st' := [.int (iI (S 0 8))]) rfl rfl (by rw [show (up3 K 4 0 25 0) 100 0 8 = S 0 8 from (MRep.ra hM 0 rfl (by omega) (by first | omega | (show _ < (1160 : Int); omega)))]) ?_
      refine y_if_ne hE 34 (by decide) (by omega) dX4_progress_23 (fun c_23 => ?_) (fun c_23 => ?_)
      · exact J34  (by omega)
      · exact J26  (by omega)
set_option maxHeartbeats 4000000 in
set_option maxRecDepth 100000 in
theorem m_X4_copies {w : KW} {n : KN} {α : KA} {K : KS} (S : SS) (fr to : Int) (h40 : (0 : Int) ≤ 0 ∧ 0 < n 4) (hM : MRep S n K) (hf : 0 ≤ fr ∧ fr + 290 ≤ 1160) (ht : 0 ≤ to ∧ to + 290 ≤ 1160) (hd : fr + 290 ≤ to ∨ to + 290 ≤ fr) : KM w yX4_copies cX4_copies 4 none { frames := 0, cells := 0, slots := 0, locals := 0 } (3, 0) [.ref (α 4 0), .int (iI fr), .int (iI to)] n α K (fun r n' α' K' => n = n' ∧ α = α' ∧ MRep (cpyS S fr to 290) n K' ∧ KO K K' (fun k _ => k = 100) ∧ (True)) := by
  refine y_start (by decide) (Nat.le_of_ble_eq_true rfl) (fun x hE hQ => ?_)
  have hw := hQ.2
  subst hw
  have hE : YE x cX4_copies RX4 none "copies" 4 { frames := 0, cells := 0, slots := 0, locals := 0 } := hE
  refine y_wk (fun hWK => ?_)
  have hn0 := hWK.1
  refine y_bud (bc' := 0) (bs' := 0) (Nat.le_refl _) (Nat.le_refl _) ?_
  refine y_to (lv' := [(0, .ref (α 4 0)), (1, .int (iI fr)), (2, .int (iI to))]) (st' := []) rfl rfl rfl ?_
  refine y_iconst hE dX4_copies_0 ?_
  refine y_istore_n hE rfl [(3, .int (iI 0)), (0, .ref (α 4 0)), (1, .int (iI fr)), (2, .int (iI to))] (by decide) rfl dX4_copies_1 ?_
  have L2 : ∀ (fuel : Nat) (K2 : KS) (k : Int), (MRep (cpyS S fr to k) n K2) → (KO K K2 (fun k _ => k = 100)) → (0 ≤ k ∧ k ≤ 290) → (290 - k).toNat < fuel → Y x n α K2 0 0 2 [(3, .int (iI k)), (0, .ref (α 4 0)), (1, .int (iI fr)), (2, .int (iI to))] [] := by
    intro fuel2
    induction fuel2 with
    | zero => intro K2 k hM2 hk2 hk hfu2; exact absurd hfu2 (Nat.not_lt_zero _)
    | succ fuel2 ih2 =>
      intro K2 k hM2 hk2 hk hfu2
      refine y_iload_n hE rfl 0 rfl dX4_copies_2 ?_
      refine y_sipush hE (by decide) dX4_copies_3 ?_
      refine y_icmp_ge hE 31 (by decide) (by omega) (by omega) dX4_copies_6 (fun c_6 => ?_) (fun c_6 => ?_)
      · exact y_vret (r := 0) hE rfl hQ dX4_copies_31 Ext.rf ⟨rfl, rfl, by rw [show (290 : Int) = k by omega]; exact hM2, hk2, trivial⟩
      · refine y_aload_n hE rfl 1 rfl dX4_copies_9 ?_
        refine gX4_7r (z := 0) hE h40 (MObj.r hM2.1 0 (by decide)) (by omega) dX4_copies_10 (fun hl_10 => ?_)
        refine y_iload_n hE rfl 3 rfl dX4_copies_13 ?_
        refine y_iload_n hE rfl 0 rfl dX4_copies_14 ?_
        refine y_iadd hE dX4_copies_15 ?_
        refine y_aload_n hE rfl 1 rfl dX4_copies_16 ?_
        refine gX4_7r (z := 0) hE h40 (MObj.r hM2.1 0 (by decide)) (by omega) dX4_copies_17 (fun hl_17 => ?_)
        refine y_iload_n hE rfl 2 rfl dX4_copies_20 ?_
        refine y_iload_n hE rfl 0 rfl dX4_copies_21 ?_
        refine y_iadd hE dX4_copies_22 ?_
        refine y_iald hE rfl hl_17 (by have hL : K2 100 0 (-1) = 1160 := (MObj.l hM2.1 0 (by decide)); omega) dX4_copies_23 ?_
        refine y_to (st' := [.int (iI ((cpyS S fr to k) 0 (fr + k))), .int (iI (to + k)), .ref (α 100 0)]) rfl rfl (by rw [show K2 100 0 (fr + k) = (cpyS S fr to k) 0 (fr + k) from (MRep.ra hM2 0 rfl (by omega) (by first | omega | (show _ < (1160 : Int); omega)))]) ?_
        refine y_iast hE (by unfold kC; decide) rfl (by simp [kTag]) hl_10 (by have hL : K2 100 0 (-1) = 1160 := (MObj.l hM2.1 0 (by decide)); omega) dX4_copies_24 ?_
        refine y_iinc hE 0 rfl [(3, .int (iI (k + 1))), (0, .ref (α 4 0)), (1, .int (iI fr)), (2, .int (iI to))] (by decide) rfl dX4_copies_25 ?_
        refine y_goto hE 2 (by decide) dX4_copies_28 ?_
        exact ih2 (up3 K2 100 0 (to + k) ((cpyS S fr to k) 0 (fr + k))) (k + 1) (by rw [← cpyS_s (by omega) (by omega)]; exact (MRep.a hM2 0 rfl (j := to + k) (by omega) ((cpyS S fr to k) 0 (fr + k)))) ((KO.up hk2 (by decide))) (by omega) (by omega)
  exact L2 _ K 0 (by rw [cpyS_0]; exact hM) (KO.rf) (by omega) (Nat.lt_succ_self _)
set_option maxHeartbeats 4000000 in
set_option maxRecDepth 100000 in
theorem m_X4_copiesTrack {w : KW} {n : KN} {α : KA} {K : KS} (S : SS) (fr to : Int) (h40 : (0 : Int) ≤ 0 ∧ 0 < n 4) (hM : MRep S n K) (hf : 0 ≤ fr ∧ fr + 4 ≤ 1160) (ht : 0 ≤ to ∧ to + 4 ≤ 1160) (hd : fr + 4 ≤ to ∨ to + 4 ≤ fr) : KM w yX4_copiesTrack cX4_copiesTrack 4 none { frames := 0, cells := 0, slots := 0, locals := 0 } (3, 0) [.ref (α 4 0), .int (iI fr), .int (iI to)] n α K (fun r n' α' K' => n = n' ∧ α = α' ∧ MRep (cpyS S fr to 4) n K' ∧ KO K K' (fun k _ => k = 100) ∧ (True)) := by
  refine y_start (by decide) (Nat.le_of_ble_eq_true rfl) (fun x hE hQ => ?_)
  have hw := hQ.2
  subst hw
  have hE : YE x cX4_copiesTrack RX4 none "copiesTrack" 4 { frames := 0, cells := 0, slots := 0, locals := 0 } := hE
  refine y_wk (fun hWK => ?_)
  have hn0 := hWK.1
  refine y_bud (bc' := 0) (bs' := 0) (Nat.le_refl _) (Nat.le_refl _) ?_
  refine y_to (lv' := [(0, .ref (α 4 0)), (1, .int (iI fr)), (2, .int (iI to))]) (st' := []) rfl rfl rfl ?_
  refine y_iconst hE dX4_copiesTrack_0 ?_
  refine y_istore_n hE rfl [(3, .int (iI 0)), (0, .ref (α 4 0)), (1, .int (iI fr)), (2, .int (iI to))] (by decide) rfl dX4_copiesTrack_1 ?_
  have L2 : ∀ (fuel : Nat) (K2 : KS) (k : Int), (MRep (cpyS S fr to k) n K2) → (KO K K2 (fun k _ => k = 100)) → (0 ≤ k ∧ k ≤ 4) → (4 - k).toNat < fuel → Y x n α K2 0 0 2 [(3, .int (iI k)), (0, .ref (α 4 0)), (1, .int (iI fr)), (2, .int (iI to))] [] := by
    intro fuel2
    induction fuel2 with
    | zero => intro K2 k hM2 hk2 hk hfu2; exact absurd hfu2 (Nat.not_lt_zero _)
    | succ fuel2 ih2 =>
      intro K2 k hM2 hk2 hk hfu2
      refine y_iload_n hE rfl 0 rfl dX4_copiesTrack_2 ?_
      refine y_iconst hE dX4_copiesTrack_3 ?_
      refine y_icmp_ge hE 29 (by decide) (by omega) (by omega) dX4_copiesTrack_4 (fun c_4 => ?_) (fun c_4 => ?_)
      · exact y_vret (r := 0) hE rfl hQ dX4_copiesTrack_29 Ext.rf ⟨rfl, rfl, by rw [show (4 : Int) = k by omega]; exact hM2, hk2, trivial⟩
      · refine y_aload_n hE rfl 1 rfl dX4_copiesTrack_7 ?_
        refine gX4_7r (z := 0) hE h40 (MObj.r hM2.1 0 (by decide)) (by omega) dX4_copiesTrack_8 (fun hl_8 => ?_)
        refine y_iload_n hE rfl 3 rfl dX4_copiesTrack_11 ?_
        refine y_iload_n hE rfl 0 rfl dX4_copiesTrack_12 ?_
        refine y_iadd hE dX4_copiesTrack_13 ?_
        refine y_aload_n hE rfl 1 rfl dX4_copiesTrack_14 ?_
        refine gX4_7r (z := 0) hE h40 (MObj.r hM2.1 0 (by decide)) (by omega) dX4_copiesTrack_15 (fun hl_15 => ?_)
        refine y_iload_n hE rfl 2 rfl dX4_copiesTrack_18 ?_
        refine y_iload_n hE rfl 0 rfl dX4_copiesTrack_19 ?_
        refine y_iadd hE dX4_copiesTrack_20 ?_
        refine y_iald hE rfl hl_15 (by have hL : K2 100 0 (-1) = 1160 := (MObj.l hM2.1 0 (by decide)); omega) dX4_copiesTrack_21 ?_
        refine y_to (st' := [.int (iI ((cpyS S fr to k) 0 (fr + k))), .int (iI (to + k)), .ref (α 100 0)]) rfl rfl (by rw [show K2 100 0 (fr + k) = (cpyS S fr to k) 0 (fr + k) from (MRep.ra hM2 0 rfl (by omega) (by first | omega | (show _ < (1160 : Int); omega)))]) ?_
        refine y_iast hE (by unfold kC; decide) rfl (by simp [kTag]) hl_8 (by have hL : K2 100 0 (-1) = 1160 := (MObj.l hM2.1 0 (by decide)); omega) dX4_copiesTrack_22 ?_
        refine y_iinc hE 0 rfl [(3, .int (iI (k + 1))), (0, .ref (α 4 0)), (1, .int (iI fr)), (2, .int (iI to))] (by decide) rfl dX4_copiesTrack_23 ?_
        refine y_goto hE 2 (by decide) dX4_copiesTrack_26 ?_
        exact ih2 (up3 K2 100 0 (to + k) ((cpyS S fr to k) 0 (fr + k))) (k + 1) (by rw [← cpyS_s (by omega) (by omega)]; exact (MRep.a hM2 0 rfl (j := to + k) (by omega) ((cpyS S fr to k) 0 (fr + k)))) ((KO.up hk2 (by decide))) (by omega) (by omega)
  exact L2 _ K 0 (by rw [cpyS_0]; exact hM) (KO.rf) (by omega) (Nat.lt_succ_self _)
set_option maxHeartbeats 4000000 in
set_option maxRecDepth 100000 in
theorem m_X4_reset {w : KW} {n : KN} {α : KA} {K : KS} (S : SS) (T : Int)  (h40 : (0 : Int) ≤ 0 ∧ 0 < n 4) (hM : MRep S n K) (hW : WFs S) (hX : WFm S 0 T) : KM w yX4_reset cX4_reset 3 (some (.int)) { frames := 2, cells := 0, slots := 0, locals := 43 } (0, 0) [.ref (α 4 0)] n α K (fun r n' α' K' => n = n' ∧ α = α' ∧ (MRep (oReset S).2.2 n K' ∧ KO K K' MK ∧ K' 4 0 25 = (oReset S).1 ∧ r = (oReset S).2.1)) := by
  refine y_start (by decide) (Nat.le_of_ble_eq_true rfl) (fun x hE hQ => ?_)
  have hw := hQ.2
  subst hw
  have hE : YE x cX4_reset RX4 (some (.int)) "reset" 3 { frames := 2, cells := 0, slots := 0, locals := 43 } := hE
  refine y_wk (fun hWK => ?_)
  have hn0 := hWK.1
  refine y_bud (bc' := 0) (bs' := 0) (Nat.le_refl _) (Nat.le_refl _) ?_
  refine y_to (lv' := [(0, .ref (α 4 0))]) (st' := []) rfl rfl rfl ?_
  have wpar := hW.par
  have wclips := hW.clips
  have wnodes := hW.nodes
  have wsts := hW.sts
  have wtrs := hW.trs
  have wthr := hW.thr
  have wtxt := hW.txt
  have xinn := hX.inn
  have xcuts := hX.cuts
  have xfro := hX.fro
  have xmany := hX.many
  have xevn := hX.evn
  have xtks := hX.tks
  simp only [Int.zero_add] at xinn xcuts xfro xmany xevn xtks
  refine y_aload_n hE rfl 0 rfl dX4_reset_0 ?_
  refine y_iconst hE dX4_reset_1 ?_
  refine pX4_94 hE h40 dX4_reset_2 ?_
  refine y_aload_n hE rfl 0 rfl dX4_reset_5 ?_
  refine gX4_7r (z := 0) hE h40 (MObj.r hM.1 0 (by decide)) (by omega) dX4_reset_6 (fun hl_6 => ?_)
  refine y_sipush hE (by decide) dX4_reset_9 ?_
  refine y_iald hE rfl hl_6 (by have hL : (up3 K 4 0 25 0) 100 0 (-1) = 1160 := (MObj.l hM.1 0 (by decide)); omega) dX4_reset_12 ?_
  refine y_to (st' := [.int (iI (S 0 287))]) rfl rfl (by rw [show (up3 K 4 0 25 0) 100 0 287 = S 0 287 from (MRep.ra hM 0 rfl (by omega) (by first | omega | (show _ < (1160 : Int); omega)))]) ?_
  refine y_istore_n hE rfl [(1, .int (iI (S 0 287))), (0, .ref (α 4 0))] (by decide) rfl dX4_reset_13 ?_
  refine y_iconst hE dX4_reset_14 ?_
  refine y_istore_n hE rfl [(2, .int (iI 0)), (1, .int (iI (S 0 287))), (0, .ref (α 4 0))] (by decide) rfl dX4_reset_15 ?_
  have L16 : ∀ (fuel : Nat) (K2 : KS) (p : Int), (MRep (zroS S 0 p) n K2) → (KO K K2 MK) → (0 ≤ p ∧ p ≤ 8) → (K2 4 0 25 = 0) → (8 - p).toNat < fuel → Y x n α K2 0 0 16 [(2, .int (iI p)), (1, .int (iI (S 0 287))), (0, .ref (α 4 0))] [] := by
    intro fuel16
    induction fuel16 with
    | zero => intro K2 p hM2 hk2 hk h25 hfu16; exact absurd hfu16 (Nat.not_lt_zero _)
    | succ fuel16 ih16 =>
      intro K2 p hM2 hk2 hk h25 hfu16
      refine y_iload_n hE rfl 0 rfl dX4_reset_16 ?_
      refine y_bipush hE (by decide) dX4_reset_17 ?_
      refine y_icmp_ge hE 37 (by decide) (by omega) (by omega) dX4_reset_19 (fun c_19 => ?_) (fun c_19 => ?_)
      · refine y_aload_n hE rfl 2 rfl dX4_reset_37 ?_
        refine y_callV hE (m_X4_begins (zroS S 0 p) h40 hM2) (lw_V q2933 q2935 qs59 q133 q2936) (nA := 0) (by decide +kernel) rfl ⟨Nat.le_of_ble_eq_true rfl, Nat.le_of_ble_eq_true rfl⟩ (hdd := rfl) (hcc := rfl) (hq := rfl) (hi := h40) (rest := []) rfl (by decide) dX4_reset_38 (bc' := 0) (bs' := 0) (Nat.le_refl _) (Nat.le_refl _) (fun r_38 n_38 α_38 K_38 hx_38 hp_38 => ?_)
        obtain ⟨rfl, rfl, hM_38, hk_38, hr_38⟩ := hp_38
        have hk4 := hk_38 4 0 (by decide) 25
        refine y_to (st' := []) rfl rfl rfl ?_
        refine y_aload_n hE rfl 2 rfl dX4_reset_41 ?_
        refine gX4_7r (z := 0) hE h40 (MObj.r hM_38.1 0 (by decide)) (by omega) dX4_reset_42 (fun hl_42 => ?_)
        refine y_sipush hE (by decide) dX4_reset_45 ?_
        refine y_iconst hE dX4_reset_48 ?_
        refine y_iast hE (by unfold kC; decide) rfl (by simp [kTag]) hl_42 (by have hL : K_38 100 0 (-1) = 1160 := (MObj.l hM_38.1 0 (by decide)); omega) dX4_reset_49 ?_
        refine y_aload_n hE rfl 2 rfl dX4_reset_50 ?_
        refine gX4_7r (z := 0) hE h40 (MObj.r hM_38.1 0 (by decide)) (by omega) dX4_reset_51 (fun hl_51 => ?_)
        refine y_sipush hE (by decide) dX4_reset_54 ?_
        refine y_iconst hE dX4_reset_57 ?_
        refine y_iast hE (by unfold kC; decide) rfl (by simp [kTag]) hl_51 (by have hL : (up3 K_38 100 0 166 0) 100 0 (-1) = 1160 := (MObj.l hM_38.1 0 (by decide)); omega) dX4_reset_58 ?_
        refine y_aload_n hE rfl 2 rfl dX4_reset_59 ?_
        refine gX4_7r (z := 0) hE h40 (MObj.r hM_38.1 0 (by decide)) (by omega) dX4_reset_60 (fun hl_60 => ?_)
        refine y_sipush hE (by decide) dX4_reset_63 ?_
        refine y_iconst hE dX4_reset_66 ?_
        refine y_iast hE (by unfold kC; decide) rfl (by simp [kTag]) hl_60 (by have hL : (up3 (up3 K_38 100 0 166 0) 100 0 287 0) 100 0 (-1) = 1160 := (MObj.l hM_38.1 0 (by decide)); omega) dX4_reset_67 ?_
        refine y_iload_n hE rfl 1 rfl dX4_reset_68 ?_
        refine y_iret hE rfl rfl hQ dX4_reset_69 Ext.rf ?_
        refine ⟨rfl, rfl, ?_⟩
        unfold oReset
        rw [show (8 : Int) = p by omega]
        exact ⟨(MRep.a (MRep.a (MRep.a hM_38 0 rfl (j := 166) (by omega) 0) 0 rfl (j := 287) (by omega) 0) 0 rfl (j := 288) (by omega) 0), (KO.up (KO.up (KO.up (hk2.tr (KO.mono hk_38 (fun k i z => by unfold MK; (try dsimp only at z); (try dsimp only); omega))) (by unfold MK; decide)) (by unfold MK; decide)) (by unfold MK; decide)), by simp [up3, hk4, h25], rfl⟩
      · refine y_aload_n hE rfl 2 rfl dX4_reset_22 ?_
        refine gX4_7r (z := 0) hE h40 (MObj.r hM2.1 0 (by decide)) (by omega) dX4_reset_23 (fun hl_23 => ?_)
        refine y_iconst hE dX4_reset_26 ?_
        refine y_iload_n hE rfl 0 rfl dX4_reset_27 ?_
        refine y_iadd hE dX4_reset_28 ?_
        refine y_to (st' := [.int (iI p), .ref (α 100 0)]) rfl rfl (by rw [Int.zero_add]) ?_
        refine y_iconst hE dX4_reset_29 ?_
        refine y_iast hE (by unfold kC; decide) rfl (by simp [kTag]) hl_23 (by have hL : K2 100 0 (-1) = 1160 := (MObj.l hM2.1 0 (by decide)); omega) dX4_reset_30 ?_
        refine y_iinc hE 0 rfl [(2, .int (iI (p + 1))), (1, .int (iI (S 0 287))), (0, .ref (α 4 0))] (by decide) rfl dX4_reset_31 ?_
        refine y_goto hE 16 (by decide) dX4_reset_34 ?_
        exact ih16 (up3 K2 100 0 p 0) (p + 1) (by rw [← zroS_s (by omega)]; exact (MRep.a hM2 0 rfl (j := p) (by omega) 0)) ((KO.up hk2 (by unfold MK; decide))) (by omega) (by simp [up3, h25]) (by omega)
  exact L16 _ (up3 K 4 0 25 0) 0 (by rw [zroS_0]; exact (MRep.t hM 25 (by decide) 0)) ((KO.up KO.rf (by unfold MK; decide))) (by omega) (by simp [up3]) (Nat.lt_succ_self _)
set_option maxHeartbeats 4000000 in
set_option maxRecDepth 100000 in
theorem m_X4_keep {w : KW} {n : KN} {α : KA} {K : KS} (S : SS) (T : Int) (b : Int) (h40 : (0 : Int) ≤ 0 ∧ 0 < n 4) (hM : MRep S n K) (hW : WFs S) (hX : WFm S 0 T) (hb : -2147483648 ≤ b ∧ b ≤ 2147483647) : KM w yX4_keep cX4_keep 2 (some (.int)) { frames := 1, cells := 0, slots := 0, locals := 25 } (0, 0) [.ref (α 4 0), .int (iI b)] n α K (fun r n' α' K' => n = n' ∧ α = α' ∧ (MRep (oKeep S b).2.2 n K' ∧ KO K K' MK ∧ K' 4 0 25 = (oKeep S b).1 ∧ r = (oKeep S b).2.1)) := by
  refine y_start (by decide) (Nat.le_of_ble_eq_true rfl) (fun x hE hQ => ?_)
  have hw := hQ.2
  subst hw
  have hE : YE x cX4_keep RX4 (some (.int)) "keep" 2 { frames := 1, cells := 0, slots := 0, locals := 25 } := hE
  refine y_wk (fun hWK => ?_)
  have hn0 := hWK.1
  refine y_bud (bc' := 0) (bs' := 0) (Nat.le_refl _) (Nat.le_refl _) ?_
  refine y_to (lv' := [(0, .ref (α 4 0)), (1, .int (iI b))]) (st' := []) rfl rfl rfl ?_
  have wpar := hW.par
  have wclips := hW.clips
  have wnodes := hW.nodes
  have wsts := hW.sts
  have wtrs := hW.trs
  have wthr := hW.thr
  have wtxt := hW.txt
  have xinn := hX.inn
  have xcuts := hX.cuts
  have xfro := hX.fro
  have xmany := hX.many
  have xevn := hX.evn
  have xtks := hX.tks
  simp only [Int.zero_add] at xinn xcuts xfro xmany xevn xtks
  refine y_aload_n hE rfl 0 rfl dX4_keep_0 ?_
  refine y_iconst hE dX4_keep_1 ?_
  refine pX4_94 hE h40 dX4_keep_2 ?_
  refine y_iload_n hE rfl 1 rfl dX4_keep_5 ?_
  refine y_i2l hE (by omega) dX4_keep_6 ?_
  refine y_lconst hE 0 (by decide) dX4_keep_7 ?_
  refine y_lconst hE 1 (by decide) dX4_keep_8 ?_
  refine y_callS hE (m_X4_in b 0 1 (by omega) (by omega) (by omega)) (lw_S q2868 q2869 q133 q2870) (nA := 3) (by decide +kernel) rfl ⟨Nat.le_of_ble_eq_true rfl, Nat.le_of_ble_eq_true rfl⟩ (rest := []) rfl (by decide) dX4_keep_9 (bc' := 0) (bs' := 0) (Nat.le_refl _) (Nat.le_refl _) (fun r_9 n_9 α_9 K_9 hx_9 hp_9 => ?_)
  obtain ⟨rfl, rfl, rfl, hr_9⟩ := hp_9
  refine y_to (st' := [.int (iI r_9)]) rfl rfl rfl ?_
  refine y_if_ne hE 21 (by decide) (by omega) dX4_keep_12 (fun c_12 => ?_) (fun c_12 => ?_)
  · refine y_aload_n hE rfl 0 rfl dX4_keep_21 ?_
    refine gX4_145 (z := S 19 0) hE h40 (hM.2.2.2.2.2.1) dX4_keep_22 ?_
    refine y_if_ne hE 34 (by decide) (by omega) dX4_keep_25 (fun c_25 => ?_) (fun c_25 => ?_)
    · refine y_aload_n hE rfl 0 rfl dX4_keep_34 ?_
      refine gX4_7r (z := 0) hE h40 (MObj.r hM.1 0 (by decide)) (by omega) dX4_keep_35 (fun hl_35 => ?_)
      refine y_sipush hE (by decide) dX4_keep_38 ?_
      refine y_aload_n hE rfl 0 rfl dX4_keep_41 ?_
      refine gX4_107 (z := S 3 0) hE h40 (hM.2.2.1) dX4_keep_42 ?_
      refine y_iast hE (by unfold kC; decide) rfl (by simp [kTag]) hl_35 (by have hL : (up3 K 4 0 25 0) 100 0 (-1) = 1160 := (MObj.l hM.1 0 (by decide)); omega) dX4_keep_45 ?_
      refine y_aload_n hE rfl 0 rfl dX4_keep_46 ?_
      refine y_iconst hE dX4_keep_47 ?_
      refine y_sipush hE (by decide) dX4_keep_48 ?_
      refine y_sipush hE (by decide) dX4_keep_51 ?_
      refine y_iload_n hE rfl 1 rfl dX4_keep_54 ?_
      refine y_imul hE dX4_keep_55 ?_
      refine y_iadd hE dX4_keep_56 ?_
      have hz4 : (up3 (up3 K 4 0 25 0) 100 0 289 (S 3 0)) 4 0 25 = 0 := by first | (simp [up3]; done) | (simp [up3]; assumption)
      refine y_callV hE (m_X4_copies (up2 S 0 289 (S 3 0)) 0 (290 + (290 * b)) h40 (MRep.a (MRep.t hM 25 (by decide) 0) 0 rfl (j := 289) (by omega) (S 3 0)) (by omega) (by omega) (by omega)) (lw_V q3243 q3245 qs106 q133 q3246) (nA := 2) (by decide +kernel) rfl ⟨Nat.le_of_ble_eq_true rfl, Nat.le_of_ble_eq_true rfl⟩ (hdd := rfl) (hcc := rfl) (hq := rfl) (hi := h40) (rest := []) rfl (by decide) dX4_keep_57 (bc' := 0) (bs' := 0) (Nat.le_refl _) (Nat.le_refl _) (fun r_57 n_57 α_57 K_57 hx_57 hp_57 => ?_)
      obtain ⟨rfl, rfl, hM_57, hk_57, hr_57⟩ := hp_57
      have hk4 := hk_57 4 0 (by decide) 25
      refine y_to (st' := []) rfl rfl rfl ?_
      refine y_aload_n hE rfl 0 rfl dX4_keep_60 ?_
      refine gX4_13r (z := 0) hE h40 (MObj.r hM_57.1 1 (by decide)) (by omega) dX4_keep_61 (fun hl_61 => ?_)
      refine y_iload_n hE rfl 1 rfl dX4_keep_64 ?_
      refine y_iconst hE dX4_keep_65 ?_
      refine y_zast hE (by unfold kC; decide) rfl (by simp [kTag]) hl_61 (by have hL : K_57 101 0 (-1) = 2 := (MObj.l hM_57.1 1 (by decide)); omega) (by rfl) dX4_keep_66 ?_
      refine y_aload_n hE rfl 0 rfl dX4_keep_67 ?_
      refine gX4_7r (z := 0) hE h40 (MObj.r hM_57.1 0 (by decide)) (by omega) dX4_keep_68 (fun hl_68 => ?_)
      refine y_sipush hE (by decide) dX4_keep_71 ?_
      refine y_iald hE rfl hl_68 (by have hL : (up3 K_57 101 0 b 1) 100 0 (-1) = 1160 := (MObj.l hM_57.1 0 (by decide)); omega) dX4_keep_74 ?_
      refine y_to (st' := [.int (iI ((cpyS (up2 S 0 289 (S 3 0)) 0 (290 + (290 * b)) 290) 0 287))]) rfl rfl (by rw [show (up3 K_57 101 0 b 1) 100 0 287 = (cpyS (up2 S 0 289 (S 3 0)) 0 (290 + (290 * b)) 290) 0 287 from (MRep.ra hM_57 0 rfl (by omega) (by first | omega | (show _ < (1160 : Int); omega)))]) ?_
      refine y_iret hE rfl rfl hQ dX4_keep_75 Ext.rf ?_
      refine ⟨rfl, rfl, ?_⟩
      unfold oKeep
      (repeat (first | rw [if_pos (by omega)] | rw [if_neg (by omega)]))
      exact ⟨(MRep.a hM_57 1 rfl (j := b) (by omega) 1), (KO.up ((KO.up (KO.up KO.rf (by unfold MK; decide)) (by unfold MK; decide)).tr (KO.mono hk_57 (fun k i z => by unfold MK; (try dsimp only at z); (try dsimp only); omega))) (by unfold MK; decide)), by simp [up3, hk4], by simp [cpyS, up2]; omega⟩
    · refine y_aload_n hE rfl 0 rfl dX4_keep_28 ?_
      refine y_iconst hE dX4_keep_29 ?_
      refine y_callV hE (m_X4_fails 2 h40) (lw_V q2871 q2873 qs53 q133 q2874) (nA := 1) (by decide +kernel) rfl ⟨Nat.le_of_ble_eq_true rfl, Nat.le_of_ble_eq_true rfl⟩ (hdd := rfl) (hcc := rfl) (hq := rfl) (hi := h40) (rest := []) rfl (by decide) dX4_keep_30 (bc' := 0) (bs' := 0) (Nat.le_refl _) (Nat.le_refl _) (fun r_30 n_30 α_30 K_30 hx_30 hp_30 => ?_)
      obtain ⟨rfl, rfl, rfl, hr_30⟩ := hp_30
      refine y_to (st' := [.int (iI r_30)]) rfl rfl rfl ?_
      refine y_iret hE rfl rfl hQ dX4_keep_33 Ext.rf ?_
      refine ⟨rfl, rfl, ?_⟩
      unfold oKeep
      (repeat (first | rw [if_pos (by omega)] | rw [if_neg (by omega)]))
      exact ⟨(MRep.t (MRep.t hM 25 (by decide) 0) 25 (by decide) 2), (KO.up (KO.up KO.rf (by unfold MK; decide)) (by unfold MK; decide)), by simp [up3], by first | rfl | (dsimp only; omega)⟩
  · refine y_aload_n hE rfl 0 rfl dX4_keep_15 ?_
    refine y_iconst hE dX4_keep_16 ?_
    refine y_callV hE (m_X4_fails 1 h40) (lw_V q2871 q2873 qs53 q133 q2874) (nA := 1) (by decide +kernel) rfl ⟨Nat.le_of_ble_eq_true rfl, Nat.le_of_ble_eq_true rfl⟩ (hdd := rfl) (hcc := rfl) (hq := rfl) (hi := h40) (rest := []) rfl (by decide) dX4_keep_17 (bc' := 0) (bs' := 0) (Nat.le_refl _) (Nat.le_refl _) (fun r_17 n_17 α_17 K_17 hx_17 hp_17 => ?_)
    obtain ⟨rfl, rfl, rfl, hr_17⟩ := hp_17
    refine y_to (st' := [.int (iI r_17)]) rfl rfl rfl ?_
    refine y_iret hE rfl rfl hQ dX4_keep_20 Ext.rf ?_
    refine ⟨rfl, rfl, ?_⟩
    unfold oKeep
    (repeat (first | rw [if_pos (by omega)] | rw [if_neg (by omega)]))
    exact ⟨(MRep.t (MRep.t hM 25 (by decide) 0) 25 (by decide) 1), (KO.up (KO.up KO.rf (by unfold MK; decide)) (by unfold MK; decide)), by simp [up3], by first | rfl | (dsimp only; omega)⟩
set_option maxHeartbeats 4000000 in
set_option maxRecDepth 100000 in
theorem m_X4_restore {w : KW} {n : KN} {α : KA} {K : KS} (S : SS) (T : Int) (b : Int) (h40 : (0 : Int) ≤ 0 ∧ 0 < n 4) (hM : MRep S n K) (hW : WFs S) (hX : WFm S 0 T) (hb : -2147483648 ≤ b ∧ b ≤ 2147483647) (hk1 : ∀ b, 0 ≤ b → b < 2 → S 1 b = 0 ∨ S 1 b = 1) (hkp : ∀ b, 0 ≤ b → b < 2 → S 1 b ≠ 0 → 0 ≤ S 0 (290 + 290 * b + 289) ∧ S 0 (290 + 290 * b + 289) ≤ 8) : KM w yX4_restore cX4_restore 3 (some (.int)) { frames := 1, cells := 0, slots := 0, locals := 25 } (0, 0) [.ref (α 4 0), .int (iI b)] n α K (fun r n' α' K' => n = n' ∧ α = α' ∧ (MRep (oRestore S b).2.2 n K' ∧ KO K K' MK ∧ K' 4 0 25 = (oRestore S b).1 ∧ r = (oRestore S b).2.1)) := by
  refine y_start (by decide) (Nat.le_of_ble_eq_true rfl) (fun x hE hQ => ?_)
  have hw := hQ.2
  subst hw
  have hE : YE x cX4_restore RX4 (some (.int)) "restore" 3 { frames := 1, cells := 0, slots := 0, locals := 25 } := hE
  refine y_wk (fun hWK => ?_)
  have hn0 := hWK.1
  refine y_bud (bc' := 0) (bs' := 0) (Nat.le_refl _) (Nat.le_refl _) ?_
  refine y_to (lv' := [(0, .ref (α 4 0)), (1, .int (iI b))]) (st' := []) rfl rfl rfl ?_
  have wpar := hW.par
  have wclips := hW.clips
  have wnodes := hW.nodes
  have wsts := hW.sts
  have wtrs := hW.trs
  have wthr := hW.thr
  have wtxt := hW.txt
  have xinn := hX.inn
  have xcuts := hX.cuts
  have xfro := hX.fro
  have xmany := hX.many
  have xevn := hX.evn
  have xtks := hX.tks
  simp only [Int.zero_add] at xinn xcuts xfro xmany xevn xtks
  refine y_aload_n hE rfl 0 rfl dX4_restore_0 ?_
  refine y_iconst hE dX4_restore_1 ?_
  refine pX4_94 hE h40 dX4_restore_2 ?_
  refine y_iload_n hE rfl 1 rfl dX4_restore_5 ?_
  refine y_i2l hE (by omega) dX4_restore_6 ?_
  refine y_lconst hE 0 (by decide) dX4_restore_7 ?_
  refine y_lconst hE 1 (by decide) dX4_restore_8 ?_
  refine y_callS hE (m_X4_in b 0 1 (by omega) (by omega) (by omega)) (lw_S q2868 q2869 q133 q2870) (nA := 3) (by decide +kernel) rfl ⟨Nat.le_of_ble_eq_true rfl, Nat.le_of_ble_eq_true rfl⟩ (rest := []) rfl (by decide) dX4_restore_9 (bc' := 0) (bs' := 0) (Nat.le_refl _) (Nat.le_refl _) (fun r_9 n_9 α_9 K_9 hx_9 hp_9 => ?_)
  obtain ⟨rfl, rfl, rfl, hr_9⟩ := hp_9
  refine y_to (st' := [.int (iI r_9)]) rfl rfl rfl ?_
  refine y_if_ne hE 21 (by decide) (by omega) dX4_restore_12 (fun c_12 => ?_) (fun c_12 => ?_)
  · have hk1b := hk1 b (by omega) (by omega)
    have hkpb := hkp b (by omega) (by omega)
    refine y_aload_n hE rfl 0 rfl dX4_restore_21 ?_
    refine gX4_13r (z := 0) hE h40 (MObj.r hM.1 1 (by decide)) (by omega) dX4_restore_22 (fun hl_22 => ?_)
    refine y_iload_n hE rfl 1 rfl dX4_restore_25 ?_
    refine y_zald hE rfl hl_22 (by have hL : (up3 K 4 0 25 0) 101 0 (-1) = 2 := (MObj.l hM.1 1 (by decide)); omega) dX4_restore_26 ?_
    refine y_to (st' := [.int (iI (S 1 b))]) rfl rfl (by rw [show (up3 K 4 0 25 0) 101 0 b = S 1 b from (MRep.ra hM 1 rfl (by omega) (by first | omega | (show _ < (2 : Int); omega)))]) ?_
    refine y_if_ne hE 36 (by decide) (by omega) dX4_restore_27 (fun c_27 => ?_) (fun c_27 => ?_)
    · refine y_aload_n hE rfl 0 rfl dX4_restore_36 ?_
      refine y_sipush hE (by decide) dX4_restore_37 ?_
      refine y_sipush hE (by decide) dX4_restore_40 ?_
      refine y_iload_n hE rfl 1 rfl dX4_restore_43 ?_
      refine y_imul hE dX4_restore_44 ?_
      refine y_iadd hE dX4_restore_45 ?_
      refine y_iconst hE dX4_restore_46 ?_
      have hz4 : (up3 K 4 0 25 0) 4 0 25 = 0 := by simp [up3]
      refine y_callV hE (m_X4_copies S (290 + (290 * b)) 0 h40 (MRep.t hM 25 (by decide) 0) (by omega) (by omega) (by omega)) (lw_V q3243 q3245 qs106 q133 q3246) (nA := 2) (by decide +kernel) rfl ⟨Nat.le_of_ble_eq_true rfl, Nat.le_of_ble_eq_true rfl⟩ (hdd := rfl) (hcc := rfl) (hq := rfl) (hi := h40) (rest := []) rfl (by decide) dX4_restore_47 (bc' := 0) (bs' := 0) (Nat.le_refl _) (Nat.le_refl _) (fun r_47 n_47 α_47 K_47 hx_47 hp_47 => ?_)
      obtain ⟨rfl, rfl, hM_47, hk_47, hr_47⟩ := hp_47
      have hk4 := hk_47 4 0 (by decide) 25
      refine y_to (st' := []) rfl rfl rfl ?_
      refine y_aload_n hE rfl 0 rfl dX4_restore_50 ?_
      refine gX4_7r (z := 0) hE h40 (MObj.r hM_47.1 0 (by decide)) (by omega) dX4_restore_51 (fun hl_51 => ?_)
      refine y_sipush hE (by decide) dX4_restore_54 ?_
      refine y_iald hE rfl hl_51 (by have hL : K_47 100 0 (-1) = 1160 := (MObj.l hM_47.1 0 (by decide)); omega) dX4_restore_57 ?_
      refine y_to (st' := [.int (iI ((cpyS S (290 + (290 * b)) 0 290) 0 289))]) rfl rfl (by rw [show K_47 100 0 289 = (cpyS S (290 + (290 * b)) 0 290) 0 289 from (MRep.ra hM_47 0 rfl (by omega) (by first | omega | (show _ < (1160 : Int); omega)))]) ?_
      have hpe : (cpyS S (290 + (290 * b)) 0 290) 0 289 = S 0 (290 + 290 * b + 289) := by unfold cpyS; rw [if_pos (by omega)]; congr 1; omega
      refine y_istore_n hE rfl [(2, .int (iI ((cpyS S (290 + (290 * b)) 0 290) 0 289))), (0, .ref (α 4 0)), (1, .int (iI b))] (by decide) rfl dX4_restore_58 ?_
      have L59 : ∀ (fuel : Nat) (K2 : KS) (p : Int), (MRep (zroS (cpyS S (290 + 290 * b) 0 290) (S 0 (290 + 290 * b + 289)) p) n K2) → (KO K K2 MK) → (S 0 (290 + 290 * b + 289) ≤ p ∧ p ≤ 8) → (K2 4 0 25 = 0) → (8 - p).toNat < fuel → Y x n α K2 0 0 59 [(2, .int (iI p)), (0, .ref (α 4 0)), (1, .int (iI b))] [] := by
        intro fuel59
        induction fuel59 with
        | zero => intro K2 p hM2 hk2 hk h25 hfu59; exact absurd hfu59 (Nat.not_lt_zero _)
        | succ fuel59 ih59 =>
          intro K2 p hM2 hk2 hk h25 hfu59
          refine y_iload_n hE rfl 0 rfl dX4_restore_59 ?_
          refine y_bipush hE (by decide) dX4_restore_60 ?_
          refine y_icmp_ge hE 80 (by decide) (by omega) (by omega) dX4_restore_62 (fun c_62 => ?_) (fun c_62 => ?_)
          · refine y_aload_n hE rfl 1 rfl dX4_restore_80 ?_
            refine gX4_7r (z := 0) hE h40 (MObj.r hM2.1 0 (by decide)) (by omega) dX4_restore_81 (fun hl_81 => ?_)
            refine y_sipush hE (by decide) dX4_restore_84 ?_
            refine y_iald hE rfl hl_81 (by have hL : K2 100 0 (-1) = 1160 := (MObj.l hM2.1 0 (by decide)); omega) dX4_restore_87 ?_
            refine y_to (st' := [.int (iI ((zroS (cpyS S (290 + 290 * b) 0 290) (S 0 (290 + 290 * b + 289)) p) 0 287))]) rfl rfl (by rw [show K2 100 0 287 = (zroS (cpyS S (290 + 290 * b) 0 290) (S 0 (290 + 290 * b + 289)) p) 0 287 from (MRep.ra hM2 0 rfl (by omega) (by first | omega | (show _ < (1160 : Int); omega)))]) ?_
            refine y_iret hE rfl rfl hQ dX4_restore_88 Ext.rf ?_
            refine ⟨rfl, rfl, ?_⟩
            unfold oRestore
            (repeat (first | rw [if_pos (by omega)] | rw [if_neg (by omega)]))
            rw [show (8 : Int) = p by omega]
            exact ⟨hM2, hk2, by simp [h25], by unfold zroS cpyS; simp; rw [if_neg (by omega)]; congr 1; omega⟩
          · refine y_aload_n hE rfl 1 rfl dX4_restore_65 ?_
            refine gX4_7r (z := 0) hE h40 (MObj.r hM2.1 0 (by decide)) (by omega) dX4_restore_66 (fun hl_66 => ?_)
            refine y_iconst hE dX4_restore_69 ?_
            refine y_iload_n hE rfl 0 rfl dX4_restore_70 ?_
            refine y_iadd hE dX4_restore_71 ?_
            refine y_to (st' := [.int (iI p), .ref (α 100 0)]) rfl rfl (by rw [Int.zero_add]) ?_
            refine y_iconst hE dX4_restore_72 ?_
            refine y_iast hE (by unfold kC; decide) rfl (by simp [kTag]) hl_66 (by have hL : K2 100 0 (-1) = 1160 := (MObj.l hM2.1 0 (by decide)); omega) dX4_restore_73 ?_
            refine y_iinc hE 0 rfl [(2, .int (iI (p + 1))), (0, .ref (α 4 0)), (1, .int (iI b))] (by decide) rfl dX4_restore_74 ?_
            refine y_goto hE 59 (by decide) dX4_restore_77 ?_
            exact ih59 (up3 K2 100 0 p 0) (p + 1) (by rw [← zroS_s (by omega)]; exact (MRep.a hM2 0 rfl (j := p) (by omega) 0)) ((KO.up hk2 (by unfold MK; decide))) (by omega) (by simp [up3, h25]) (by omega)
      exact L59 _ K_47 ((cpyS S (290 + (290 * b)) 0 290) 0 289) (by rw [hpe, zroS_0]; exact hM_47) (((KO.up KO.rf (by unfold MK; decide)).tr (KO.mono hk_47 (fun k i z => by unfold MK; (try dsimp only at z); (try dsimp only); omega)))) (by rw [hpe]; omega) (by rw [hk4]; exact hz4) (Nat.lt_succ_self _)
    · refine y_aload_n hE rfl 0 rfl dX4_restore_30 ?_
      refine y_iconst hE dX4_restore_31 ?_
      refine y_callV hE (m_X4_fails 2 h40) (lw_V q2871 q2873 qs53 q133 q2874) (nA := 1) (by decide +kernel) rfl ⟨Nat.le_of_ble_eq_true rfl, Nat.le_of_ble_eq_true rfl⟩ (hdd := rfl) (hcc := rfl) (hq := rfl) (hi := h40) (rest := []) rfl (by decide) dX4_restore_32 (bc' := 0) (bs' := 0) (Nat.le_refl _) (Nat.le_refl _) (fun r_32 n_32 α_32 K_32 hx_32 hp_32 => ?_)
      obtain ⟨rfl, rfl, rfl, hr_32⟩ := hp_32
      refine y_to (st' := [.int (iI r_32)]) rfl rfl rfl ?_
      refine y_iret hE rfl rfl hQ dX4_restore_35 Ext.rf ?_
      refine ⟨rfl, rfl, ?_⟩
      unfold oRestore
      (repeat (first | rw [if_pos (by omega)] | rw [if_neg (by omega)]))
      exact ⟨(MRep.t (MRep.t hM 25 (by decide) 0) 25 (by decide) 2), (KO.up (KO.up KO.rf (by unfold MK; decide)) (by unfold MK; decide)), by simp [up3], by first | rfl | (dsimp only; omega)⟩
  · refine y_aload_n hE rfl 0 rfl dX4_restore_15 ?_
    refine y_iconst hE dX4_restore_16 ?_
    refine y_callV hE (m_X4_fails 1 h40) (lw_V q2871 q2873 qs53 q133 q2874) (nA := 1) (by decide +kernel) rfl ⟨Nat.le_of_ble_eq_true rfl, Nat.le_of_ble_eq_true rfl⟩ (hdd := rfl) (hcc := rfl) (hq := rfl) (hi := h40) (rest := []) rfl (by decide) dX4_restore_17 (bc' := 0) (bs' := 0) (Nat.le_refl _) (Nat.le_refl _) (fun r_17 n_17 α_17 K_17 hx_17 hp_17 => ?_)
    obtain ⟨rfl, rfl, rfl, hr_17⟩ := hp_17
    refine y_to (st' := [.int (iI r_17)]) rfl rfl rfl ?_
    refine y_iret hE rfl rfl hQ dX4_restore_20 Ext.rf ?_
    refine ⟨rfl, rfl, ?_⟩
    unfold oRestore
    (repeat (first | rw [if_pos (by omega)] | rw [if_neg (by omega)]))
    exact ⟨(MRep.t (MRep.t hM 25 (by decide) 0) 25 (by decide) 1), (KO.up (KO.up KO.rf (by unfold MK; decide)) (by unfold MK; decide)), by simp [up3], by first | rfl | (dsimp only; omega)⟩
