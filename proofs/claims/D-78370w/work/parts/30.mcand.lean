set_option linter.unusedVariables false
/-- a transition stands in a state's list; leads back to a state from any; is a candidate of the source, of the target (1, 0) -/
def inlI (S : SS) (t s : Int) : Int := if S 20 (17 * t) = -1 ∨ S 20 (17 * t) = s then 1 else 0
def bckI (S : SS) (t s : Int) : Int := if S 20 (17 * t) = -1 ∧ S 20 (17 * t + 1) = s then 1 else 0
def srcI (S : SS) (t : Int) : Int := if inlI S t (S 0 12) = 1 ∧ t ≠ S 0 9 ∧ bckI S t (S 0 16) = 0 ∧ (S 20 (17 * S 0 9 + 6) = 0 ∨ t < S 0 9) then 1 else 0
def tgtI (S : SS) (t : Int) : Int := if inlI S t (S 0 16) = 1 ∧ t ≠ S 0 9 ∧ bckI S t (S 0 16) = 0 then 1 else 0
def modS (S : SS) : Int := if S 0 11 ≥ 2 then 0 else S 20 (17 * S 0 9 + 5)
def lstS (S : SS) (t : Int) : Int := if S 0 8 = 0 then (if inlI S t (S 0 12) = 1 ∧ bckI S t (S 0 12) = 0 then 1 else 0) else if modS S = 4 then (if tgtI S t = 1 then 2 else if srcI S t = 1 then 1 else 0) else if modS S ≠ 2 ∧ 0 < modS S ∧ srcI S t = 1 then 1 else if 1 < modS S ∧ tgtI S t = 1 then 2 else 0
theorem inlI_01 (S : SS) (t s : Int) : inlI S t s = 0 ∨ inlI S t s = 1 := by unfold inlI; split <;> omega
theorem bckI_01 (S : SS) (t s : Int) : bckI S t s = 0 ∨ bckI S t s = 1 := by unfold bckI; split <;> omega
theorem srcI_01 (S : SS) (t : Int) : srcI S t = 0 ∨ srcI S t = 1 := by unfold srcI; split <;> omega
theorem tgtI_01 (S : SS) (t : Int) : tgtI S t = 0 ∨ tgtI S t = 1 := by unfold tgtI; split <;> omega
theorem lstS_012 (S : SS) (t : Int) : lstS S t = 0 ∨ lstS S t = 1 ∨ lstS S t = 2 := by unfold lstS; (repeat' split) <;> omega
theorem lstS_in {S : SS} {t : Int} (h : lstS S t ≠ 0) (h8 : S 0 8 ≠ 0) : S 0 11 < 2 ∧ t ≠ S 0 9 := by
  unfold lstS modS srcI tgtI at h
  rw [if_neg h8] at h
  (repeat' split at h) <;> omega
/-- a condition holds; the first obstacle from the condition k on; the obstacle -/
def hldI (S : SS) (t k : Int) : Int := if S 20 (17 * t + 8 + 3 * k + 1) = 0 then (if S 0 (S 20 (17 * t + 8 + 3 * k)) > S 20 (17 * t + 8 + 3 * k + 2) then 1 else 0) else if S 20 (17 * t + 8 + 3 * k + 1) = 1 then (if S 0 (S 20 (17 * t + 8 + 3 * k)) < S 20 (17 * t + 8 + 3 * k + 2) then 1 else 0) else
  if S 20 (17 * t + 8 + 3 * k + 1) = 2 then (if S 0 (S 20 (17 * t + 8 + 3 * k)) = S 20 (17 * t + 8 + 3 * k + 2) then 1 else 0) else (if S 0 (S 20 (17 * t + 8 + 3 * k)) ≠ S 20 (17 * t + 8 + 3 * k + 2) then 1 else 0)
theorem hldI_01 (S : SS) (t k : Int) : hldI S t k = 0 ∨ hldI S t k = 1 := by unfold hldI; (repeat' split) <;> omega
def agF (S : SS) (t : Int) : Nat → Int → Int
  | 0, _ => 0
  | f + 1, k => if hldI S t k = 1 then agF S t f (k + 1) else 3 + k
def agS (S : SS) (t l : Int) : Int := if S 20 (17 * t + 3) ≠ -1 ∧ prgS S (if l = 2 then 16 else 12) < S 20 (17 * t + 3) * 10000 then 2 else agF S t (S 20 (17 * t + 7)).toNat 0
theorem agF_s {S : SS} {t m k : Int} (h : k < m) : agF S t (m - k).toNat k = if hldI S t k = 1 then agF S t (m - (k + 1)).toNat (k + 1) else 3 + k := by
  rw [show (m - k).toNat = (m - (k + 1)).toNat + 1 by omega, agF]
theorem agF_in (S : SS) (t : Int) : ∀ (f : Nat) (k : Int), 0 ≤ k → 0 ≤ agF S t f k ∧ agF S t f k ≤ 2 + k + f
  | 0, k, h => by rw [agF]; omega
  | f + 1, k, h => by rw [agF]; have := agF_in S t f (k + 1) (by omega); split <;> omega
theorem agS_in {S : SS} (hW : WFs S) {t l : Int} (ht : 0 ≤ t ∧ t < S 21 0) : 0 ≤ agS S t l ∧ agS S t l ≤ 5 := by
  have h1 := hW.tr t ht.1 ht.2
  have h2 := agF_in S t (S 20 (17 * t + 7)).toNat 0 (by omega)
  unfold agS
  split <;> omega
/-- the first possible candidate of a list, from t on in a pass; in both -/
def fsF (S : SS) (l ps : Int) : Nat → Int → Int
  | 0, _ => -1
  | f + 1, t => if (S 20 (17 * t) = -1 ∧ ps = 0 ∨ S 20 (17 * t) ≠ -1 ∧ ps ≠ 0) ∧ lstS S t = l ∧ agS S t l = 0 then t else fsF S l ps f (t + 1)
def fstS (S : SS) (l : Int) : Int := if fsF S l 0 (S 21 0).toNat 0 ≠ -1 then fsF S l 0 (S 21 0).toNat 0 else fsF S l 1 (S 21 0).toNat 0
theorem fsF_s {S : SS} {l ps m t : Int} (h : t < m) : fsF S l ps (m - t).toNat t = if (S 20 (17 * t) = -1 ∧ ps = 0 ∨ S 20 (17 * t) ≠ -1 ∧ ps ≠ 0) ∧ lstS S t = l ∧ agS S t l = 0 then t else fsF S l ps (m - (t + 1)).toNat (t + 1) := by
  rw [show (m - t).toNat = (m - (t + 1)).toNat + 1 by omega, fsF]
theorem fsF_in {S : SS} {l ps : Int} : ∀ (f : Nat) (t : Int), 0 ≤ t → fsF S l ps f t = -1 ∨ t ≤ fsF S l ps f t ∧ fsF S l ps f t < t + f ∧ lstS S (fsF S l ps f t) = l ∧ agS S (fsF S l ps f t) l = 0
  | 0, t, _ => Or.inl rfl
  | f + 1, t, h => by
    rw [fsF]
    split
    · rename_i e; right; exact ⟨Int.le_refl _, by omega, e.2.1, e.2.2⟩
    · rcases fsF_in (S := S) (l := l) (ps := ps) f (t + 1) (by omega) with h | ⟨h1, h2, h3⟩
      · left; exact h
      · right; exact ⟨by omega, by omega, h3⟩
theorem fstS_in (S : SS) (l : Int) : fstS S l = -1 ∨ 0 ≤ fstS S l ∧ fstS S l < S 21 0 ∧ lstS S (fstS S l) = l ∧ agS S (fstS S l) l = 0 := by
  unfold fstS
  have h1 := fsF_in (S := S) (l := l) (ps := 0) (S 21 0).toNat 0 (by omega)
  have h2 := fsF_in (S := S) (l := l) (ps := 1) (S 21 0).toNat 0 (by omega)
  split
  · rcases h1 with h | ⟨a, b, c⟩
    · rename_i e; exact absurd h e
    · right; exact ⟨a, by omega, c⟩
  · rcases h2 with h | ⟨a, b, c⟩
    · left; exact h
    · right; exact ⟨a, by omega, c⟩
def oBlocked (S : SS) (t : Int) : Int × Int × SS := if ¬ (0 ≤ t ∧ t < S 21 0) then (1, 0, S) else (0, if lstS S t = 0 then 1 else agS S t (lstS S t), S)
set_option maxHeartbeats 4000000 in
set_option maxRecDepth 100000 in
theorem m_X4_inList {w : KW} {n : KN} {α : KA} {K : KS} (S : SS) (t s : Int) (h40 : (0 : Int) ≤ 0 ∧ 0 < n 4) (hM : MRep S n K) (hW : WFs S) (ht : 0 ≤ t ∧ t < S 21 0) (hs : -2147483648 ≤ s ∧ s ≤ 2147483647) : KM w yX4_inList cX4_inList 3 (some (.boolean)) { frames := 1, cells := 0, slots := 0, locals := 22 } (0, 0) [.ref (α 4 0), .int (iI t), .int (iI s)] n α K (fun r n' α' K' => n = n' ∧ α = α' ∧ K = K' ∧ (r = inlI S t s)) := by
  refine y_start (by decide) (Nat.le_of_ble_eq_true rfl) (fun x hE hQ => ?_)
  have hw := hQ.2
  subst hw
  have hE : YE x cX4_inList RX4 (some (.boolean)) "inList" 3 { frames := 1, cells := 0, slots := 0, locals := 22 } := hE
  refine y_wk (fun hWK => ?_)
  have hn0 := hWK.1
  refine y_bud (bc' := 0) (bs' := 0) (Nat.le_refl _) (Nat.le_refl _) ?_
  refine y_to (lv' := [(0, .ref (α 4 0)), (1, .int (iI t)), (2, .int (iI s))]) (st' := []) rfl rfl rfl ?_
  have wpar := hW.par
  have wclips := hW.clips
  have wnodes := hW.nodes
  have wsts := hW.sts
  have wtrs := hW.trs
  have wthr := hW.thr
  have wtxt := hW.txt
  have wt := hW.tr t ht.1 ht.2
  refine y_aload_n hE rfl 0 rfl dX4_inList_0 ?_
  refine y_iload_n hE rfl 1 rfl dX4_inList_1 ?_
  refine y_iconst hE dX4_inList_2 ?_
  refine y_callV hE (m_X4_of S t 0 h40 hM (by omega)) (lw_V q2964 q2966 qs64 q133 q2967) (nA := 2) (by decide +kernel) rfl ⟨Nat.le_of_ble_eq_true rfl, Nat.le_of_ble_eq_true rfl⟩ (hdd := rfl) (hcc := rfl) (hq := rfl) (hi := h40) (rest := []) rfl (by decide) dX4_inList_3 (bc' := 0) (bs' := 0) (Nat.le_refl _) (Nat.le_refl _) (fun r_3 n_3 α_3 K_3 hx_3 hp_3 => ?_)
  obtain ⟨rfl, rfl, rfl, hr_3⟩ := hp_3
  have e_3 : S 20 (17 * t) = r_3 := Eq.symm (by rw [hr_3, Int.add_zero])
  subst e_3
  refine y_to (st' := [.int (iI (S 20 (17 * t)))]) rfl rfl rfl ?_
  refine y_iconst hE dX4_inList_6 ?_
  refine y_icmp_eq hE 20 (by decide) (by omega) (by omega) dX4_inList_7 (fun c_7 => ?_) (fun c_7 => ?_)
  · refine y_iconst hE dX4_inList_20 ?_
    refine y_goto hE 25 (by decide) dX4_inList_21 ?_
    exact y_iret hE rfl (nar_b (by omega)).1 hQ dX4_inList_25 Ext.rf ⟨rfl, rfl, rfl, by unfold inlI; first | rw [if_pos (by omega)] | rw [if_neg (by omega)]⟩
  · refine y_aload_n hE rfl 0 rfl dX4_inList_10 ?_
    refine y_iload_n hE rfl 1 rfl dX4_inList_11 ?_
    refine y_iconst hE dX4_inList_12 ?_
    refine y_callV hE (m_X4_of S t 0 h40 hM (by omega)) (lw_V q2964 q2966 qs64 q133 q2967) (nA := 2) (by decide +kernel) rfl ⟨Nat.le_of_ble_eq_true rfl, Nat.le_of_ble_eq_true rfl⟩ (hdd := rfl) (hcc := rfl) (hq := rfl) (hi := h40) (rest := []) rfl (by decide) dX4_inList_13 (bc' := 0) (bs' := 0) (Nat.le_refl _) (Nat.le_refl _) (fun r_13 n_13 α_13 K_13 hx_13 hp_13 => ?_)
    obtain ⟨rfl, rfl, rfl, hr_13⟩ := hp_13
    have e_13 : S 20 (17 * t) = r_13 := Eq.symm (by rw [hr_13, Int.add_zero])
    subst e_13
    refine y_to (st' := [.int (iI (S 20 (17 * t)))]) rfl rfl rfl ?_
    refine y_iload_n hE rfl 2 rfl dX4_inList_16 ?_
    refine y_icmp_ne hE 24 (by decide) (by omega) (by omega) dX4_inList_17 (fun c_17 => ?_) (fun c_17 => ?_)
    · refine y_iconst hE dX4_inList_24 ?_
      exact y_iret hE rfl (nar_b (by omega)).1 hQ dX4_inList_25 Ext.rf ⟨rfl, rfl, rfl, by unfold inlI; first | rw [if_pos (by omega)] | rw [if_neg (by omega)]⟩
    · refine y_iconst hE dX4_inList_20 ?_
      refine y_goto hE 25 (by decide) dX4_inList_21 ?_
      exact y_iret hE rfl (nar_b (by omega)).1 hQ dX4_inList_25 Ext.rf ⟨rfl, rfl, rfl, by unfold inlI; first | rw [if_pos (by omega)] | rw [if_neg (by omega)]⟩
set_option maxHeartbeats 4000000 in
set_option maxRecDepth 100000 in
theorem m_X4_isBack {w : KW} {n : KN} {α : KA} {K : KS} (S : SS) (t s : Int) (h40 : (0 : Int) ≤ 0 ∧ 0 < n 4) (hM : MRep S n K) (hW : WFs S) (ht : 0 ≤ t ∧ t < S 21 0) (hs : -2147483648 ≤ s ∧ s ≤ 2147483647) : KM w yX4_isBack cX4_isBack 3 (some (.boolean)) { frames := 1, cells := 0, slots := 0, locals := 22 } (0, 0) [.ref (α 4 0), .int (iI t), .int (iI s)] n α K (fun r n' α' K' => n = n' ∧ α = α' ∧ K = K' ∧ (r = bckI S t s)) := by
  refine y_start (by decide) (Nat.le_of_ble_eq_true rfl) (fun x hE hQ => ?_)
  have hw := hQ.2
  subst hw
  have hE : YE x cX4_isBack RX4 (some (.boolean)) "isBack" 3 { frames := 1, cells := 0, slots := 0, locals := 22 } := hE
  refine y_wk (fun hWK => ?_)
  have hn0 := hWK.1
  refine y_bud (bc' := 0) (bs' := 0) (Nat.le_refl _) (Nat.le_refl _) ?_
  refine y_to (lv' := [(0, .ref (α 4 0)), (1, .int (iI t)), (2, .int (iI s))]) (st' := []) rfl rfl rfl ?_
  have wpar := hW.par
  have wclips := hW.clips
  have wnodes := hW.nodes
  have wsts := hW.sts
  have wtrs := hW.trs
  have wthr := hW.thr
  have wtxt := hW.txt
  have wt := hW.tr t ht.1 ht.2
  refine y_aload_n hE rfl 0 rfl dX4_isBack_0 ?_
  refine y_iload_n hE rfl 1 rfl dX4_isBack_1 ?_
  refine y_iconst hE dX4_isBack_2 ?_
  refine y_callV hE (m_X4_of S t 0 h40 hM (by omega)) (lw_V q2964 q2966 qs64 q133 q2967) (nA := 2) (by decide +kernel) rfl ⟨Nat.le_of_ble_eq_true rfl, Nat.le_of_ble_eq_true rfl⟩ (hdd := rfl) (hcc := rfl) (hq := rfl) (hi := h40) (rest := []) rfl (by decide) dX4_isBack_3 (bc' := 0) (bs' := 0) (Nat.le_refl _) (Nat.le_refl _) (fun r_3 n_3 α_3 K_3 hx_3 hp_3 => ?_)
  obtain ⟨rfl, rfl, rfl, hr_3⟩ := hp_3
  have e_3 : S 20 (17 * t) = r_3 := Eq.symm (by rw [hr_3, Int.add_zero])
  subst e_3
  refine y_to (st' := [.int (iI (S 20 (17 * t)))]) rfl rfl rfl ?_
  refine y_iconst hE dX4_isBack_6 ?_
  refine y_icmp_ne hE 24 (by decide) (by omega) (by omega) dX4_isBack_7 (fun c_7 => ?_) (fun c_7 => ?_)
  · refine y_iconst hE dX4_isBack_24 ?_
    exact y_iret hE rfl (nar_b (by omega)).1 hQ dX4_isBack_25 Ext.rf ⟨rfl, rfl, rfl, by unfold bckI; first | rw [if_pos (by omega)] | rw [if_neg (by omega)]⟩
  · refine y_aload_n hE rfl 0 rfl dX4_isBack_10 ?_
    refine y_iload_n hE rfl 1 rfl dX4_isBack_11 ?_
    refine y_iconst hE dX4_isBack_12 ?_
    refine y_callV hE (m_X4_of S t 1 h40 hM (by omega)) (lw_V q2964 q2966 qs64 q133 q2967) (nA := 2) (by decide +kernel) rfl ⟨Nat.le_of_ble_eq_true rfl, Nat.le_of_ble_eq_true rfl⟩ (hdd := rfl) (hcc := rfl) (hq := rfl) (hi := h40) (rest := []) rfl (by decide) dX4_isBack_13 (bc' := 0) (bs' := 0) (Nat.le_refl _) (Nat.le_refl _) (fun r_13 n_13 α_13 K_13 hx_13 hp_13 => ?_)
    obtain ⟨rfl, rfl, rfl, hr_13⟩ := hp_13
    have e_13 : S 20 (17 * t + 1) = r_13 := Eq.symm (by rw [hr_13])
    subst e_13
    refine y_to (st' := [.int (iI (S 20 (17 * t + 1)))]) rfl rfl rfl ?_
    refine y_iload_n hE rfl 2 rfl dX4_isBack_16 ?_
    refine y_icmp_ne hE 24 (by decide) (by omega) (by omega) dX4_isBack_17 (fun c_17 => ?_) (fun c_17 => ?_)
    · refine y_iconst hE dX4_isBack_24 ?_
      exact y_iret hE rfl (nar_b (by omega)).1 hQ dX4_isBack_25 Ext.rf ⟨rfl, rfl, rfl, by unfold bckI; first | rw [if_pos (by omega)] | rw [if_neg (by omega)]⟩
    · refine y_iconst hE dX4_isBack_20 ?_
      refine y_goto hE 25 (by decide) dX4_isBack_21 ?_
      exact y_iret hE rfl (nar_b (by omega)).1 hQ dX4_isBack_25 Ext.rf ⟨rfl, rfl, rfl, by unfold bckI; first | rw [if_pos (by omega)] | rw [if_neg (by omega)]⟩
set_option maxHeartbeats 4000000 in
set_option maxRecDepth 100000 in
theorem m_X4_inSource {w : KW} {n : KN} {α : KA} {K : KS} (S : SS) (T t : Int) (h40 : (0 : Int) ≤ 0 ∧ 0 < n 4) (hM : MRep S n K) (hW : WFs S) (hX : WFm S 0 T) (ht : 0 ≤ t ∧ t < S 21 0) (hin : S 0 8 = 1) : KM w yX4_inSource cX4_inSource 3 (some (.boolean)) { frames := 2, cells := 0, slots := 0, locals := 44 } (0, 0) [.ref (α 4 0), .int (iI t)] n α K (fun r n' α' K' => n = n' ∧ α = α' ∧ K = K' ∧ (r = srcI S t)) := by
  refine y_start (by decide) (Nat.le_of_ble_eq_true rfl) (fun x hE hQ => ?_)
  have hw := hQ.2
  subst hw
  have hE : YE x cX4_inSource RX4 (some (.boolean)) "inSource" 3 { frames := 2, cells := 0, slots := 0, locals := 44 } := hE
  refine y_wk (fun hWK => ?_)
  have hn0 := hWK.1
  refine y_bud (bc' := 0) (bs' := 0) (Nat.le_refl _) (Nat.le_refl _) ?_
  refine y_to (lv' := [(0, .ref (α 4 0)), (1, .int (iI t))]) (st' := []) rfl rfl rfl ?_
  have wpar := hW.par
  have wclips := hW.clips
  have wnodes := hW.nodes
  have wsts := hW.sts
  have wtrs := hW.trs
  have wthr := hW.thr
  have wtxt := hW.txt
  have xinn := hX.inn
  have xcuts := hX.cuts
  have xfro := hX.fro
  have xmany := hX.many
  have xevn := hX.evn
  have xtks := hX.tks
  simp only [Int.zero_add] at xinn xcuts xfro xmany xevn xtks
  have xta := hX.ta
  have xtb := hX.tb
  simp only [Int.zero_add] at xta xtb
  unfold TkOk at xta xtb
  have wt := hW.tr t ht.1 ht.2
  have xb := xtb hin
  have wx := hW.tr (S 0 9) (by omega) (by omega)
  have e_0 := inlI_01 S t (S 0 12)
  have e_1 := bckI_01 S t (S 0 16)
  refine y_aload_n hE rfl 0 rfl dX4_inSource_0 ?_
  refine gX4_7r (z := 0) hE h40 (MObj.r hM.1 0 (by decide)) (by omega) dX4_inSource_1 (fun hl_1 => ?_)
  refine y_bipush hE (by decide) dX4_inSource_4 ?_
  refine y_iald hE rfl hl_1 (by have hL : K 100 0 (-1) = 1160 := (MObj.l hM.1 0 (by decide)); omega) dX4_inSource_6 ?_
  refine y_to (st' := [.int (iI (S 0 9))]) rfl rfl (by rw [show K 100 0 9 = S 0 9 from (MRep.ra hM 0 rfl (by omega) (by first | omega | (show _ < (1160 : Int); omega)))]) ?_
  refine y_istore_n hE rfl [(2, .int (iI (S 0 9))), (0, .ref (α 4 0)), (1, .int (iI t))] (by decide) rfl dX4_inSource_7 ?_
  refine y_aload_n hE rfl 1 rfl dX4_inSource_8 ?_
  refine y_iload_n hE rfl 2 rfl dX4_inSource_9 ?_
  refine y_aload_n hE rfl 1 rfl dX4_inSource_10 ?_
  refine gX4_7r (z := 0) hE h40 (MObj.r hM.1 0 (by decide)) (by omega) dX4_inSource_11 (fun hl_11 => ?_)
  refine y_bipush hE (by decide) dX4_inSource_14 ?_
  refine y_iald hE rfl hl_11 (by have hL : K 100 0 (-1) = 1160 := (MObj.l hM.1 0 (by decide)); omega) dX4_inSource_16 ?_
  refine y_to (st' := [.int (iI (S 0 12)), .int (iI t), .ref (α 4 0)]) rfl rfl (by rw [show K 100 0 12 = S 0 12 from (MRep.ra hM 0 rfl (by omega) (by first | omega | (show _ < (1160 : Int); omega)))]) ?_
  refine y_callV hE (m_X4_inList S t (S 0 12) h40 hM (by first | exact hW | omega) (by first | exact ht | omega) (by omega)) (lw_V q3101 q3103 qs85 q133 q3104) (nA := 2) (by decide +kernel) rfl ⟨Nat.le_of_ble_eq_true rfl, Nat.le_of_ble_eq_true rfl⟩ (hdd := rfl) (hcc := rfl) (hq := rfl) (hi := h40) (rest := []) rfl (by decide) dX4_inSource_17 (bc' := 0) (bs' := 0) (Nat.le_refl _) (Nat.le_refl _) (fun r_17 n_17 α_17 K_17 hx_17 hp_17 => ?_)
  obtain ⟨rfl, rfl, rfl, hr_17⟩ := hp_17
  have e_17 : inlI S t (S 0 12) = r_17 := Eq.symm (by rw [hr_17])
  subst e_17
  refine y_to (st' := [.int (iI (inlI S t (S 0 12)))]) rfl rfl rfl ?_
  refine y_if_eq hE 62 (by decide) (by omega) dX4_inSource_20 (fun c_20 => ?_) (fun c_20 => ?_)
  · refine y_iconst hE dX4_inSource_62 ?_
    exact y_iret hE rfl (nar_b (by omega)).1 hQ dX4_inSource_63 Ext.rf ⟨rfl, rfl, rfl, by unfold srcI; first | rw [if_pos (by omega)] | rw [if_neg (by omega)]⟩
  · refine y_iload_n hE rfl 2 rfl dX4_inSource_23 ?_
    refine y_iload_n hE rfl 0 rfl dX4_inSource_24 ?_
    refine y_icmp_eq hE 62 (by decide) (by omega) (by omega) dX4_inSource_25 (fun c_25 => ?_) (fun c_25 => ?_)
    · refine y_iconst hE dX4_inSource_62 ?_
      exact y_iret hE rfl (nar_b (by omega)).1 hQ dX4_inSource_63 Ext.rf ⟨rfl, rfl, rfl, by unfold srcI; first | rw [if_pos (by omega)] | rw [if_neg (by omega)]⟩
    · refine y_aload_n hE rfl 1 rfl dX4_inSource_28 ?_
      refine y_iload_n hE rfl 2 rfl dX4_inSource_29 ?_
      refine y_aload_n hE rfl 1 rfl dX4_inSource_30 ?_
      refine gX4_7r (z := 0) hE h40 (MObj.r hM.1 0 (by decide)) (by omega) dX4_inSource_31 (fun hl_31 => ?_)
      refine y_bipush hE (by decide) dX4_inSource_34 ?_
      refine y_iald hE rfl hl_31 (by have hL : K 100 0 (-1) = 1160 := (MObj.l hM.1 0 (by decide)); omega) dX4_inSource_36 ?_
      refine y_to (st' := [.int (iI (S 0 16)), .int (iI t), .ref (α 4 0)]) rfl rfl (by rw [show K 100 0 16 = S 0 16 from (MRep.ra hM 0 rfl (by omega) (by first | omega | (show _ < (1160 : Int); omega)))]) ?_
      refine y_callV hE (m_X4_isBack S t (S 0 16) h40 hM (by first | exact hW | omega) (by first | exact ht | omega) (by omega)) (lw_V q3105 q3107 qs86 q133 q3108) (nA := 2) (by decide +kernel) rfl ⟨Nat.le_of_ble_eq_true rfl, Nat.le_of_ble_eq_true rfl⟩ (hdd := rfl) (hcc := rfl) (hq := rfl) (hi := h40) (rest := []) rfl (by decide) dX4_inSource_37 (bc' := 0) (bs' := 0) (Nat.le_refl _) (Nat.le_refl _) (fun r_37 n_37 α_37 K_37 hx_37 hp_37 => ?_)
      obtain ⟨rfl, rfl, rfl, hr_37⟩ := hp_37
      have e_37 : bckI S t (S 0 16) = r_37 := Eq.symm (by rw [hr_37])
      subst e_37
      refine y_to (st' := [.int (iI (bckI S t (S 0 16)))]) rfl rfl rfl ?_
      refine y_if_ne hE 62 (by decide) (by omega) dX4_inSource_40 (fun c_40 => ?_) (fun c_40 => ?_)
      · refine y_iconst hE dX4_inSource_62 ?_
        exact y_iret hE rfl (nar_b (by omega)).1 hQ dX4_inSource_63 Ext.rf ⟨rfl, rfl, rfl, by unfold srcI; first | rw [if_pos (by omega)] | rw [if_neg (by omega)]⟩
      · refine y_aload_n hE rfl 1 rfl dX4_inSource_43 ?_
        refine y_iload_n hE rfl 0 rfl dX4_inSource_44 ?_
        refine y_bipush hE (by decide) dX4_inSource_45 ?_
        refine y_callV hE (m_X4_of S (S 0 9) 6 h40 hM (by omega)) (lw_V q2964 q2966 qs64 q133 q2967) (nA := 2) (by decide +kernel) rfl ⟨Nat.le_of_ble_eq_true rfl, Nat.le_of_ble_eq_true rfl⟩ (hdd := rfl) (hcc := rfl) (hq := rfl) (hi := h40) (rest := []) rfl (by decide) dX4_inSource_47 (bc' := 0) (bs' := 0) (Nat.le_refl _) (Nat.le_refl _) (fun r_47 n_47 α_47 K_47 hx_47 hp_47 => ?_)
        obtain ⟨rfl, rfl, rfl, hr_47⟩ := hp_47
        have e_47 : S 20 (17 * (S 0 9) + 6) = r_47 := Eq.symm (by rw [hr_47])
        subst e_47
        refine y_to (st' := [.int (iI (S 20 (17 * (S 0 9) + 6)))]) rfl rfl rfl ?_
        refine y_if_eq hE 58 (by decide) (by omega) dX4_inSource_50 (fun c_50 => ?_) (fun c_50 => ?_)
        · refine y_iconst hE dX4_inSource_58 ?_
          refine y_goto hE 63 (by decide) dX4_inSource_59 ?_
          exact y_iret hE rfl (nar_b (by omega)).1 hQ dX4_inSource_63 Ext.rf ⟨rfl, rfl, rfl, by unfold srcI; first | rw [if_pos (by omega)] | rw [if_neg (by omega)]⟩
        · refine y_iload_n hE rfl 2 rfl dX4_inSource_53 ?_
          refine y_iload_n hE rfl 0 rfl dX4_inSource_54 ?_
          refine y_icmp_ge hE 62 (by decide) (by omega) (by omega) dX4_inSource_55 (fun c_55 => ?_) (fun c_55 => ?_)
          · refine y_iconst hE dX4_inSource_62 ?_
            exact y_iret hE rfl (nar_b (by omega)).1 hQ dX4_inSource_63 Ext.rf ⟨rfl, rfl, rfl, by unfold srcI; first | rw [if_pos (by omega)] | rw [if_neg (by omega)]⟩
          · refine y_iconst hE dX4_inSource_58 ?_
            refine y_goto hE 63 (by decide) dX4_inSource_59 ?_
            exact y_iret hE rfl (nar_b (by omega)).1 hQ dX4_inSource_63 Ext.rf ⟨rfl, rfl, rfl, by unfold srcI; first | rw [if_pos (by omega)] | rw [if_neg (by omega)]⟩
set_option maxHeartbeats 4000000 in
set_option maxRecDepth 100000 in
theorem m_X4_inTarget {w : KW} {n : KN} {α : KA} {K : KS} (S : SS) (T t : Int) (h40 : (0 : Int) ≤ 0 ∧ 0 < n 4) (hM : MRep S n K) (hW : WFs S) (hX : WFm S 0 T) (ht : 0 ≤ t ∧ t < S 21 0) (hin : S 0 8 = 1) : KM w yX4_inTarget cX4_inTarget 2 (some (.boolean)) { frames := 2, cells := 0, slots := 0, locals := 44 } (0, 0) [.ref (α 4 0), .int (iI t)] n α K (fun r n' α' K' => n = n' ∧ α = α' ∧ K = K' ∧ (r = tgtI S t)) := by
  refine y_start (by decide) (Nat.le_of_ble_eq_true rfl) (fun x hE hQ => ?_)
  have hw := hQ.2
  subst hw
  have hE : YE x cX4_inTarget RX4 (some (.boolean)) "inTarget" 2 { frames := 2, cells := 0, slots := 0, locals := 44 } := hE
  refine y_wk (fun hWK => ?_)
  have hn0 := hWK.1
  refine y_bud (bc' := 0) (bs' := 0) (Nat.le_refl _) (Nat.le_refl _) ?_
  refine y_to (lv' := [(0, .ref (α 4 0)), (1, .int (iI t))]) (st' := []) rfl rfl rfl ?_
  have wpar := hW.par
  have wclips := hW.clips
  have wnodes := hW.nodes
  have wsts := hW.sts
  have wtrs := hW.trs
  have wthr := hW.thr
  have wtxt := hW.txt
  have xinn := hX.inn
  have xcuts := hX.cuts
  have xfro := hX.fro
  have xmany := hX.many
  have xevn := hX.evn
  have xtks := hX.tks
  simp only [Int.zero_add] at xinn xcuts xfro xmany xevn xtks
  have xta := hX.ta
  have xtb := hX.tb
  simp only [Int.zero_add] at xta xtb
  unfold TkOk at xta xtb
  have wt := hW.tr t ht.1 ht.2
  have xb := xtb hin
  have wx := hW.tr (S 0 9) (by omega) (by omega)
  have e_0 := inlI_01 S t (S 0 16)
  have e_1 := bckI_01 S t (S 0 16)
  refine y_aload_n hE rfl 0 rfl dX4_inTarget_0 ?_
  refine y_iload_n hE rfl 1 rfl dX4_inTarget_1 ?_
  refine y_aload_n hE rfl 0 rfl dX4_inTarget_2 ?_
  refine gX4_7r (z := 0) hE h40 (MObj.r hM.1 0 (by decide)) (by omega) dX4_inTarget_3 (fun hl_3 => ?_)
  refine y_bipush hE (by decide) dX4_inTarget_6 ?_
  refine y_iald hE rfl hl_3 (by have hL : K 100 0 (-1) = 1160 := (MObj.l hM.1 0 (by decide)); omega) dX4_inTarget_8 ?_
  refine y_to (st' := [.int (iI (S 0 16)), .int (iI t), .ref (α 4 0)]) rfl rfl (by rw [show K 100 0 16 = S 0 16 from (MRep.ra hM 0 rfl (by omega) (by first | omega | (show _ < (1160 : Int); omega)))]) ?_
  refine y_callV hE (m_X4_inList S t (S 0 16) h40 hM (by first | exact hW | omega) (by first | exact ht | omega) (by omega)) (lw_V q3101 q3103 qs85 q133 q3104) (nA := 2) (by decide +kernel) rfl ⟨Nat.le_of_ble_eq_true rfl, Nat.le_of_ble_eq_true rfl⟩ (hdd := rfl) (hcc := rfl) (hq := rfl) (hi := h40) (rest := []) rfl (by decide) dX4_inTarget_9 (bc' := 0) (bs' := 0) (Nat.le_refl _) (Nat.le_refl _) (fun r_9 n_9 α_9 K_9 hx_9 hp_9 => ?_)
  obtain ⟨rfl, rfl, rfl, hr_9⟩ := hp_9
  have e_9 : inlI S t (S 0 16) = r_9 := Eq.symm (by rw [hr_9])
  subst e_9
  refine y_to (st' := [.int (iI (inlI S t (S 0 16)))]) rfl rfl rfl ?_
  refine y_if_eq hE 45 (by decide) (by omega) dX4_inTarget_12 (fun c_12 => ?_) (fun c_12 => ?_)
  · refine y_iconst hE dX4_inTarget_45 ?_
    exact y_iret hE rfl (nar_b (by omega)).1 hQ dX4_inTarget_46 Ext.rf ⟨rfl, rfl, rfl, by unfold tgtI; first | rw [if_pos (by omega)] | rw [if_neg (by omega)]⟩
  · refine y_iload_n hE rfl 1 rfl dX4_inTarget_15 ?_
    refine y_aload_n hE rfl 0 rfl dX4_inTarget_16 ?_
    refine gX4_7r (z := 0) hE h40 (MObj.r hM.1 0 (by decide)) (by omega) dX4_inTarget_17 (fun hl_17 => ?_)
    refine y_bipush hE (by decide) dX4_inTarget_20 ?_
    refine y_iald hE rfl hl_17 (by have hL : K 100 0 (-1) = 1160 := (MObj.l hM.1 0 (by decide)); omega) dX4_inTarget_22 ?_
    refine y_to (st' := [.int (iI (S 0 9)), .int (iI t)]) rfl rfl (by rw [show K 100 0 9 = S 0 9 from (MRep.ra hM 0 rfl (by omega) (by first | omega | (show _ < (1160 : Int); omega)))]) ?_
    refine y_icmp_eq hE 45 (by decide) (by omega) (by omega) dX4_inTarget_23 (fun c_23 => ?_) (fun c_23 => ?_)
    · refine y_iconst hE dX4_inTarget_45 ?_
      exact y_iret hE rfl (nar_b (by omega)).1 hQ dX4_inTarget_46 Ext.rf ⟨rfl, rfl, rfl, by unfold tgtI; first | rw [if_pos (by omega)] | rw [if_neg (by omega)]⟩
    · refine y_aload_n hE rfl 0 rfl dX4_inTarget_26 ?_
      refine y_iload_n hE rfl 1 rfl dX4_inTarget_27 ?_
      refine y_aload_n hE rfl 0 rfl dX4_inTarget_28 ?_
      refine gX4_7r (z := 0) hE h40 (MObj.r hM.1 0 (by decide)) (by omega) dX4_inTarget_29 (fun hl_29 => ?_)
      refine y_bipush hE (by decide) dX4_inTarget_32 ?_
      refine y_iald hE rfl hl_29 (by have hL : K 100 0 (-1) = 1160 := (MObj.l hM.1 0 (by decide)); omega) dX4_inTarget_34 ?_
      refine y_to (st' := [.int (iI (S 0 16)), .int (iI t), .ref (α 4 0)]) rfl rfl (by rw [show K 100 0 16 = S 0 16 from (MRep.ra hM 0 rfl (by omega) (by first | omega | (show _ < (1160 : Int); omega)))]) ?_
      refine y_callV hE (m_X4_isBack S t (S 0 16) h40 hM (by first | exact hW | omega) (by first | exact ht | omega) (by omega)) (lw_V q3105 q3107 qs86 q133 q3108) (nA := 2) (by decide +kernel) rfl ⟨Nat.le_of_ble_eq_true rfl, Nat.le_of_ble_eq_true rfl⟩ (hdd := rfl) (hcc := rfl) (hq := rfl) (hi := h40) (rest := []) rfl (by decide) dX4_inTarget_35 (bc' := 0) (bs' := 0) (Nat.le_refl _) (Nat.le_refl _) (fun r_35 n_35 α_35 K_35 hx_35 hp_35 => ?_)
      obtain ⟨rfl, rfl, rfl, hr_35⟩ := hp_35
      have e_35 : bckI S t (S 0 16) = r_35 := Eq.symm (by rw [hr_35])
      subst e_35
      refine y_to (st' := [.int (iI (bckI S t (S 0 16)))]) rfl rfl rfl ?_
      refine y_if_ne hE 45 (by decide) (by omega) dX4_inTarget_38 (fun c_38 => ?_) (fun c_38 => ?_)
      · refine y_iconst hE dX4_inTarget_45 ?_
        exact y_iret hE rfl (nar_b (by omega)).1 hQ dX4_inTarget_46 Ext.rf ⟨rfl, rfl, rfl, by unfold tgtI; first | rw [if_pos (by omega)] | rw [if_neg (by omega)]⟩
      · refine y_iconst hE dX4_inTarget_41 ?_
        refine y_goto hE 46 (by decide) dX4_inTarget_42 ?_
        exact y_iret hE rfl (nar_b (by omega)).1 hQ dX4_inTarget_46 Ext.rf ⟨rfl, rfl, rfl, by unfold tgtI; first | rw [if_pos (by omega)] | rw [if_neg (by omega)]⟩
set_option maxHeartbeats 4000000 in
set_option maxRecDepth 100000 in
theorem m_X4_listOf {w : KW} {n : KN} {α : KA} {K : KS} (S : SS) (T t : Int) (h40 : (0 : Int) ≤ 0 ∧ 0 < n 4) (hM : MRep S n K) (hW : WFs S) (hX : WFm S 0 T) (ht : 0 ≤ t ∧ t < S 21 0) : KM w yX4_listOf cX4_listOf 5 (some (.int)) { frames := 3, cells := 0, slots := 0, locals := 66 } (0, 0) [.ref (α 4 0), .int (iI t)] n α K (fun r n' α' K' => n = n' ∧ α = α' ∧ K = K' ∧ (r = lstS S t)) := by
  refine y_start (by decide) (Nat.le_of_ble_eq_true rfl) (fun x hE hQ => ?_)
  have hw := hQ.2
  subst hw
  have hE : YE x cX4_listOf RX4 (some (.int)) "listOf" 5 { frames := 3, cells := 0, slots := 0, locals := 66 } := hE
  refine y_wk (fun hWK => ?_)
  have hn0 := hWK.1
  refine y_bud (bc' := 0) (bs' := 0) (Nat.le_refl _) (Nat.le_refl _) ?_
  refine y_to (lv' := [(0, .ref (α 4 0)), (1, .int (iI t))]) (st' := []) rfl rfl rfl ?_
  have wpar := hW.par
  have wclips := hW.clips
  have wnodes := hW.nodes
  have wsts := hW.sts
  have wtrs := hW.trs
  have wthr := hW.thr
  have wtxt := hW.txt
  have xinn := hX.inn
  have xcuts := hX.cuts
  have xfro := hX.fro
  have xmany := hX.many
  have xevn := hX.evn
  have xtks := hX.tks
  simp only [Int.zero_add] at xinn xcuts xfro xmany xevn xtks
  have xta := hX.ta
  have xtb := hX.tb
  simp only [Int.zero_add] at xta xtb
  unfold TkOk at xta xtb
  have wt := hW.tr t ht.1 ht.2
  have e_0 := inlI_01 S t (S 0 12)
  have e_1 := bckI_01 S t (S 0 12)
  have e_2 := srcI_01 S t
  have e_3 := tgtI_01 S t
  refine y_aload_n hE rfl 0 rfl dX4_listOf_0 ?_
  refine gX4_7r (z := 0) hE h40 (MObj.r hM.1 0 (by decide)) (by omega) dX4_listOf_1 (fun hl_1 => ?_)
  refine y_bipush hE (by decide) dX4_listOf_4 ?_
  refine y_iald hE rfl hl_1 (by have hL : K 100 0 (-1) = 1160 := (MObj.l hM.1 0 (by decide)); omega) dX4_listOf_6 ?_
  refine y_to (st' := [.int (iI (S 0 8))]) rfl rfl (by rw [show K 100 0 8 = S 0 8 from (MRep.ra hM 0 rfl (by omega) (by first | omega | (show _ < (1160 : Int); omega)))]) ?_
  refine y_if_ne hE 46 (by decide) (by omega) dX4_listOf_7 (fun c_7 => ?_) (fun c_7 => ?_)
  · have J73 : ∀ (md : Int), (md = modS S) → (0 ≤ md ∧ md ≤ 4) → Y x n α K 0 0 73 [(0, .ref (α 4 0)), (1, .int (iI t))] [.int (iI md)] := by
      intro md hmd hmd2
      refine y_istore_n hE rfl [(2, .int (iI md)), (0, .ref (α 4 0)), (1, .int (iI t))] (by decide) rfl dX4_listOf_73 ?_
      have J96 : ∀ (sr : Int), (sr = 1 ∧ (md ≠ 2 ∧ 0 < md ∧ srcI S t = 1) ∨ sr = 0 ∧ ¬ (md ≠ 2 ∧ 0 < md ∧ srcI S t = 1)) → Y x n α K 0 0 96 [(2, .int (iI md)), (0, .ref (α 4 0)), (1, .int (iI t))] [.int (iI sr)] := by
        intro sr hsr
        refine y_istore_n hE rfl [(3, .int (iI sr)), (2, .int (iI md)), (0, .ref (α 4 0)), (1, .int (iI t))] (by decide) rfl dX4_listOf_96 ?_
        have J115 : ∀ (tg : Int), (tg = 1 ∧ (1 < md ∧ tgtI S t = 1) ∨ tg = 0 ∧ ¬ (1 < md ∧ tgtI S t = 1)) → Y x n α K 0 0 115 [(3, .int (iI sr)), (2, .int (iI md)), (0, .ref (α 4 0)), (1, .int (iI t))] [.int (iI tg)] := by
          intro tg htg
          refine y_istore hE [(4, .int (iI tg)), (3, .int (iI sr)), (2, .int (iI md)), (0, .ref (α 4 0)), (1, .int (iI t))] (by decide) rfl dX4_listOf_115 ?_
          refine y_iload_n hE rfl 2 rfl dX4_listOf_117 ?_
          refine y_iconst hE dX4_listOf_118 ?_
          refine y_icmp_ne hE 141 (by decide) (by omega) (by omega) dX4_listOf_119 (fun c_119 => ?_) (fun c_119 => ?_)
          · refine y_iload_n hE rfl 1 rfl dX4_listOf_141 ?_
            refine y_if_eq hE 149 (by decide) (by omega) dX4_listOf_142 (fun c_142 => ?_) (fun c_142 => ?_)
            · refine y_iload hE 0 rfl dX4_listOf_149 ?_
              refine y_if_eq hE 158 (by decide) (by omega) dX4_listOf_151 (fun c_151 => ?_) (fun c_151 => ?_)
              · refine y_iconst hE dX4_listOf_158 ?_
                exact y_iret hE rfl rfl hQ dX4_listOf_159 Ext.rf ⟨rfl, rfl, rfl, by unfold lstS; (repeat (first | rw [if_pos (by omega)] | rw [if_neg (by omega)]))⟩
              · refine y_iconst hE dX4_listOf_154 ?_
                refine y_goto hE 159 (by decide) dX4_listOf_155 ?_
                exact y_iret hE rfl rfl hQ dX4_listOf_159 Ext.rf ⟨rfl, rfl, rfl, by unfold lstS; (repeat (first | rw [if_pos (by omega)] | rw [if_neg (by omega)]))⟩
            · refine y_iconst hE dX4_listOf_145 ?_
              refine y_goto hE 159 (by decide) dX4_listOf_146 ?_
              exact y_iret hE rfl rfl hQ dX4_listOf_159 Ext.rf ⟨rfl, rfl, rfl, by unfold lstS; (repeat (first | rw [if_pos (by omega)] | rw [if_neg (by omega)]))⟩
          · refine y_iload hE 0 rfl dX4_listOf_122 ?_
            refine y_if_eq hE 131 (by decide) (by omega) dX4_listOf_124 (fun c_124 => ?_) (fun c_124 => ?_)
            · refine y_iload_n hE rfl 1 rfl dX4_listOf_131 ?_
              refine y_if_eq hE 139 (by decide) (by omega) dX4_listOf_132 (fun c_132 => ?_) (fun c_132 => ?_)
              · refine y_iconst hE dX4_listOf_139 ?_
                exact y_iret hE rfl rfl hQ dX4_listOf_140 Ext.rf ⟨rfl, rfl, rfl, by unfold lstS; (repeat (first | rw [if_pos (by omega)] | rw [if_neg (by omega)]))⟩
              · refine y_iconst hE dX4_listOf_135 ?_
                refine y_goto hE 140 (by decide) dX4_listOf_136 ?_
                exact y_iret hE rfl rfl hQ dX4_listOf_140 Ext.rf ⟨rfl, rfl, rfl, by unfold lstS; (repeat (first | rw [if_pos (by omega)] | rw [if_neg (by omega)]))⟩
            · refine y_iconst hE dX4_listOf_127 ?_
              refine y_goto hE 140 (by decide) dX4_listOf_128 ?_
              exact y_iret hE rfl rfl hQ dX4_listOf_140 Ext.rf ⟨rfl, rfl, rfl, by unfold lstS; (repeat (first | rw [if_pos (by omega)] | rw [if_neg (by omega)]))⟩
        refine y_iload_n hE rfl 1 rfl dX4_listOf_97 ?_
        refine y_iconst hE dX4_listOf_98 ?_
        refine y_icmp_le hE 114 (by decide) (by omega) (by omega) dX4_listOf_99 (fun c_99 => ?_) (fun c_99 => ?_)
        · refine y_iconst hE dX4_listOf_114 ?_
          exact J115 0 (by omega)
        · refine y_aload_n hE rfl 2 rfl dX4_listOf_102 ?_
          refine y_iload_n hE rfl 3 rfl dX4_listOf_103 ?_
          refine y_callV hE (m_X4_inTarget S T t h40 hM (by first | exact hW | omega) (by first | exact hX | omega) (by first | exact ht | omega) (by omega)) (lw_V q3113 q3115 qs88 q133 q3116) (nA := 1) (by decide +kernel) rfl ⟨Nat.le_of_ble_eq_true rfl, Nat.le_of_ble_eq_true rfl⟩ (hdd := rfl) (hcc := rfl) (hq := rfl) (hi := h40) (rest := []) rfl (by decide) dX4_listOf_104 (bc' := 0) (bs' := 0) (Nat.le_refl _) (Nat.le_refl _) (fun r_104 n_104 α_104 K_104 hx_104 hp_104 => ?_)
          obtain ⟨rfl, rfl, rfl, hr_104⟩ := hp_104
          have e_104 : tgtI S t = r_104 := Eq.symm (by rw [hr_104])
          subst e_104
          refine y_to (st' := [.int (iI (tgtI S t))]) rfl rfl rfl ?_
          refine y_if_eq hE 114 (by decide) (by omega) dX4_listOf_107 (fun c_107 => ?_) (fun c_107 => ?_)
          · refine y_iconst hE dX4_listOf_114 ?_
            exact J115 0 (by omega)
          · refine y_iconst hE dX4_listOf_110 ?_
            refine y_goto hE 115 (by decide) dX4_listOf_111 ?_
            exact J115 1 (by omega)
      refine y_iload_n hE rfl 0 rfl dX4_listOf_74 ?_
      refine y_iconst hE dX4_listOf_75 ?_
      refine y_icmp_eq hE 95 (by decide) (by omega) (by omega) dX4_listOf_76 (fun c_76 => ?_) (fun c_76 => ?_)
      · refine y_iconst hE dX4_listOf_95 ?_
        exact J96 0 (by omega)
      · refine y_iload_n hE rfl 0 rfl dX4_listOf_79 ?_
        refine y_if_le hE 95 (by decide) (by omega) dX4_listOf_80 (fun c_80 => ?_) (fun c_80 => ?_)
        · refine y_iconst hE dX4_listOf_95 ?_
          exact J96 0 (by omega)
        · refine y_aload_n hE rfl 1 rfl dX4_listOf_83 ?_
          refine y_iload_n hE rfl 2 rfl dX4_listOf_84 ?_
          refine y_callV hE (m_X4_inSource S T t h40 hM (by first | exact hW | omega) (by first | exact hX | omega) (by first | exact ht | omega) (by omega)) (lw_V q3109 q3111 qs87 q133 q3112) (nA := 1) (by decide +kernel) rfl ⟨Nat.le_of_ble_eq_true rfl, Nat.le_of_ble_eq_true rfl⟩ (hdd := rfl) (hcc := rfl) (hq := rfl) (hi := h40) (rest := []) rfl (by decide) dX4_listOf_85 (bc' := 0) (bs' := 0) (Nat.le_refl _) (Nat.le_refl _) (fun r_85 n_85 α_85 K_85 hx_85 hp_85 => ?_)
          obtain ⟨rfl, rfl, rfl, hr_85⟩ := hp_85
          have e_85 : srcI S t = r_85 := Eq.symm (by rw [hr_85])
          subst e_85
          refine y_to (st' := [.int (iI (srcI S t))]) rfl rfl rfl ?_
          refine y_if_eq hE 95 (by decide) (by omega) dX4_listOf_88 (fun c_88 => ?_) (fun c_88 => ?_)
          · refine y_iconst hE dX4_listOf_95 ?_
            exact J96 0 (by omega)
          · refine y_iconst hE dX4_listOf_91 ?_
            refine y_goto hE 96 (by decide) dX4_listOf_92 ?_
            exact J96 1 (by omega)
    have xb := xtb (by omega)
    have wx := hW.tr (S 0 9) (by omega) (by omega)
    refine y_aload_n hE rfl 0 rfl dX4_listOf_46 ?_
    refine gX4_7r (z := 0) hE h40 (MObj.r hM.1 0 (by decide)) (by omega) dX4_listOf_47 (fun hl_47 => ?_)
    refine y_bipush hE (by decide) dX4_listOf_50 ?_
    refine y_iald hE rfl hl_47 (by have hL : K 100 0 (-1) = 1160 := (MObj.l hM.1 0 (by decide)); omega) dX4_listOf_52 ?_
    refine y_to (st' := [.int (iI (S 0 11))]) rfl rfl (by rw [show K 100 0 11 = S 0 11 from (MRep.ra hM 0 rfl (by omega) (by first | omega | (show _ < (1160 : Int); omega)))]) ?_
    refine y_iconst hE dX4_listOf_53 ?_
    refine y_icmp_lt hE 61 (by decide) (by omega) (by omega) dX4_listOf_54 (fun c_54 => ?_) (fun c_54 => ?_)
    · refine y_aload_n hE rfl 0 rfl dX4_listOf_61 ?_
      refine y_aload_n hE rfl 0 rfl dX4_listOf_62 ?_
      refine gX4_7r (z := 0) hE h40 (MObj.r hM.1 0 (by decide)) (by omega) dX4_listOf_63 (fun hl_63 => ?_)
      refine y_bipush hE (by decide) dX4_listOf_66 ?_
      refine y_iald hE rfl hl_63 (by have hL : K 100 0 (-1) = 1160 := (MObj.l hM.1 0 (by decide)); omega) dX4_listOf_68 ?_
      refine y_to (st' := [.int (iI (S 0 9)), .ref (α 4 0)]) rfl rfl (by rw [show K 100 0 9 = S 0 9 from (MRep.ra hM 0 rfl (by omega) (by first | omega | (show _ < (1160 : Int); omega)))]) ?_
      refine y_iconst hE dX4_listOf_69 ?_
      refine y_callV hE (m_X4_of S (S 0 9) 5 h40 hM (by omega)) (lw_V q2964 q2966 qs64 q133 q2967) (nA := 2) (by decide +kernel) rfl ⟨Nat.le_of_ble_eq_true rfl, Nat.le_of_ble_eq_true rfl⟩ (hdd := rfl) (hcc := rfl) (hq := rfl) (hi := h40) (rest := []) rfl (by decide) dX4_listOf_70 (bc' := 0) (bs' := 0) (Nat.le_refl _) (Nat.le_refl _) (fun r_70 n_70 α_70 K_70 hx_70 hp_70 => ?_)
      obtain ⟨rfl, rfl, rfl, hr_70⟩ := hp_70
      have e_70 : S 20 (17 * (S 0 9) + 5) = r_70 := Eq.symm (by rw [hr_70])
      subst e_70
      refine y_to (st' := [.int (iI (S 20 (17 * (S 0 9) + 5)))]) rfl rfl rfl ?_
      exact J73 (S 20 (17 * (S 0 9) + 5)) (by unfold modS; first | rw [if_pos (by omega)] | rw [if_neg (by omega)]) (by omega)
    · refine y_iconst hE dX4_listOf_57 ?_
      refine y_goto hE 73 (by decide) dX4_listOf_58 ?_
      exact J73 0 (by unfold modS; first | rw [if_pos (by omega)] | rw [if_neg (by omega)]) (by omega)
  · refine y_aload_n hE rfl 0 rfl dX4_listOf_10 ?_
    refine y_iload_n hE rfl 1 rfl dX4_listOf_11 ?_
    refine y_aload_n hE rfl 0 rfl dX4_listOf_12 ?_
    refine gX4_7r (z := 0) hE h40 (MObj.r hM.1 0 (by decide)) (by omega) dX4_listOf_13 (fun hl_13 => ?_)
    refine y_bipush hE (by decide) dX4_listOf_16 ?_
    refine y_iald hE rfl hl_13 (by have hL : K 100 0 (-1) = 1160 := (MObj.l hM.1 0 (by decide)); omega) dX4_listOf_18 ?_
    refine y_to (st' := [.int (iI (S 0 12)), .int (iI t), .ref (α 4 0)]) rfl rfl (by rw [show K 100 0 12 = S 0 12 from (MRep.ra hM 0 rfl (by omega) (by first | omega | (show _ < (1160 : Int); omega)))]) ?_
    refine y_callV hE (m_X4_inList S t (S 0 12) h40 hM (by first | exact hW | omega) (by first | exact ht | omega) (by omega)) (lw_V q3101 q3103 qs85 q133 q3104) (nA := 2) (by decide +kernel) rfl ⟨Nat.le_of_ble_eq_true rfl, Nat.le_of_ble_eq_true rfl⟩ (hdd := rfl) (hcc := rfl) (hq := rfl) (hi := h40) (rest := []) rfl (by decide) dX4_listOf_19 (bc' := 0) (bs' := 0) (Nat.le_refl _) (Nat.le_refl _) (fun r_19 n_19 α_19 K_19 hx_19 hp_19 => ?_)
    obtain ⟨rfl, rfl, rfl, hr_19⟩ := hp_19
    have e_19 : inlI S t (S 0 12) = r_19 := Eq.symm (by rw [hr_19])
    subst e_19
    refine y_to (st' := [.int (iI (inlI S t (S 0 12)))]) rfl rfl rfl ?_
    refine y_if_eq hE 44 (by decide) (by omega) dX4_listOf_22 (fun c_22 => ?_) (fun c_22 => ?_)
    · refine y_iconst hE dX4_listOf_44 ?_
      exact y_iret hE rfl rfl hQ dX4_listOf_45 Ext.rf ⟨rfl, rfl, rfl, by unfold lstS; (repeat (first | rw [if_pos (by omega)] | rw [if_neg (by omega)]))⟩
    · refine y_aload_n hE rfl 0 rfl dX4_listOf_25 ?_
      refine y_iload_n hE rfl 1 rfl dX4_listOf_26 ?_
      refine y_aload_n hE rfl 0 rfl dX4_listOf_27 ?_
      refine gX4_7r (z := 0) hE h40 (MObj.r hM.1 0 (by decide)) (by omega) dX4_listOf_28 (fun hl_28 => ?_)
      refine y_bipush hE (by decide) dX4_listOf_31 ?_
      refine y_iald hE rfl hl_28 (by have hL : K 100 0 (-1) = 1160 := (MObj.l hM.1 0 (by decide)); omega) dX4_listOf_33 ?_
      refine y_to (st' := [.int (iI (S 0 12)), .int (iI t), .ref (α 4 0)]) rfl rfl (by rw [show K 100 0 12 = S 0 12 from (MRep.ra hM 0 rfl (by omega) (by first | omega | (show _ < (1160 : Int); omega)))]) ?_
      refine y_callV hE (m_X4_isBack S t (S 0 12) h40 hM (by first | exact hW | omega) (by first | exact ht | omega) (by omega)) (lw_V q3105 q3107 qs86 q133 q3108) (nA := 2) (by decide +kernel) rfl ⟨Nat.le_of_ble_eq_true rfl, Nat.le_of_ble_eq_true rfl⟩ (hdd := rfl) (hcc := rfl) (hq := rfl) (hi := h40) (rest := []) rfl (by decide) dX4_listOf_34 (bc' := 0) (bs' := 0) (Nat.le_refl _) (Nat.le_refl _) (fun r_34 n_34 α_34 K_34 hx_34 hp_34 => ?_)
      obtain ⟨rfl, rfl, rfl, hr_34⟩ := hp_34
      have e_34 : bckI S t (S 0 12) = r_34 := Eq.symm (by rw [hr_34])
      subst e_34
      refine y_to (st' := [.int (iI (bckI S t (S 0 12)))]) rfl rfl rfl ?_
      refine y_if_ne hE 44 (by decide) (by omega) dX4_listOf_37 (fun c_37 => ?_) (fun c_37 => ?_)
      · refine y_iconst hE dX4_listOf_44 ?_
        exact y_iret hE rfl rfl hQ dX4_listOf_45 Ext.rf ⟨rfl, rfl, rfl, by unfold lstS; (repeat (first | rw [if_pos (by omega)] | rw [if_neg (by omega)]))⟩
      · refine y_iconst hE dX4_listOf_40 ?_
        refine y_goto hE 45 (by decide) dX4_listOf_41 ?_
        exact y_iret hE rfl rfl hQ dX4_listOf_45 Ext.rf ⟨rfl, rfl, rfl, by unfold lstS; (repeat (first | rw [if_pos (by omega)] | rw [if_neg (by omega)]))⟩
set_option maxHeartbeats 4000000 in
set_option maxRecDepth 100000 in
theorem m_X4_holds {w : KW} {n : KN} {α : KA} {K : KS} (S : SS) (t k : Int) (h40 : (0 : Int) ≤ 0 ∧ 0 < n 4) (hM : MRep S n K) (hW : WFs S) (hv0 : WFv S) (ht : 0 ≤ t ∧ t < S 21 0) (hk : 0 ≤ k ∧ k < S 20 (17 * t + 7)) : KM w yX4_holds cX4_holds 7 (some (.boolean)) { frames := 0, cells := 0, slots := 0, locals := 0 } (0, 0) [.ref (α 4 0), .int (iI t), .int (iI k)] n α K (fun r n' α' K' => n = n' ∧ α = α' ∧ K = K' ∧ (r = hldI S t k)) := by
  refine y_start (by decide) (Nat.le_of_ble_eq_true rfl) (fun x hE hQ => ?_)
  have hw := hQ.2
  subst hw
  have hE : YE x cX4_holds RX4 (some (.boolean)) "holds" 7 { frames := 0, cells := 0, slots := 0, locals := 0 } := hE
  refine y_wk (fun hWK => ?_)
  have hn0 := hWK.1
  refine y_bud (bc' := 0) (bs' := 0) (Nat.le_refl _) (Nat.le_refl _) ?_
  refine y_to (lv' := [(0, .ref (α 4 0)), (1, .int (iI t)), (2, .int (iI k))]) (st' := []) rfl rfl rfl ?_
  have wpar := hW.par
  have wclips := hW.clips
  have wnodes := hW.nodes
  have wsts := hW.sts
  have wtrs := hW.trs
  have wthr := hW.thr
  have wtxt := hW.txt
  have wt := hW.tr t ht.1 ht.2
  have wc := hW.cond t k ht.1 ht.2 hk.1 hk.2
  rw [show 17 * t + 9 + 3 * k = 17 * t + 8 + 3 * k + 1 by omega, show 17 * t + 10 + 3 * k = 17 * t + 8 + 3 * k + 2 by omega] at wc
  have wv := hv0 (S 20 (17 * t + 8 + 3 * k)) (by omega) (by omega)
  refine y_bipush hE (by decide) dX4_holds_0 ?_
  refine y_iload_n hE rfl 1 rfl dX4_holds_2 ?_
  refine y_imul hE dX4_holds_3 ?_
  refine y_bipush hE (by decide) dX4_holds_4 ?_
  refine y_iadd hE dX4_holds_6 ?_
  refine y_iconst hE dX4_holds_7 ?_
  refine y_iload_n hE rfl 2 rfl dX4_holds_8 ?_
  refine y_imul hE dX4_holds_9 ?_
  refine y_iadd hE dX4_holds_10 ?_
  refine y_istore_n hE rfl [(3, .int (iI (((17 * t) + 8) + (3 * k)))), (0, .ref (α 4 0)), (1, .int (iI t)), (2, .int (iI k))] (by decide) rfl dX4_holds_11 ?_
  refine y_aload_n hE rfl 1 rfl dX4_holds_12 ?_
  refine gX4_7r (z := 0) hE h40 (MObj.r hM.1 0 (by decide)) (by omega) dX4_holds_13 (fun hl_13 => ?_)
  refine y_iconst hE dX4_holds_16 ?_
  refine y_aload_n hE rfl 1 rfl dX4_holds_17 ?_
  refine gX4_59r (z := 0) hE h40 (MObj.r hM.1 20 (by decide)) (by omega) dX4_holds_18 (fun hl_18 => ?_)
  refine y_iload_n hE rfl 0 rfl dX4_holds_21 ?_
  refine y_iald hE rfl hl_18 (by have hL : K 120 0 (-1) = 408 := (MObj.l hM.1 20 (by decide)); omega) dX4_holds_22 ?_
  refine y_to (st' := [.int (iI (S 20 (((17 * t) + 8) + (3 * k)))), .int (iI 0), .ref (α 100 0)]) rfl rfl (by rw [show K 120 0 (((17 * t) + 8) + (3 * k)) = S 20 (((17 * t) + 8) + (3 * k)) from (MRep.ra hM 20 rfl (by omega) (by first | omega | (show _ < (408 : Int); omega)))]) ?_
  refine y_iadd hE dX4_holds_23 ?_
  refine y_to (st' := [.int (iI (S 20 (((17 * t) + 8) + (3 * k)))), .ref (α 100 0)]) rfl rfl (by rw [Int.zero_add]) ?_
  refine y_iald hE rfl hl_13 (by have hL : K 100 0 (-1) = 1160 := (MObj.l hM.1 0 (by decide)); omega) dX4_holds_24 ?_
  refine y_to (st' := [.int (iI (S 0 (S 20 (((17 * t) + 8) + (3 * k)))))]) rfl rfl (by rw [show K 100 0 (S 20 (((17 * t) + 8) + (3 * k))) = S 0 (S 20 (((17 * t) + 8) + (3 * k))) from (MRep.ra hM 0 rfl (by omega) (by first | omega | (show _ < (1160 : Int); omega)))]) ?_
  refine y_istore hE [(4, .int (iI (S 0 (S 20 (((17 * t) + 8) + (3 * k)))))), (3, .int (iI (((17 * t) + 8) + (3 * k)))), (0, .ref (α 4 0)), (1, .int (iI t)), (2, .int (iI k))] (by decide) rfl dX4_holds_25 ?_
  refine y_aload_n hE rfl 2 rfl dX4_holds_27 ?_
  refine gX4_59r (z := 0) hE h40 (MObj.r hM.1 20 (by decide)) (by omega) dX4_holds_28 (fun hl_28 => ?_)
  refine y_iload_n hE rfl 1 rfl dX4_holds_31 ?_
  refine y_iconst hE dX4_holds_32 ?_
  refine y_iadd hE dX4_holds_33 ?_
  refine y_iald hE rfl hl_28 (by have hL : K 120 0 (-1) = 408 := (MObj.l hM.1 20 (by decide)); omega) dX4_holds_34 ?_
  refine y_to (st' := [.int (iI (S 20 ((((17 * t) + 8) + (3 * k)) + 2)))]) rfl rfl (by rw [show K 120 0 ((((17 * t) + 8) + (3 * k)) + 2) = S 20 ((((17 * t) + 8) + (3 * k)) + 2) from (MRep.ra hM 20 rfl (by omega) (by first | omega | (show _ < (408 : Int); omega)))]) ?_
  refine y_istore hE [(5, .int (iI (S 20 ((((17 * t) + 8) + (3 * k)) + 2)))), (4, .int (iI (S 0 (S 20 (((17 * t) + 8) + (3 * k)))))), (3, .int (iI (((17 * t) + 8) + (3 * k)))), (0, .ref (α 4 0)), (1, .int (iI t)), (2, .int (iI k))] (by decide) rfl dX4_holds_35 ?_
  refine y_aload_n hE rfl 3 rfl dX4_holds_37 ?_
  refine gX4_59r (z := 0) hE h40 (MObj.r hM.1 20 (by decide)) (by omega) dX4_holds_38 (fun hl_38 => ?_)
  refine y_iload_n hE rfl 2 rfl dX4_holds_41 ?_
  refine y_iconst hE dX4_holds_42 ?_
  refine y_iadd hE dX4_holds_43 ?_
  refine y_iald hE rfl hl_38 (by have hL : K 120 0 (-1) = 408 := (MObj.l hM.1 20 (by decide)); omega) dX4_holds_44 ?_
  refine y_to (st' := [.int (iI (S 20 ((((17 * t) + 8) + (3 * k)) + 1)))]) rfl rfl (by rw [show K 120 0 ((((17 * t) + 8) + (3 * k)) + 1) = S 20 ((((17 * t) + 8) + (3 * k)) + 1) from (MRep.ra hM 20 rfl (by omega) (by first | omega | (show _ < (408 : Int); omega)))]) ?_
  refine y_istore hE [(6, .int (iI (S 20 ((((17 * t) + 8) + (3 * k)) + 1)))), (5, .int (iI (S 20 ((((17 * t) + 8) + (3 * k)) + 2)))), (4, .int (iI (S 0 (S 20 (((17 * t) + 8) + (3 * k)))))), (3, .int (iI (((17 * t) + 8) + (3 * k)))), (0, .ref (α 4 0)), (1, .int (iI t)), (2, .int (iI k))] (by decide) rfl dX4_holds_45 ?_
  refine y_iload hE 0 rfl dX4_holds_47 ?_
  refine y_if_ne hE 67 (by decide) (by omega) dX4_holds_49 (fun c_49 => ?_) (fun c_49 => ?_)
  · refine y_iload hE 0 rfl dX4_holds_67 ?_
    refine y_iconst hE dX4_holds_69 ?_
    refine y_icmp_ne hE 88 (by decide) (by omega) (by omega) dX4_holds_70 (fun c_70 => ?_) (fun c_70 => ?_)
    · refine y_iload hE 0 rfl dX4_holds_88 ?_
      refine y_iconst hE dX4_holds_90 ?_
      refine y_icmp_ne hE 109 (by decide) (by omega) (by omega) dX4_holds_91 (fun c_91 => ?_) (fun c_91 => ?_)
      · refine y_iload hE 2 rfl dX4_holds_109 ?_
        refine y_iload hE 1 rfl dX4_holds_111 ?_
        refine y_icmp_eq hE 120 (by decide) (by omega) (by omega) dX4_holds_113 (fun c_113 => ?_) (fun c_113 => ?_)
        · refine y_iconst hE dX4_holds_120 ?_
          exact y_iret hE rfl (nar_b (by omega)).1 hQ dX4_holds_121 Ext.rf ⟨rfl, rfl, rfl, by unfold hldI; (repeat (first | rw [if_pos (by omega)] | rw [if_neg (by omega)]))⟩
        · refine y_iconst hE dX4_holds_116 ?_
          refine y_goto hE 121 (by decide) dX4_holds_117 ?_
          exact y_iret hE rfl (nar_b (by omega)).1 hQ dX4_holds_121 Ext.rf ⟨rfl, rfl, rfl, by unfold hldI; (repeat (first | rw [if_pos (by omega)] | rw [if_neg (by omega)]))⟩
      · refine y_iload hE 2 rfl dX4_holds_94 ?_
        refine y_iload hE 1 rfl dX4_holds_96 ?_
        refine y_icmp_ne hE 105 (by decide) (by omega) (by omega) dX4_holds_98 (fun c_98 => ?_) (fun c_98 => ?_)
        · refine y_iconst hE dX4_holds_105 ?_
          refine y_goto hE 121 (by decide) dX4_holds_106 ?_
          exact y_iret hE rfl (nar_b (by omega)).1 hQ dX4_holds_121 Ext.rf ⟨rfl, rfl, rfl, by unfold hldI; (repeat (first | rw [if_pos (by omega)] | rw [if_neg (by omega)]))⟩
        · refine y_iconst hE dX4_holds_101 ?_
          refine y_goto hE 121 (by decide) dX4_holds_102 ?_
          exact y_iret hE rfl (nar_b (by omega)).1 hQ dX4_holds_121 Ext.rf ⟨rfl, rfl, rfl, by unfold hldI; (repeat (first | rw [if_pos (by omega)] | rw [if_neg (by omega)]))⟩
    · refine y_iload hE 2 rfl dX4_holds_73 ?_
      refine y_iload hE 1 rfl dX4_holds_75 ?_
      refine y_icmp_ge hE 84 (by decide) (by omega) (by omega) dX4_holds_77 (fun c_77 => ?_) (fun c_77 => ?_)
      · refine y_iconst hE dX4_holds_84 ?_
        refine y_goto hE 121 (by decide) dX4_holds_85 ?_
        exact y_iret hE rfl (nar_b (by omega)).1 hQ dX4_holds_121 Ext.rf ⟨rfl, rfl, rfl, by unfold hldI; (repeat (first | rw [if_pos (by omega)] | rw [if_neg (by omega)]))⟩
      · refine y_iconst hE dX4_holds_80 ?_
        refine y_goto hE 121 (by decide) dX4_holds_81 ?_
        exact y_iret hE rfl (nar_b (by omega)).1 hQ dX4_holds_121 Ext.rf ⟨rfl, rfl, rfl, by unfold hldI; (repeat (first | rw [if_pos (by omega)] | rw [if_neg (by omega)]))⟩
  · refine y_iload hE 2 rfl dX4_holds_52 ?_
    refine y_iload hE 1 rfl dX4_holds_54 ?_
    refine y_icmp_le hE 63 (by decide) (by omega) (by omega) dX4_holds_56 (fun c_56 => ?_) (fun c_56 => ?_)
    · refine y_iconst hE dX4_holds_63 ?_
      refine y_goto hE 121 (by decide) dX4_holds_64 ?_
      exact y_iret hE rfl (nar_b (by omega)).1 hQ dX4_holds_121 Ext.rf ⟨rfl, rfl, rfl, by unfold hldI; (repeat (first | rw [if_pos (by omega)] | rw [if_neg (by omega)]))⟩
    · refine y_iconst hE dX4_holds_59 ?_
      refine y_goto hE 121 (by decide) dX4_holds_60 ?_
      exact y_iret hE rfl (nar_b (by omega)).1 hQ dX4_holds_121 Ext.rf ⟨rfl, rfl, rfl, by unfold hldI; (repeat (first | rw [if_pos (by omega)] | rw [if_neg (by omega)]))⟩
