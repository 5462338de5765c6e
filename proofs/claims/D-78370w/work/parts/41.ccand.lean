set_option linter.unusedVariables false
set_option maxHeartbeats 4000000 in
set_option maxRecDepth 100000 in
theorem m_X12_destination {w : KW} {n : KN} {α : KA} {K : KS} (S : SS) (mi ta tb fa fb : Int)  (hR : Rst S n K) (hW : WFs S) (hlm : 0 ≤ mi ∧ mi < n 12) (hV : MV S n K mi ta tb fa fb) (hsa : 0 ≤ S 0 12 ∧ S 0 12 < S 19 0) (hsb : S 0 8 = 1 → 0 ≤ S 0 16 ∧ S 0 16 < S 19 0) : KM w yX12_destination cX12_destination 1 (some (.object "AnimationController$State")) { frames := 1, cells := 0, slots := 0, locals := 20 } (2, 11) [.ref (α 12 mi)] n α K (fun r n' α' K' => n = n' ∧ α = α' ∧ K = K' ∧ (r = (if S 0 8 = 0 then S 0 12 else S 0 16) ∧ 0 ≤ r ∧ r < n 11)) := by
  refine y_start (by decide) (Nat.le_of_ble_eq_true rfl) (fun x hE hQ => ?_)
  have hw := hQ.2
  subst hw
  have hE : YE x cX12_destination RX12 (some (.object "AnimationController$State")) "destination" 1 { frames := 1, cells := 0, slots := 0, locals := 20 } := hE
  refine y_wk (fun hWK => ?_)
  have hn0 := hWK.1
  refine y_bud (bc' := 0) (bs' := 0) (Nat.le_refl _) (Nat.le_refl _) ?_
  refine y_to (lv' := [(0, .ref (α 12 mi))]) (st' := []) rfl rfl rfl ?_
  have wcl := hW.clips
  have n1 := hR.n1
  have n3 := hR.n3
  have n34 := hR.n34
  have n6 := hR.n6
  have n21 := hR.n21
  have n51 := hR.n51
  have n8 := hR.n8
  have n11 := hR.n11
  have wsts := hW.sts
  have wnodes := hW.nodes
  have va := hV.a
  have vb := hV.b
  have vs := hV.st
  have vl := hV.lg
  have n11 := hR.n11
  have va4 := va.2.2.2.1
  refine y_aload_n hE rfl 0 rfl dX12_destination_0 ?_
  refine y_callV hE (m_X12_isIdle S mi ta tb fa fb hR hW hlm hV) (lw_V q817 q790 q791 q145 q792) (nA := 0) (by decide +kernel) rfl ⟨Nat.le_of_ble_eq_true rfl, Nat.le_of_ble_eq_true rfl⟩ (hdd := rfl) (hcc := rfl) (hq := rfl) (hi := hlm) (rest := []) rfl (by decide) dX12_destination_1 (bc' := 0) (bs' := 0) (Nat.le_refl _) (Nat.le_refl _) (fun r_1 n_1 α_1 K_1 hx_1 hp_1 => ?_)
  obtain ⟨rfl, rfl, rfl, hr_1⟩ := hp_1
  refine y_to (st' := [.int (iI r_1)]) rfl rfl rfl ?_
  have J24 : ∀ (d : Int), (d = if S 0 8 = 0 then S 0 12 else S 0 16) → (0 ≤ d ∧ d < n 11) → Y x n α K 0 0 24 [(0, .ref (α 12 mi))] [.ref (α 11 d)] := by
    intro d hd0 hd
    refine y_to (st' := [refV α 11 d]) rfl rfl (by rw [refV_s hd.1]) ?_
    exact y_aret hE rfl (Or.inl ⟨_, rfl⟩) hQ dX12_destination_24 Ext.rf ⟨rfl, rfl, rfl, hd0, hd⟩
  refine y_if_eq hE 17 (by decide) (by omega) dX12_destination_4 (fun c_4 => ?_) (fun c_4 => ?_)
  · have vt := vs.resolve_left (by omega)
    have vt0 := vt.2.1.1
    have hsbb := hsb vt.1
    refine y_aload_n hE rfl 0 rfl dX12_destination_17 ?_
    refine gX12_53r (z := tb) hE hlm vb.1 (by omega) dX12_destination_18 (fun hl_18 => ?_)
    refine gX12_89r (z := (S 0 16)) hE hl_18 vt.2.1.2.2.1 (by omega) dX12_destination_21 (fun hl_21 => ?_)
    exact J24 (S 0 16) (by first | rw [if_pos (by omega)] | rw [if_neg (by omega)]) (by omega)
  · refine y_aload_n hE rfl 0 rfl dX12_destination_7 ?_
    refine gX12_45r (z := ta) hE hlm va.1 (by omega) dX12_destination_8 (fun hl_8 => ?_)
    refine gX12_89r (z := (S 0 12)) hE hl_8 va.2.2.2.1 (by omega) dX12_destination_11 (fun hl_11 => ?_)
    refine y_goto hE 24 (by decide) dX12_destination_14 ?_
    exact J24 (S 0 12) (by first | rw [if_pos (by omega)] | rw [if_neg (by omega)]) (by omega)
set_option maxHeartbeats 4000000 in
set_option maxRecDepth 100000 in
theorem m_X12_trackOf {w : KW} {n : KN} {α : KA} {K : KS} (S : SS) (mi ta tb fa fb : Int) (i : Int) (hR : Rst S n K) (hW : WFs S) (hlm : 0 ≤ mi ∧ mi < n 12) (hV : MV S n K mi ta tb fa fb) (hi : 0 ≤ i ∧ i < 48) (h37 : K 37 mi i = 0 ∨ K 37 mi i = 1) (hbs : K 37 mi i = 0 → 0 ≤ tb) : KM w yX12_trackOf cX12_trackOf 2 (some (.object "AnimationController$Track")) { frames := 0, cells := 0, slots := 0, locals := 0 } (2, 13) [.ref (α 12 mi), .int (iI i)] n α K (fun r n' α' K' => n = n' ∧ α = α' ∧ K = K' ∧ (r = (if K 37 mi i = 0 then tb else ta) ∧ 0 ≤ r ∧ r < n 13)) := by
  refine y_start (by decide) (Nat.le_of_ble_eq_true rfl) (fun x hE hQ => ?_)
  have hw := hQ.2
  subst hw
  have hE : YE x cX12_trackOf RX12 (some (.object "AnimationController$Track")) "trackOf" 2 { frames := 0, cells := 0, slots := 0, locals := 0 } := hE
  refine y_wk (fun hWK => ?_)
  have hn0 := hWK.1
  refine y_bud (bc' := 0) (bs' := 0) (Nat.le_refl _) (Nat.le_refl _) ?_
  refine y_to (lv' := [(0, .ref (α 12 mi)), (1, .int (iI i))]) (st' := []) rfl rfl rfl ?_
  have wcl := hW.clips
  have n1 := hR.n1
  have n3 := hR.n3
  have n34 := hR.n34
  have n6 := hR.n6
  have n21 := hR.n21
  have n51 := hR.n51
  have n8 := hR.n8
  have n11 := hR.n11
  have wsts := hW.sts
  have wnodes := hW.nodes
  have va := hV.a
  have vb := hV.b
  have vs := hV.st
  have vl := hV.lg
  have va4 := va.2.2.2.1
  have n37 := hR.n37
  refine y_aload_n hE rfl 0 rfl dX12_trackOf_0 ?_
  refine gX12_41r (z := mi) hE hlm (hR.m12 (i := mi) (by omega)) (by omega) dX12_trackOf_1 (fun hl_1 => ?_)
  refine y_iload_n hE rfl 1 rfl dX12_trackOf_4 ?_
  refine y_zald hE rfl hl_1 (by have hL : K 37 mi (-1) = 48 := (hR.m37 (i := mi) (by omega)); omega) dX12_trackOf_5 ?_
  have J20 : ∀ (d : Int), (d = if K 37 mi i = 0 then tb else ta) → (0 ≤ d ∧ d < n 13) → Y x n α K 0 0 20 [(0, .ref (α 12 mi)), (1, .int (iI i))] [.ref (α 13 d)] := by
    intro d hd0 hd
    refine y_to (st' := [refV α 13 d]) rfl rfl (by rw [refV_s hd.1]) ?_
    exact y_aret hE rfl (Or.inl ⟨_, rfl⟩) hQ dX12_trackOf_20 Ext.rf ⟨rfl, rfl, rfl, hd0, hd⟩
  refine y_if_eq hE 16 (by decide) (by omega) dX12_trackOf_6 (fun c_6 => ?_) (fun c_6 => ?_)
  · have hbb := hbs (by omega)
    refine y_aload_n hE rfl 0 rfl dX12_trackOf_16 ?_
    refine gX12_53r (z := tb) hE hlm vb.1 (by omega) dX12_trackOf_17 (fun hl_17 => ?_)
    exact J20 tb (by first | rw [if_pos (by omega)] | rw [if_neg (by omega)]) (by omega)
  · refine y_aload_n hE rfl 0 rfl dX12_trackOf_9 ?_
    refine gX12_45r (z := ta) hE hlm va.1 (by omega) dX12_trackOf_10 (fun hl_10 => ?_)
    refine y_goto hE 20 (by decide) dX12_trackOf_13 ?_
    exact J20 ta (by first | rw [if_pos (by omega)] | rw [if_neg (by omega)]) (by omega)
/-- is the number among the first k places? -/
def inC (g : Int → Int) (t : Int) : Nat → Int
  | 0 => 0
  | k + 1 => if inC g t k ≠ 0 ∨ g k = t then 1 else 0
theorem inC_01 (g : Int → Int) (t : Int) : ∀ k : Nat, inC g t k = 0 ∨ inC g t k = 1
  | 0 => Or.inl rfl
  | k + 1 => by rw [inC]; split <;> omega
theorem inC_s {g : Int → Int} {t k : Int} (h : 0 ≤ k) : inC g t (k + 1).toNat = if inC g t k.toNat ≠ 0 ∨ g k = t then 1 else 0 := by
  rw [show (k + 1).toNat = k.toNat + 1 by omega, inC, show ((k.toNat : Nat) : Int) = k by omega]
theorem inC_iff {g : Int → Int} {t : Int} : ∀ k : Nat, inC g t k = 1 ↔ ∃ j : Int, 0 ≤ j ∧ j < k ∧ g j = t
  | 0 => ⟨fun h => by rw [inC] at h; omega, fun ⟨j, h0, h1, _⟩ => by omega⟩
  | k + 1 => by
    have ih := inC_iff (g := g) (t := t) k
    have h01 := inC_01 g t k
    rw [inC]
    constructor
    · intro h
      by_cases e : inC g t k = 1
      · obtain ⟨j, h0, h1, h2⟩ := ih.mp e
        exact ⟨j, h0, by omega, h2⟩
      · by_cases e2 : g k = t
        · exact ⟨k, by omega, by omega, e2⟩
        · rw [if_neg (by omega)] at h; omega
    · rintro ⟨j, h0, h1, h2⟩
      by_cases e : j = k
      · rw [if_pos (Or.inr (by rw [← e]; exact h2))]
      · have := ih.mpr ⟨j, h0, by omega, h2⟩
        rw [if_pos (Or.inl (by omega))]
