set_option linter.unusedVariables false
theorem PA.ord {P : SP} {m : Int} {fc ft fw : Int → Int} (h : PA P m fc ft fw) (ho : P.Pairwise lexLt) {i j : Int} (h0 : 0 ≤ i) (h1 : i < j) (h2 : j < m) : fc i < fc j ∨ fc i = fc j ∧ ft i < ft j := by
  have hm := h.1
  have a := h.2 i.toNat (P[i.toNat]'(by omega)) (List.getElem?_eq_getElem (by omega))
  have b := h.2 j.toNat (P[j.toNat]'(by omega)) (List.getElem?_eq_getElem (by omega))
  rw [show ((i.toNat : Nat) : Int) = i by omega] at a
  rw [show ((j.toNat : Nat) : Int) = j by omega] at b
  have c := List.pairwise_iff_getElem.mp ho i.toNat j.toNat (by omega) (by omega) (by omega)
  unfold lexLt at c
  omega
theorem PA.rng {P : SP} {m : Int} {fc ft fw : Int → Int} (h : PA P m fc ft fw) (he : EOk P) {j : Int} (h0 : 0 ≤ j) (h2 : j < m) : (0 ≤ fc j ∧ fc j < 12) ∧ (0 ≤ ft j ∧ ft j < 500) ∧ 0 ≤ fw j ∧ fw j ≤ 1000000 := by
  obtain ⟨e, he1, -, a, b, d⟩ := h.at ⟨h0, h2⟩
  have := he e he1
  omega
set_option maxHeartbeats 4000000 in
set_option maxRecDepth 100000 in
theorem m_X2_add {w : KW} {n : KN} {α : KA} {K : KS} (S : SS) (P : SP) (p c t wg : Int) (hR : Rst S n K) (hp : 0 ≤ p ∧ p < n 2) (hP : PA P (K 2 p 3) (K 31 p) (K 32 p) (K 33 p)) (ho : P.Pairwise lexLt) (hE0 : EOk P) (hl : P.length < 40) (hc : 0 ≤ c ∧ c < 12) (ht : 0 ≤ t ∧ t < 500) (hw0 : 0 ≤ wg ∧ wg ≤ 1000000) : KM w yX2_add cX2_add 6 none { frames := 2, cells := 0, slots := 0, locals := 44 } (3, 0) [.ref (α 2 p), .int (iI c), .int (iI t), .int (iI wg)] n α K (fun r n' α' K' => n = n' ∧ α = α' ∧ KF K K' (fun k i f => k = 2 ∧ i = (p) ∧ f = 3 ∨ k = 31 ∧ i = (p) ∧ 0 ≤ f ∨ k = 32 ∧ i = (p) ∧ 0 ≤ f ∨ k = 33 ∧ i = (p) ∧ 0 ≤ f) ∧ (PA (insP P c t wg) (K' 2 p 3) (K' 31 p) (K' 32 p) (K' 33 p))) := by
  refine y_start (by decide) (Nat.le_of_ble_eq_true rfl) (fun x hE hQ => ?_)
  have hw := hQ.2
  subst hw
  have hE : YE x cX2_add RX2 none "add" 6 { frames := 2, cells := 0, slots := 0, locals := 44 } := hE
  refine y_wk (fun hWK => ?_)
  have hn0 := hWK.1
  refine y_bud (bc' := 0) (bs' := 0) (Nat.le_refl _) (Nat.le_refl _) ?_
  refine y_to (lv' := [(0, .ref (α 2 p)), (1, .int (iI c)), (2, .int (iI t)), (3, .int (iI wg))]) (st' := []) rfl rfl rfl ?_
  have hfoot : ∀ (k : Nat) (i f : Int), (fun k i f => k = 2 ∧ i = (p) ∧ f = 3 ∨ k = 31 ∧ i = (p) ∧ 0 ≤ f ∨ k = 32 ∧ i = (p) ∧ 0 ≤ f ∨ k = 33 ∧ i = (p) ∧ 0 ≤ f) k i f → ¬ SKd k f := fun k i f z => by unfold SKd; (try dsimp only at z); omega
  have n31 := hR.n31
  have n32 := hR.n32
  have n33 := hR.n33
  have o0 := hR.o0 hp
  have o1 := hR.o1 hp
  have o2 := hR.o2 hp
  have o31 := hR.o31 hp
  have o32 := hR.o32 hp
  have o33 := hR.o33 hp
  have hm0 : K 2 p 3 = P.length := hP.1
  refine y_aload_n hE rfl 0 rfl dX2_add_0 ?_
  refine gX2_25 (z := K 2 p 3) hE hp rfl dX2_add_1 ?_
  refine y_istore hE [(4, .int (iI (K 2 p 3))), (0, .ref (α 2 p)), (1, .int (iI c)), (2, .int (iI t)), (3, .int (iI wg))] (by decide) rfl dX2_add_4 ?_
  have L6 : ∀ (fuel : Nat) (a : Int), (0 ≤ a ∧ a ≤ K 2 p 3) → (∀ j : Int, a ≤ j → j < K 2 p 3 → c < K 31 p j ∨ c = K 31 p j ∧ t < K 32 p j) → (a).toNat < fuel → Y x n α K 0 0 6 [(4, .int (iI a)), (0, .ref (α 2 p)), (1, .int (iI c)), (2, .int (iI t)), (3, .int (iI wg))] [] := by
    intro fuel6
    induction fuel6 with
    | zero => intro a ha hgt hfu6; exact absurd hfu6 (Nat.not_lt_zero _)
    | succ fuel6 ih6 =>
      intro a ha hgt hfu6
      have J30 : (0 < a → ¬ (c < K 31 p (a - 1) ∨ c = K 31 p (a - 1) ∧ t < K 32 p (a - 1))) → Y x n α K 0 0 30 [(4, .int (iI a)), (0, .ref (α 2 p)), (1, .int (iI c)), (2, .int (iI t)), (3, .int (iI wg))] [] := by
        intro hnx
        have J62 : (0 < a → ¬ (K 31 p (a - 1) = c ∧ K 32 p (a - 1) = t)) → Y x n α K 0 0 62 [(4, .int (iI a)), (0, .ref (α 2 p)), (1, .int (iI c)), (2, .int (iI t)), (3, .int (iI wg))] [] := by
          intro hne
          refine y_aload_n hE rfl 1 rfl dX2_add_62 ?_
          refine gX2_25 (z := K 2 p 3) hE hp rfl dX2_add_63 ?_
          refine y_istore hE [(5, .int (iI (K 2 p 3))), (4, .int (iI a)), (0, .ref (α 2 p)), (1, .int (iI c)), (2, .int (iI t)), (3, .int (iI wg))] (by decide) rfl dX2_add_66 ?_
          have L68 : ∀ (fuel : Nat) (K2 : KS) (i : Int), (KF K K2 (fun k i f => k = 2 ∧ i = (p) ∧ f = 3 ∨ k = 31 ∧ i = (p) ∧ 0 ≤ f ∨ k = 32 ∧ i = (p) ∧ 0 ≤ f ∨ k = 33 ∧ i = (p) ∧ 0 ≤ f)) → (a ≤ i ∧ i ≤ K 2 p 3) → (K2 2 p 3 = K 2 p 3) → (∀ j : Int, (K2 31 p j = if i < j ∧ j ≤ K 2 p 3 then K 31 p (j - 1) else K 31 p j) ∧ (K2 32 p j = if i < j ∧ j ≤ K 2 p 3 then K 32 p (j - 1) else K 32 p j) ∧ (K2 33 p j = if i < j ∧ j ≤ K 2 p 3 then K 33 p (j - 1) else K 33 p j)) → (i - a).toNat < fuel → Y x n α K2 0 0 68 [(5, .int (iI i)), (4, .int (iI a)), (0, .ref (α 2 p)), (1, .int (iI c)), (2, .int (iI t)), (3, .int (iI wg))] [] := by
            intro fuel68
            induction fuel68 with
            | zero => intro K2 i hk2 hi h3 hsh hfu68; exact absurd hfu68 (Nat.not_lt_zero _)
            | succ fuel68 ih68 =>
              intro K2 i hk2 hi h3 hsh hfu68
              refine y_iload hE 0 rfl dX2_add_68 ?_
              refine y_iload hE 1 rfl dX2_add_70 ?_
              refine y_icmp_le hE 129 (by decide) (by omega) (by omega) dX2_add_72 (fun c_72 => ?_) (fun c_72 => ?_)
              · refine y_aload_n hE rfl 2 rfl dX2_add_129 ?_
                refine gX2_9r (z := p) hE hp ((hk2 2 p 0 (by (try dsimp only); omega)).trans (hR.o0 (i := p) (by omega))) (by omega) dX2_add_130 (fun hl_130 => ?_)
                refine y_iload hE 1 rfl dX2_add_133 ?_
                refine y_iload_n hE rfl 3 rfl dX2_add_135 ?_
                refine y_iast hE (by unfold kC; decide) rfl (by simp [kTag]) hl_130 (by have hL : K2 31 p (-1) = 40 := ((hk2 31 p (-1) (by (try dsimp only); omega)).trans (hR.o31 (i := p) (by omega))); omega) dX2_add_136 ?_
                refine y_aload_n hE rfl 2 rfl dX2_add_137 ?_
                refine gX2_13r (z := p) hE hp ((hk2 2 p 1 (by (try dsimp only); omega)).trans (hR.o1 (i := p) (by omega))) (by omega) dX2_add_138 (fun hl_138 => ?_)
                refine y_iload hE 1 rfl dX2_add_141 ?_
                refine y_iload_n hE rfl 4 rfl dX2_add_143 ?_
                refine y_iast hE (by unfold kC; decide) rfl (by simp [kTag]) hl_138 (by have hL : (up3 K2 31 p a c) 32 p (-1) = 40 := ((hk2 32 p (-1) (by (try dsimp only); omega)).trans (hR.o32 (i := p) (by omega))); omega) dX2_add_144 ?_
                refine y_aload_n hE rfl 2 rfl dX2_add_145 ?_
                refine gX2_16r (z := p) hE hp ((hk2 2 p 2 (by (try dsimp only); omega)).trans (hR.o2 (i := p) (by omega))) (by omega) dX2_add_146 (fun hl_146 => ?_)
                refine y_iload hE 1 rfl dX2_add_149 ?_
                refine y_iload_n hE rfl 5 rfl dX2_add_151 ?_
                refine y_iast hE (by unfold kC; decide) rfl (by simp [kTag]) hl_146 (by have hL : (up3 (up3 K2 31 p a c) 32 p a t) 33 p (-1) = 40 := ((hk2 33 p (-1) (by (try dsimp only); omega)).trans (hR.o33 (i := p) (by omega))); omega) dX2_add_152 ?_
                refine y_aload_n hE rfl 2 rfl dX2_add_153 ?_
                refine y_dup hE rfl dX2_add_154 ?_
                refine gX2_25 (z := (K 2 p 3)) hE hp h3 dX2_add_155 ?_
                refine y_iconst hE dX2_add_158 ?_
                refine y_iadd hE dX2_add_159 ?_
                refine pX2_25 hE hp dX2_add_160 ?_
                refine y_vret (r := 0) hE rfl hQ dX2_add_163 Ext.rf ?_
                refine ⟨rfl, rfl, (KF.up (KF.up (KF.up (KF.up hk2 (by (try dsimp only); omega)) (by (try dsimp only); omega)) (by (try dsimp only); omega)) (by (try dsimp only); omega)), ?_⟩
                have hlt : ∀ j : Int, 0 ≤ j → j < a → K 31 p j < c ∨ K 31 p j = c ∧ K 32 p j < t := fun j j0 j1 => by
                  by_cases e : j = a - 1
                  · subst e; have := hnx (by omega); have := hne (by omega); omega
                  · have q := hP.ord ho j0 (show j < a - 1 by omega) (by omega); have := hnx (by omega); have := hne (by omega); omega
                exact PA_new hP (k := a) (by omega) (by simp [up3, h3]) hlt (fun z => by have q := hgt a (Int.le_refl _) z; omega) (fun j j0 j1 => ⟨by by_cases e : j = a; (subst e; rw [if_pos rfl]; simp [up3]); (rw [if_neg e]; simp [up3, e]; rw [(hsh j).1]; by_cases e2 : a < j; (rw [if_pos (by omega), if_pos e2]); (rw [if_neg (by omega), if_neg e2])), by by_cases e : j = a; (subst e; rw [if_pos rfl]; simp [up3]); (rw [if_neg e]; simp [up3, e]; rw [(hsh j).2.1]; by_cases e2 : a < j; (rw [if_pos (by omega), if_pos e2]); (rw [if_neg (by omega), if_neg e2])), by by_cases e : j = a; (subst e; rw [if_pos rfl]; simp [up3]); (rw [if_neg e]; simp [up3, e]; rw [(hsh j).2.2]; by_cases e2 : a < j; (rw [if_pos (by omega), if_pos e2]); (rw [if_neg (by omega), if_neg e2]))⟩)
              · refine y_aload_n hE rfl 2 rfl dX2_add_75 ?_
                refine gX2_9r (z := p) hE hp ((hk2 2 p 0 (by (try dsimp only); omega)).trans (hR.o0 (i := p) (by omega))) (by omega) dX2_add_76 (fun hl_76 => ?_)
                refine y_iload hE 0 rfl dX2_add_79 ?_
                refine y_aload_n hE rfl 2 rfl dX2_add_81 ?_
                refine gX2_9r (z := p) hE hp ((hk2 2 p 0 (by (try dsimp only); omega)).trans (hR.o0 (i := p) (by omega))) (by omega) dX2_add_82 (fun hl_82 => ?_)
                refine y_iload hE 0 rfl dX2_add_85 ?_
                refine y_iconst hE dX2_add_87 ?_
                refine y_isub hE dX2_add_88 ?_
                refine y_iald hE rfl hl_82 (by have hL : K2 31 p (-1) = 40 := ((hk2 31 p (-1) (by (try dsimp only); omega)).trans (hR.o31 (i := p) (by omega))); omega) dX2_add_89 ?_
                refine y_iast hE (by unfold kC; decide) rfl (by simp [kTag]) hl_76 (by have hL : K2 31 p (-1) = 40 := ((hk2 31 p (-1) (by (try dsimp only); omega)).trans (hR.o31 (i := p) (by omega))); omega) dX2_add_90 ?_
                refine y_aload_n hE rfl 2 rfl dX2_add_91 ?_
                refine gX2_13r (z := p) hE hp ((hk2 2 p 1 (by (try dsimp only); omega)).trans (hR.o1 (i := p) (by omega))) (by omega) dX2_add_92 (fun hl_92 => ?_)
                refine y_iload hE 0 rfl dX2_add_95 ?_
                refine y_aload_n hE rfl 2 rfl dX2_add_97 ?_
                refine gX2_13r (z := p) hE hp ((hk2 2 p 1 (by (try dsimp only); omega)).trans (hR.o1 (i := p) (by omega))) (by omega) dX2_add_98 (fun hl_98 => ?_)
                refine y_iload hE 0 rfl dX2_add_101 ?_
                refine y_iconst hE dX2_add_103 ?_
                refine y_isub hE dX2_add_104 ?_
                refine y_iald hE rfl hl_98 (by have hL : (up3 K2 31 p i (K2 31 p (i - 1))) 32 p (-1) = 40 := ((hk2 32 p (-1) (by (try dsimp only); omega)).trans (hR.o32 (i := p) (by omega))); omega) dX2_add_105 ?_
                refine y_to (st' := [.int (iI (K2 32 p (i - 1))), .int (iI i), .ref (α 32 p)]) rfl rfl (by rw [show (up3 K2 31 p i (K2 31 p (i - 1))) 32 p (i - 1) = K2 32 p (i - 1) from rfl]) ?_
                refine y_iast hE (by unfold kC; decide) rfl (by simp [kTag]) hl_92 (by have hL : (up3 K2 31 p i (K2 31 p (i - 1))) 32 p (-1) = 40 := ((hk2 32 p (-1) (by (try dsimp only); omega)).trans (hR.o32 (i := p) (by omega))); omega) dX2_add_106 ?_
                refine y_aload_n hE rfl 2 rfl dX2_add_107 ?_
                refine gX2_16r (z := p) hE hp ((hk2 2 p 2 (by (try dsimp only); omega)).trans (hR.o2 (i := p) (by omega))) (by omega) dX2_add_108 (fun hl_108 => ?_)
                refine y_iload hE 0 rfl dX2_add_111 ?_
                refine y_aload_n hE rfl 2 rfl dX2_add_113 ?_
                refine gX2_16r (z := p) hE hp ((hk2 2 p 2 (by (try dsimp only); omega)).trans (hR.o2 (i := p) (by omega))) (by omega) dX2_add_114 (fun hl_114 => ?_)
                refine y_iload hE 0 rfl dX2_add_117 ?_
                refine y_iconst hE dX2_add_119 ?_
                refine y_isub hE dX2_add_120 ?_
                refine y_iald hE rfl hl_114 (by have hL : (up3 (up3 K2 31 p i (K2 31 p (i - 1))) 32 p i (K2 32 p (i - 1))) 33 p (-1) = 40 := ((hk2 33 p (-1) (by (try dsimp only); omega)).trans (hR.o33 (i := p) (by omega))); omega) dX2_add_121 ?_
                refine y_to (st' := [.int (iI (K2 33 p (i - 1))), .int (iI i), .ref (α 33 p)]) rfl rfl (by rw [show (up3 (up3 K2 31 p i (K2 31 p (i - 1))) 32 p i (K2 32 p (i - 1))) 33 p (i - 1) = K2 33 p (i - 1) from rfl]) ?_
                refine y_iast hE (by unfold kC; decide) rfl (by simp [kTag]) hl_108 (by have hL : (up3 (up3 K2 31 p i (K2 31 p (i - 1))) 32 p i (K2 32 p (i - 1))) 33 p (-1) = 40 := ((hk2 33 p (-1) (by (try dsimp only); omega)).trans (hR.o33 (i := p) (by omega))); omega) dX2_add_122 ?_
                refine y_iinc hE 0 rfl [(5, .int (iI (i + (-1)))), (4, .int (iI a)), (0, .ref (α 2 p)), (1, .int (iI c)), (2, .int (iI t)), (3, .int (iI wg))] (by decide) rfl dX2_add_123 ?_
                refine y_goto hE 68 (by decide) dX2_add_126 ?_
                exact ih68 (up3 (up3 (up3 K2 31 p i (K2 31 p (i - 1))) 32 p i (K2 32 p (i - 1))) 33 p i (K2 33 p (i - 1))) (i + (-1)) ((KF.up (KF.up (KF.up hk2 (by (try dsimp only); omega)) (by (try dsimp only); omega)) (by (try dsimp only); omega))) (by omega) (by simp [up3, h3]) (fun j => ⟨shf1 (g := K2 31 p) (f := K 31 p) (fun j => (hsh j).1) hi.2 (fun j => by simp [up3]) j, shf1 (g := K2 32 p) (f := K 32 p) (fun j => (hsh j).2.1) hi.2 (fun j => by simp [up3]) j, shf1 (g := K2 33 p) (f := K 33 p) (fun j => (hsh j).2.2) hi.2 (fun j => by simp [up3]) j⟩) (by omega)
          exact L68 _ K (K 2 p 3) (KF.rf) (by omega) (rfl) (fun j => ⟨by rw [if_neg (by omega)], by rw [if_neg (by omega)], by rw [if_neg (by omega)]⟩) (Nat.lt_succ_self _)
        refine y_iload hE 0 rfl dX2_add_30 ?_
        refine y_if_le hE 62 (by decide) (by omega) dX2_add_32 (fun c_32 => ?_) (fun c_32 => ?_)
        · exact J62  (by omega)
        · have hrg := hP.rng hE0 (j := a - 1) (by omega) (by omega)
          refine y_aload_n hE rfl 1 rfl dX2_add_35 ?_
          refine y_iload hE 0 rfl dX2_add_36 ?_
          refine y_iconst hE dX2_add_38 ?_
          refine y_isub hE dX2_add_39 ?_
          refine y_iload_n hE rfl 2 rfl dX2_add_40 ?_
          refine y_iload_n hE rfl 3 rfl dX2_add_41 ?_
          refine y_callV hE (m_X2_compare p (a - 1) c t hp (⟨o0, by omega, o31⟩) (⟨o1, by omega, o32⟩) (⟨o2, by omega, o33⟩) (by omega) (by omega) (by omega) (by omega) (by omega)) (lw_V q837 q839 qs4 q128 q840) (nA := 3) (by decide +kernel) rfl ⟨Nat.le_of_ble_eq_true rfl, Nat.le_of_ble_eq_true rfl⟩ (hdd := rfl) (hcc := rfl) (hq := rfl) (hi := hp) (rest := []) rfl (by decide) dX2_add_42 (bc' := 0) (bs' := 0) (Nat.le_refl _) (Nat.le_refl _) (fun r_42 n_42 α_42 K_42 hx_42 hp_42 => ?_)
          obtain ⟨rfl, rfl, rfl, hr_42⟩ := hp_42
          refine y_to (st' := [.int (iI r_42)]) rfl rfl rfl ?_
          refine y_if_ne hE 62 (by decide) (by omega) dX2_add_45 (fun c_45 => ?_) (fun c_45 => ?_)
          · exact J62  (by omega)
          · refine y_aload_n hE rfl 1 rfl dX2_add_48 ?_
            refine gX2_16r (z := p) hE hp (hR.o2 (i := p) (by omega)) (by omega) dX2_add_49 (fun hl_49 => ?_)
            refine y_iload hE 0 rfl dX2_add_52 ?_
            refine y_iconst hE dX2_add_54 ?_
            refine y_isub hE dX2_add_55 ?_
            refine y_dup2 hE rfl rfl dX2_add_56 ?_
            refine y_iald hE rfl hl_49 (by have hL : K 33 p (-1) = 40 := (hR.o33 (i := p) (by omega)); omega) dX2_add_57 ?_
            refine y_iload_n hE rfl 4 rfl dX2_add_58 ?_
            refine y_iadd hE dX2_add_59 ?_
            refine y_iast hE (by unfold kC; decide) rfl (by simp [kTag]) hl_49 (by have hL : K 33 p (-1) = 40 := (hR.o33 (i := p) (by omega)); omega) dX2_add_60 ?_
            refine y_vret (r := 0) hE rfl hQ dX2_add_61 Ext.rf ?_
            refine ⟨rfl, rfl, (KF.up KF.rf (by (try dsimp only); omega)), ?_⟩
            have hlt : ∀ j : Int, 0 ≤ j → j < a - 1 → K 31 p j < c ∨ K 31 p j = c ∧ K 32 p j < t := fun j j0 j1 => by have q := hP.ord ho j0 j1 (by omega); omega
            exact (PA_old (gw := ((up3 K 33 p (a - 1) ((K 33 p (a - 1)) + wg))) 33 p) hP (k := a - 1) (by omega) hlt (by omega) (fun j j0 j1 => by by_cases e : j = a - 1; (subst e; rw [if_pos rfl]; simp [up3]); (rw [if_neg e]; simp [up3, e]))).congr (by simp [up3]) (fun j _ _ => ⟨by simp [up3], by simp [up3], rfl⟩)
      refine y_iload hE 0 rfl dX2_add_6 ?_
      refine y_if_le hE 30 (by decide) (by omega) dX2_add_8 (fun c_8 => ?_) (fun c_8 => ?_)
      · exact J30  (by omega)
      · have hrg := hP.rng hE0 (j := a - 1) (by omega) (by omega)
        refine y_aload_n hE rfl 1 rfl dX2_add_11 ?_
        refine y_iload hE 0 rfl dX2_add_12 ?_
        refine y_iconst hE dX2_add_14 ?_
        refine y_isub hE dX2_add_15 ?_
        refine y_iload_n hE rfl 2 rfl dX2_add_16 ?_
        refine y_iload_n hE rfl 3 rfl dX2_add_17 ?_
        refine y_callV hE (m_X2_compare p (a - 1) c t hp (⟨o0, by omega, o31⟩) (⟨o1, by omega, o32⟩) (⟨o2, by omega, o33⟩) (by omega) (by omega) (by omega) (by omega) (by omega)) (lw_V q837 q839 qs4 q128 q840) (nA := 3) (by decide +kernel) rfl ⟨Nat.le_of_ble_eq_true rfl, Nat.le_of_ble_eq_true rfl⟩ (hdd := rfl) (hcc := rfl) (hq := rfl) (hi := hp) (rest := []) rfl (by decide) dX2_add_18 (bc' := 0) (bs' := 0) (Nat.le_refl _) (Nat.le_refl _) (fun r_18 n_18 α_18 K_18 hx_18 hp_18 => ?_)
        obtain ⟨rfl, rfl, rfl, hr_18⟩ := hp_18
        refine y_to (st' := [.int (iI r_18)]) rfl rfl rfl ?_
        refine y_if_le hE 30 (by decide) (by omega) dX2_add_21 (fun c_21 => ?_) (fun c_21 => ?_)
        · exact J30  (by omega)
        · refine y_iinc hE 0 rfl [(4, .int (iI (a + (-1)))), (0, .ref (α 2 p)), (1, .int (iI c)), (2, .int (iI t)), (3, .int (iI wg))] (by decide) rfl dX2_add_24 ?_
          refine y_goto hE 6 (by decide) dX2_add_27 ?_
          exact ih6 (a + (-1)) (by omega) (fun j j0 j1 => by by_cases e : j = a - 1; (subst e; omega); exact hgt j (by omega) j1) (by omega)
  exact L6 _ (K 2 p 3) (by omega) (fun j j0 j1 => by omega) (Nat.lt_succ_self _)
