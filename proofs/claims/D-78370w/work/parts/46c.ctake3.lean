set_option linter.unusedVariables false
set_option maxHeartbeats 4000000 in
set_option maxRecDepth 100000 in
theorem m_X2_copyToF {w : KW} {n : KN} {α : KA} {K : KS} (S : SS) (P : SP) (p q : Int) (hR : Rst S n K) (hp : 0 ≤ p ∧ p < n 2) (hq : 0 ≤ q ∧ q < n 2) (hne : p ≠ q) (hP : PA P (K 2 p 3) (K 31 p) (K 32 p) (K 33 p)) (hl : P.length ≤ 40) : KM w yX2_copyTo cX2_copyTo 2 none { frames := 1, cells := 0, slots := 0, locals := 40 } (3, 0) [.ref (α 2 p), .ref (α 2 q)] n α K (fun r n' α' K' => n = n' ∧ α = α' ∧ KF K K' (fun k i f => k = 2 ∧ i = (q) ∧ f = 3 ∨ k = 31 ∧ i = (q) ∧ 0 ≤ f ∨ k = 32 ∧ i = (q) ∧ 0 ≤ f ∨ k = 33 ∧ i = (q) ∧ 0 ≤ f) ∧ (PA P (K' 2 q 3) (K' 31 q) (K' 32 q) (K' 33 q))) := by
  refine y_start (by decide) (Nat.le_of_ble_eq_true rfl) (fun x hE hQ => ?_)
  have hw := hQ.2
  subst hw
  have hE : YE x cX2_copyTo RX2 none "copyTo" 2 { frames := 1, cells := 0, slots := 0, locals := 40 } := hE
  refine y_wk (fun hWK => ?_)
  have hn0 := hWK.1
  refine y_bud (bc' := 0) (bs' := 0) (Nat.le_refl _) (Nat.le_refl _) ?_
  refine y_to (lv' := [(0, .ref (α 2 p)), (1, .ref (α 2 q))]) (st' := []) rfl rfl rfl ?_
  have hfoot : ∀ (k : Nat) (i f : Int), (fun k i f => k = 2 ∧ i = (q) ∧ f = 3 ∨ k = 31 ∧ i = (q) ∧ 0 ≤ f ∨ k = 32 ∧ i = (q) ∧ 0 ≤ f ∨ k = 33 ∧ i = (q) ∧ 0 ≤ f) k i f → ¬ SKd k f := fun k i f z => by unfold SKd; (try dsimp only at z); omega
  have n31 := hR.n31
  have n32 := hR.n32
  have n33 := hR.n33
  have hm := hP.1
  have p0 := hR.o0 (i := p) hp
  have p1 := hR.o1 (i := p) hp
  have p2 := hR.o2 (i := p) hp
  have q0 := hR.o0 (i := q) hq
  have q1 := hR.o1 (i := q) hq
  have q2 := hR.o2 (i := q) hq
  have p31 := hR.o31 (i := p) hp
  have p32 := hR.o32 (i := p) hp
  have p33 := hR.o33 (i := p) hp
  have q31 := hR.o31 (i := q) hq
  have q32 := hR.o32 (i := q) hq
  have q33 := hR.o33 (i := q) hq
  refine y_aload_n hE rfl 1 rfl dX2_copyTo_0 ?_
  refine y_aload_n hE rfl 0 rfl dX2_copyTo_1 ?_
  refine gX2_25 (z := K 2 p 3) hE hp rfl dX2_copyTo_2 ?_
  refine pX2_25 hE hq dX2_copyTo_5 ?_
  refine y_aload_n hE rfl 0 rfl dX2_copyTo_8 ?_
  refine gX2_9r (z := p) hE hp p0 (by omega) dX2_copyTo_9 (fun hl_9 => ?_)
  refine y_iconst hE dX2_copyTo_12 ?_
  refine y_aload_n hE rfl 1 rfl dX2_copyTo_13 ?_
  refine gX2_9r (z := q) hE hq q0 (by omega) dX2_copyTo_14 (fun hl_14 => ?_)
  refine y_iconst hE dX2_copyTo_17 ?_
  refine y_aload_n hE rfl 0 rfl dX2_copyTo_18 ?_
  refine gX2_25 (z := K 2 p 3) hE hp (by simp [up3, upr, hne, Ne.symm hne]) dX2_copyTo_19 ?_
  refine y_copyi hE (by unfold kC; decide) (by decide) rfl rfl (by unfold kC; decide) hl_9 hl_14 q2391 (by have hL : (up3 K 2 q 3 (K 2 p 3)) 31 p (-1) = 40 := p31; omega) (by have hL : (up3 K 2 q 3 (K 2 p 3)) 31 q (-1) = 40 := q31; omega) (Nat.le_of_ble_eq_true rfl) (Nat.le_of_ble_eq_true rfl) dX2_copyTo_22 ?_
  refine y_aload_n hE rfl 0 rfl dX2_copyTo_25 ?_
  refine gX2_13r (z := p) hE hp p1 (by omega) dX2_copyTo_26 (fun hl_26 => ?_)
  refine y_iconst hE dX2_copyTo_29 ?_
  refine y_aload_n hE rfl 1 rfl dX2_copyTo_30 ?_
  refine gX2_13r (z := q) hE hq q1 (by omega) dX2_copyTo_31 (fun hl_31 => ?_)
  refine y_iconst hE dX2_copyTo_34 ?_
  refine y_aload_n hE rfl 0 rfl dX2_copyTo_35 ?_
  refine gX2_25 (z := K 2 p 3) hE hp (by simp [up3, upr, hne, Ne.symm hne]) dX2_copyTo_36 ?_
  refine y_copyi hE (by unfold kC; decide) (by decide) rfl rfl (by unfold kC; decide) hl_26 hl_31 q2391 (by have hL : (upr (up3 K 2 q 3 (K 2 p 3)) 31 q 0 (0 + K 2 p 3) (fun f => (up3 K 2 q 3 (K 2 p 3)) 31 p (0 + (f - 0)))) 32 p (-1) = 40 := p32; omega) (by have hL : (upr (up3 K 2 q 3 (K 2 p 3)) 31 q 0 (0 + K 2 p 3) (fun f => (up3 K 2 q 3 (K 2 p 3)) 31 p (0 + (f - 0)))) 32 q (-1) = 40 := q32; omega) (Nat.le_of_ble_eq_true rfl) (Nat.le_of_ble_eq_true rfl) dX2_copyTo_39 ?_
  refine y_aload_n hE rfl 0 rfl dX2_copyTo_42 ?_
  refine gX2_16r (z := p) hE hp p2 (by omega) dX2_copyTo_43 (fun hl_43 => ?_)
  refine y_iconst hE dX2_copyTo_46 ?_
  refine y_aload_n hE rfl 1 rfl dX2_copyTo_47 ?_
  refine gX2_16r (z := q) hE hq q2 (by omega) dX2_copyTo_48 (fun hl_48 => ?_)
  refine y_iconst hE dX2_copyTo_51 ?_
  refine y_aload_n hE rfl 0 rfl dX2_copyTo_52 ?_
  refine gX2_25 (z := K 2 p 3) hE hp (by simp [up3, upr, hne, Ne.symm hne]) dX2_copyTo_53 ?_
  refine y_copyi hE (by unfold kC; decide) (by decide) rfl rfl (by unfold kC; decide) hl_43 hl_48 q2391 (by have hL : (upr (upr (up3 K 2 q 3 (K 2 p 3)) 31 q 0 (0 + K 2 p 3) (fun f => (up3 K 2 q 3 (K 2 p 3)) 31 p (0 + (f - 0)))) 32 q 0 (0 + K 2 p 3) (fun f => (upr (up3 K 2 q 3 (K 2 p 3)) 31 q 0 (0 + K 2 p 3) (fun f => (up3 K 2 q 3 (K 2 p 3)) 31 p (0 + (f - 0)))) 32 p (0 + (f - 0)))) 33 p (-1) = 40 := p33; omega) (by have hL : (upr (upr (up3 K 2 q 3 (K 2 p 3)) 31 q 0 (0 + K 2 p 3) (fun f => (up3 K 2 q 3 (K 2 p 3)) 31 p (0 + (f - 0)))) 32 q 0 (0 + K 2 p 3) (fun f => (upr (up3 K 2 q 3 (K 2 p 3)) 31 q 0 (0 + K 2 p 3) (fun f => (up3 K 2 q 3 (K 2 p 3)) 31 p (0 + (f - 0)))) 32 p (0 + (f - 0)))) 33 q (-1) = 40 := q33; omega) (Nat.le_of_ble_eq_true rfl) (Nat.le_of_ble_eq_true rfl) dX2_copyTo_56 ?_
  refine y_vret (r := 0) hE rfl hQ dX2_copyTo_59 Ext.rf ?_
  refine ⟨rfl, rfl, (KF.upr (KF.upr (KF.upr (KF.up KF.rf (by (try dsimp only); omega)) (fun f h1 h2 => by (try dsimp only); omega)) (fun f h1 h2 => by (try dsimp only); omega)) (fun f h1 h2 => by (try dsimp only); omega)), ?_⟩
  refine hP.congr (by simp [up3, upr]) (fun j j0 j1 => ?_)
  refine ⟨?_, ?_, ?_⟩ <;> simp [upr, up3, hne, Ne.symm hne, j0, j1]
