set_option linter.unusedVariables false
/-- nothing but P's places is written -/
def KF (K K' : KS) (P : Nat → Int → Int → Prop) : Prop := ∀ (k : Nat) (i f : Int), ¬ P k i f → K' k i f = K k i f
theorem KF.rf {K : KS} {P : Nat → Int → Int → Prop} : KF K K P := fun _ _ _ _ => rfl
theorem KF.tr {K K1 K2 : KS} {P : Nat → Int → Int → Prop} (h : KF K K1 P) (h2 : KF K1 K2 P) : KF K K2 P := fun k i f hp => (h2 k i f hp).trans (h k i f hp)
theorem KF.mono {K K' : KS} {P Q : Nat → Int → Int → Prop} (h : KF K K' P) (hq : ∀ k i f, P k i f → Q k i f) : KF K K' Q := fun k i f hp => h k i f (fun z => hp (hq k i f z))
theorem KF.up {K K' : KS} {P : Nat → Int → Int → Prop} (h : KF K K' P) {k : Nat} {i f v : Int} (hp : P k i f) : KF K (up3 K' k i f v) P := fun k' i' f' hn => by
  have : ¬ (k' = k ∧ f' = f ∧ i' = i) := fun z => hn (by rw [z.1, z.2.1, z.2.2]; exact hp)
  unfold up3
  rw [if_neg this]
  exact h k' i' f' hn
theorem KF.upr {K K' : KS} {P : Nat → Int → Int → Prop} (h : KF K K' P) {k : Nat} {i lo hi : Int} {g : Int → Int} (hp : ∀ f, lo ≤ f → f < hi → P k i f) : KF K (upr K' k i lo hi g) P := fun k' i' f' hn => by
  rw [upr_out (fun z => hn (by rw [z.1, z.2.1]; exact hp f' z.2.2.1 z.2.2.2))]
  exact h k' i' f' hn
/-- the machines' shape: each machine's own arrays and frozen pose -/
def RepSh (n : KN) (K : KS) : Prop := n 35 = n 12 ∧ n 36 = n 12 ∧ n 37 = n 12 ∧ n 2 = n 12 + 1 ∧ ∀ m : Int, 0 ≤ m → m < n 12 → K 12 m 6 = m + 1 ∧ K 12 m 7 = m ∧ K 12 m 11 = m ∧ K 12 m 12 = m ∧ K 12 m 14 = 0 ∧ K 35 m (-1) = 120 ∧ K 36 m (-1) = 48 ∧ K 37 m (-1) = 48
/-- what lasts while machines run: structure, values, shapes -/
def Rst (S : SS) (n : KN) (K : KS) : Prop := RepPar S n K ∧ RepClip S n K ∧ RepNode S n K ∧ RepState S n K ∧ RepTrans S n K ∧ RepCtl S n K ∧ RepSh n K
abbrev SKd (k : Nat) (f : Int) : Prop := (k = 1 ∧ f ≠ 6) ∨ (k = 2 ∧ f ≠ 3) ∨ k = 3 ∨ (5 ≤ k ∧ k ≤ 8) ∨ k = 11 ∨ (k = 12 ∧ (f = 6 ∨ f = 7 ∨ f = 11 ∨ f = 12 ∨ f = 14)) ∨ (14 ≤ k ∧ k ≤ 16) ∨ (20 ≤ k ∧ k ≤ 26) ∨ (31 ≤ k ∧ k ≤ 37 ∧ f = -1) ∨ (40 ≤ k ∧ k ≤ 42) ∨ (50 ≤ k ∧ k ≤ 56)
def msk (K : KS) : KS := fun k i f => if SKd k f then K k i f else 0
theorem msk_par {S : SS} {n : KN} {K : KS} : RepPar S n (msk K) ↔ RepPar S n K := by unfold RepPar; simp [msk, SKd]
theorem msk_clip {S : SS} {n : KN} {K : KS} : RepClip S n (msk K) ↔ RepClip S n K := by unfold RepClip; simp [msk, SKd]
theorem msk_node {S : SS} {n : KN} {K : KS} : RepNode S n (msk K) ↔ RepNode S n K := by unfold RepNode; simp [msk, SKd]
theorem msk_state {S : SS} {n : KN} {K : KS} : RepState S n (msk K) ↔ RepState S n K := by unfold RepState; simp [msk, SKd]
theorem msk_trans {S : SS} {n : KN} {K : KS} : RepTrans S n (msk K) ↔ RepTrans S n K := by unfold RepTrans RepTr1; simp [msk, SKd]
theorem msk_ctl {S : SS} {n : KN} {K : KS} : RepCtl S n (msk K) ↔ RepCtl S n K := by unfold RepCtl; simp [msk, SKd]
theorem msk_sh {n : KN} {K : KS} : RepSh n (msk K) ↔ RepSh n K := by unfold RepSh; simp [msk, SKd]
theorem Rst.mk {S : SS} {n : KN} {K : KS} : Rst S n (msk K) ↔ Rst S n K := by unfold Rst; rw [msk_par, msk_clip, msk_node, msk_state, msk_trans, msk_ctl, msk_sh]
theorem Rst.kf {S : SS} {n : KN} {K K' : KS} {P : Nat → Int → Int → Prop} (h : Rst S n K) (hk : KF K K' P) (hp : ∀ k i f, P k i f → ¬ SKd k f) : Rst S n K' := by
  have e : msk K' = msk K := by
    funext k i f
    unfold msk
    split
    · rename_i z; exact hk k i f (fun y => hp k i f y z)
    · rfl
  rw [← Rst.mk, e, Rst.mk]
  exact h
theorem Rst.c0 {S : SS} {n : KN} {K : KS} (h : Rst S n K)   : K 1 0 0 = 0 := h.1.1
theorem Rst.n20 {S : SS} {n : KN} {K : KS} (h : Rst S n K)   : n 20 = 1 := h.1.2.1
theorem Rst.n50 {S : SS} {n : KN} {K : KS} (h : Rst S n K)   : n 50 = 1 := h.1.2.2.1
theorem Rst.l20 {S : SS} {n : KN} {K : KS} (h : Rst S n K)   : K 20 0 1 = 0 := h.1.2.2.2.1
theorem Rst.m20 {S : SS} {n : KN} {K : KS} (h : Rst S n K)   : K 50 0 (-1) = 8 := h.1.2.2.2.2.1
theorem Rst.z20 {S : SS} {n : KN} {K : KS} (h : Rst S n K)   : K 20 0 2 = S 3 0 := h.1.2.2.2.2.2.1
theorem Rst.n5 {S : SS} {n : KN} {K : KS} (h : Rst S n K)   : n 5 = S 3 0 := h.1.2.2.2.2.2.2.1
theorem Rst.p50 {S : SS} {n : KN} {K : KS} (h : Rst S n K) {i : Int} (hi : 0 ≤ i ∧ i < S 3 0)  : K 50 0 i = i := (h.1.2.2.2.2.2.2.2 i hi.1 hi.2).1
theorem Rst.p0 {S : SS} {n : KN} {K : KS} (h : Rst S n K) {i : Int} (hi : 0 ≤ i ∧ i < S 3 0)  : K 5 i 0 = S 2 i := (h.1.2.2.2.2.2.2.2 i hi.1 hi.2).2.1
theorem Rst.p1 {S : SS} {n : KN} {K : KS} (h : Rst S n K) {i : Int} (hi : 0 ≤ i ∧ i < S 3 0)  : K 5 i 1 = S 0 i := (h.1.2.2.2.2.2.2.2 i hi.1 hi.2).2.2
theorem Rst.c1 {S : SS} {n : KN} {K : KS} (h : Rst S n K)   : K 1 0 1 = 0 := h.2.1.1
theorem Rst.n21 {S : SS} {n : KN} {K : KS} (h : Rst S n K)   : n 21 = 1 := h.2.1.2.1
theorem Rst.n51 {S : SS} {n : KN} {K : KS} (h : Rst S n K)   : n 51 = 1 := h.2.1.2.2.1
theorem Rst.l21 {S : SS} {n : KN} {K : KS} (h : Rst S n K)   : K 21 0 1 = 0 := h.2.1.2.2.2.1
theorem Rst.m21 {S : SS} {n : KN} {K : KS} (h : Rst S n K)   : K 51 0 (-1) = 12 := h.2.1.2.2.2.2.1
theorem Rst.z21 {S : SS} {n : KN} {K : KS} (h : Rst S n K)   : K 21 0 2 = S 8 0 := h.2.1.2.2.2.2.2.1
theorem Rst.n6 {S : SS} {n : KN} {K : KS} (h : Rst S n K)   : n 6 = S 8 0 := h.2.1.2.2.2.2.2.2.1
theorem Rst.n26 {S : SS} {n : KN} {K : KS} (h : Rst S n K)   : n 26 = S 8 0 := h.2.1.2.2.2.2.2.2.2.1
theorem Rst.n56 {S : SS} {n : KN} {K : KS} (h : Rst S n K)   : n 56 = S 8 0 := h.2.1.2.2.2.2.2.2.2.2.1
theorem Rst.c51 {S : SS} {n : KN} {K : KS} (h : Rst S n K) {i : Int} (hi : 0 ≤ i ∧ i < S 8 0)  : K 51 0 i = i := (h.2.1.2.2.2.2.2.2.2.2.2 i hi.1 hi.2).1
theorem Rst.c60 {S : SS} {n : KN} {K : KS} (h : Rst S n K) {i : Int} (hi : 0 ≤ i ∧ i < S 8 0)  : K 6 i 0 = i := (h.2.1.2.2.2.2.2.2.2.2.2 i hi.1 hi.2).2.1
theorem Rst.c61 {S : SS} {n : KN} {K : KS} (h : Rst S n K) {i : Int} (hi : 0 ≤ i ∧ i < S 8 0)  : K 6 i 1 = S 4 i := (h.2.1.2.2.2.2.2.2.2.2.2 i hi.1 hi.2).2.2.1
theorem Rst.c62 {S : SS} {n : KN} {K : KS} (h : Rst S n K) {i : Int} (hi : 0 ≤ i ∧ i < S 8 0)  : K 6 i 2 = i := (h.2.1.2.2.2.2.2.2.2.2.2 i hi.1 hi.2).2.2.2.1
theorem Rst.c261 {S : SS} {n : KN} {K : KS} (h : Rst S n K) {i : Int} (hi : 0 ≤ i ∧ i < S 8 0)  : K 26 i 1 = i := (h.2.1.2.2.2.2.2.2.2.2.2 i hi.1 hi.2).2.2.2.2.1
theorem Rst.c56 {S : SS} {n : KN} {K : KS} (h : Rst S n K) {i : Int} (hi : 0 ≤ i ∧ i < S 8 0)  : K 56 i (-1) = 5 := (h.2.1.2.2.2.2.2.2.2.2.2 i hi.1 hi.2).2.2.2.2.2.1
theorem Rst.c262 {S : SS} {n : KN} {K : KS} (h : Rst S n K) {i : Int} (hi : 0 ≤ i ∧ i < S 8 0)  : K 26 i 2 = S 5 i := (h.2.1.2.2.2.2.2.2.2.2.2 i hi.1 hi.2).2.2.2.2.2.2.1
theorem Rst.ev {S : SS} {n : KN} {K : KS} (h : Rst S n K) {i : Int} (hi : 0 ≤ i ∧ i < S 8 0) {j : Int} (hj : 0 ≤ j ∧ j < S 5 i) : 0 ≤ K 56 i j ∧ K 7 (K 56 i j) 0 = S 6 (5 * i + j) ∧ K 7 (K 56 i j) 1 = S 7 (5 * i + j) := (h.2.1.2.2.2.2.2.2.2.2.2 i hi.1 hi.2).2.2.2.2.2.2.2 j hj.1 hj.2
theorem Rst.c2 {S : SS} {n : KN} {K : KS} (h : Rst S n K)   : K 1 0 2 = 0 := h.2.2.1.1
theorem Rst.n22 {S : SS} {n : KN} {K : KS} (h : Rst S n K)   : n 22 = 1 := h.2.2.1.2.1
theorem Rst.n52 {S : SS} {n : KN} {K : KS} (h : Rst S n K)   : n 52 = 1 := h.2.2.1.2.2.1
theorem Rst.l22 {S : SS} {n : KN} {K : KS} (h : Rst S n K)   : K 22 0 1 = 0 := h.2.2.1.2.2.2.1
theorem Rst.m22 {S : SS} {n : KN} {K : KS} (h : Rst S n K)   : K 52 0 (-1) = 20 := h.2.2.1.2.2.2.2.1
theorem Rst.z22 {S : SS} {n : KN} {K : KS} (h : Rst S n K)   : K 22 0 2 = S 14 0 := h.2.2.1.2.2.2.2.2.1
theorem Rst.n8 {S : SS} {n : KN} {K : KS} (h : Rst S n K)   : n 8 = S 14 0 := h.2.2.1.2.2.2.2.2.2.1
theorem Rst.n41 {S : SS} {n : KN} {K : KS} (h : Rst S n K)   : n 41 = n 42 := h.2.2.1.2.2.2.2.2.2.2.1
theorem Rst.e52 {S : SS} {n : KN} {K : KS} (h : Rst S n K) {i : Int} (hi : 0 ≤ i ∧ i < S 14 0)  : K 52 0 i = i := (h.2.2.1.2.2.2.2.2.2.2.2.1 i hi.1 hi.2).1
theorem Rst.cn {S : SS} {n : KN} {K : KS} (h : Rst S n K) {i : Int} (hi : 0 ≤ i ∧ i < S 14 0) (h9 : S 9 i ≠ -1) : K 8 i 9 = 0 ∧ K 8 i 0 = S 9 i := (h.2.2.1.2.2.2.2.2.2.2.2.1 i hi.1 hi.2).2.1 h9
theorem Rst.l9 {S : SS} {n : KN} {K : KS} (h : Rst S n K) {i : Int} (hi : 0 ≤ i ∧ i < S 14 0) (h9 : S 9 i = -1) : K 8 i 9 ≠ 0 := ((h.2.2.1.2.2.2.2.2.2.2.2.1 i hi.1 hi.2).2.2 h9).1
theorem Rst.l0 {S : SS} {n : KN} {K : KS} (h : Rst S n K) {i : Int} (hi : 0 ≤ i ∧ i < S 14 0) (h9 : S 9 i = -1) : K 8 i 0 = S 10 i := ((h.2.2.1.2.2.2.2.2.2.2.2.1 i hi.1 hi.2).2.2 h9).2.1
theorem Rst.l3 {S : SS} {n : KN} {K : KS} (h : Rst S n K) {i : Int} (hi : 0 ≤ i ∧ i < S 14 0) (h9 : S 9 i = -1) : K 8 i 3 = S 11 i := ((h.2.2.1.2.2.2.2.2.2.2.2.1 i hi.1 hi.2).2.2 h9).2.2.1
theorem Rst.l2 {S : SS} {n : KN} {K : KS} (h : Rst S n K) {i : Int} (hi : 0 ≤ i ∧ i < S 14 0) (h9 : S 9 i = -1) : K 8 i 2 = K 8 i 1 := ((h.2.2.1.2.2.2.2.2.2.2.2.1 i hi.1 hi.2).2.2 h9).2.2.2.1
theorem Rst.l1 {S : SS} {n : KN} {K : KS} (h : Rst S n K) {i : Int} (hi : 0 ≤ i ∧ i < S 14 0) (h9 : S 9 i = -1) : 0 ≤ K 8 i 1 := ((h.2.2.1.2.2.2.2.2.2.2.2.1 i hi.1 hi.2).2.2 h9).2.2.2.2.1
theorem Rst.l41 {S : SS} {n : KN} {K : KS} (h : Rst S n K) {i : Int} (hi : 0 ≤ i ∧ i < S 14 0) (h9 : S 9 i = -1) : K 41 (K 8 i 1) (-1) = 5 := ((h.2.2.1.2.2.2.2.2.2.2.2.1 i hi.1 hi.2).2.2 h9).2.2.2.2.2.1
theorem Rst.l42 {S : SS} {n : KN} {K : KS} (h : Rst S n K) {i : Int} (hi : 0 ≤ i ∧ i < S 14 0) (h9 : S 9 i = -1) : K 42 (K 8 i 1) (-1) = 5 := ((h.2.2.1.2.2.2.2.2.2.2.2.1 i hi.1 hi.2).2.2 h9).2.2.2.2.2.2.1
theorem Rst.ord {S : SS} {n : KN} {K : KS} (h : Rst S n K) {i : Int} (hi : 0 ≤ i ∧ i < S 14 0) (h9 : S 9 i = -1) : ∀ k : Int, 0 ≤ k → k + 1 < S 11 i → K 41 (K 8 i 1) k < K 41 (K 8 i 1) (k + 1) := ((h.2.2.1.2.2.2.2.2.2.2.2.1 i hi.1 hi.2).2.2 h9).2.2.2.2.2.2.2.1
theorem Rst.of {S : SS} {n : KN} {K : KS} (h : Rst S n K) {i : Int} (hi : 0 ≤ i ∧ i < S 14 0) (h9 : S 9 i = -1) : ∀ k : Int, 0 ≤ k → k < S 11 i → ∃ q : Int, 0 ≤ q ∧ q < S 11 i ∧ K 41 (K 8 i 1) k = S 13 (5 * i + q) ∧ K 42 (K 8 i 1) k = S 12 (5 * i + q) := ((h.2.2.1.2.2.2.2.2.2.2.2.1 i hi.1 hi.2).2.2 h9).2.2.2.2.2.2.2.2.1
theorem Rst.to {S : SS} {n : KN} {K : KS} (h : Rst S n K) {i : Int} (hi : 0 ≤ i ∧ i < S 14 0) (h9 : S 9 i = -1) : ∀ q : Int, 0 ≤ q → q < S 11 i → ∃ k : Int, 0 ≤ k ∧ k < S 11 i ∧ K 41 (K 8 i 1) k = S 13 (5 * i + q) ∧ K 42 (K 8 i 1) k = S 12 (5 * i + q) := ((h.2.2.1.2.2.2.2.2.2.2.2.1 i hi.1 hi.2).2.2 h9).2.2.2.2.2.2.2.2.2
theorem Rst.c3 {S : SS} {n : KN} {K : KS} (h : Rst S n K)   : K 1 0 3 = 0 := h.2.2.2.1.1
theorem Rst.n23 {S : SS} {n : KN} {K : KS} (h : Rst S n K)   : n 23 = 1 := h.2.2.2.1.2.1
theorem Rst.n53 {S : SS} {n : KN} {K : KS} (h : Rst S n K)   : n 53 = 1 := h.2.2.2.1.2.2.1
theorem Rst.l23 {S : SS} {n : KN} {K : KS} (h : Rst S n K)   : K 23 0 1 = 0 := h.2.2.2.1.2.2.2.1
theorem Rst.m23 {S : SS} {n : KN} {K : KS} (h : Rst S n K)   : K 53 0 (-1) = 10 := h.2.2.2.1.2.2.2.2.1
theorem Rst.z23 {S : SS} {n : KN} {K : KS} (h : Rst S n K)   : K 23 0 2 = S 19 0 := h.2.2.2.1.2.2.2.2.2.1
theorem Rst.n11 {S : SS} {n : KN} {K : KS} (h : Rst S n K)   : n 11 = S 19 0 := h.2.2.2.1.2.2.2.2.2.2.1
theorem Rst.s53 {S : SS} {n : KN} {K : KS} (h : Rst S n K) {i : Int} (hi : 0 ≤ i ∧ i < S 19 0)  : K 53 0 i = i := (h.2.2.2.1.2.2.2.2.2.2.2 i hi.1 hi.2).1
theorem Rst.s0 {S : SS} {n : KN} {K : KS} (h : Rst S n K) {i : Int} (hi : 0 ≤ i ∧ i < S 19 0)  : K 11 i 0 = i := (h.2.2.2.1.2.2.2.2.2.2.2 i hi.1 hi.2).2.1
theorem Rst.s1 {S : SS} {n : KN} {K : KS} (h : Rst S n K) {i : Int} (hi : 0 ≤ i ∧ i < S 19 0)  : K 11 i 1 = S 15 i := (h.2.2.2.1.2.2.2.2.2.2.2 i hi.1 hi.2).2.2.1
theorem Rst.s2 {S : SS} {n : KN} {K : KS} (h : Rst S n K) {i : Int} (hi : 0 ≤ i ∧ i < S 19 0)  : K 11 i 2 = S 16 i := (h.2.2.2.1.2.2.2.2.2.2.2 i hi.1 hi.2).2.2.2.1
theorem Rst.s3 {S : SS} {n : KN} {K : KS} (h : Rst S n K) {i : Int} (hi : 0 ≤ i ∧ i < S 19 0)  : K 11 i 3 = S 17 i := (h.2.2.2.1.2.2.2.2.2.2.2 i hi.1 hi.2).2.2.2.2.1
theorem Rst.s4 {S : SS} {n : KN} {K : KS} (h : Rst S n K) {i : Int} (hi : 0 ≤ i ∧ i < S 19 0)  : K 11 i 4 = S 18 i := (h.2.2.2.1.2.2.2.2.2.2.2 i hi.1 hi.2).2.2.2.2.2
theorem Rst.c4 {S : SS} {n : KN} {K : KS} (h : Rst S n K)   : K 1 0 4 = 0 := h.2.2.2.2.1.1
theorem Rst.n24 {S : SS} {n : KN} {K : KS} (h : Rst S n K)   : n 24 = 1 := h.2.2.2.2.1.2.1
theorem Rst.n54 {S : SS} {n : KN} {K : KS} (h : Rst S n K)   : n 54 = 1 := h.2.2.2.2.1.2.2.1
theorem Rst.l24 {S : SS} {n : KN} {K : KS} (h : Rst S n K)   : K 24 0 1 = 0 := h.2.2.2.2.1.2.2.2.1
theorem Rst.m24 {S : SS} {n : KN} {K : KS} (h : Rst S n K)   : K 54 0 (-1) = 24 := h.2.2.2.2.1.2.2.2.2.1
theorem Rst.z24 {S : SS} {n : KN} {K : KS} (h : Rst S n K)   : K 24 0 2 = S 21 0 := h.2.2.2.2.1.2.2.2.2.2.1
theorem Rst.n40 {S : SS} {n : KN} {K : KS} (h : Rst S n K)   : n 40 = n 14 := h.2.2.2.2.1.2.2.2.2.2.2.1
theorem Rst.t54 {S : SS} {n : KN} {K : KS} (h : Rst S n K) {i : Int} (hi : 0 ≤ i ∧ i < S 21 0)  : 0 ≤ K 54 0 i := (h.2.2.2.2.1.2.2.2.2.2.2.2.1 i hi.1 hi.2).1
theorem Rst.t0 {S : SS} {n : KN} {K : KS} (h : Rst S n K) {i : Int} (hi : 0 ≤ i ∧ i < S 21 0)  : K 14 (K 54 0 i) 0 = S 20 (17 * i) := (h.2.2.2.2.1.2.2.2.2.2.2.2.1 i hi.1 hi.2).2.1
theorem Rst.t1 {S : SS} {n : KN} {K : KS} (h : Rst S n K) {i : Int} (hi : 0 ≤ i ∧ i < S 21 0)  : K 14 (K 54 0 i) 1 = S 20 (17 * i + 1) := (h.2.2.2.2.1.2.2.2.2.2.2.2.1 i hi.1 hi.2).2.2.1
theorem Rst.t2 {S : SS} {n : KN} {K : KS} (h : Rst S n K) {i : Int} (hi : 0 ≤ i ∧ i < S 21 0)  : K 14 (K 54 0 i) 2 = S 20 (17 * i + 2) := (h.2.2.2.2.1.2.2.2.2.2.2.2.1 i hi.1 hi.2).2.2.2.1
theorem Rst.t3 {S : SS} {n : KN} {K : KS} (h : Rst S n K) {i : Int} (hi : 0 ≤ i ∧ i < S 21 0)  : K 14 (K 54 0 i) 3 = S 20 (17 * i + 3) := (h.2.2.2.2.1.2.2.2.2.2.2.2.1 i hi.1 hi.2).2.2.2.2.1
theorem Rst.t4 {S : SS} {n : KN} {K : KS} (h : Rst S n K) {i : Int} (hi : 0 ≤ i ∧ i < S 21 0)  : K 14 (K 54 0 i) 4 = S 20 (17 * i + 4) := (h.2.2.2.2.1.2.2.2.2.2.2.2.1 i hi.1 hi.2).2.2.2.2.2.1
theorem Rst.t5 {S : SS} {n : KN} {K : KS} (h : Rst S n K) {i : Int} (hi : 0 ≤ i ∧ i < S 21 0)  : K 14 (K 54 0 i) 5 = S 20 (17 * i + 5) := (h.2.2.2.2.1.2.2.2.2.2.2.2.1 i hi.1 hi.2).2.2.2.2.2.2.1
theorem Rst.t6 {S : SS} {n : KN} {K : KS} (h : Rst S n K) {i : Int} (hi : 0 ≤ i ∧ i < S 21 0)  : K 14 (K 54 0 i) 6 = S 20 (17 * i + 6) := (h.2.2.2.2.1.2.2.2.2.2.2.2.1 i hi.1 hi.2).2.2.2.2.2.2.2.1
theorem Rst.t7 {S : SS} {n : KN} {K : KS} (h : Rst S n K) {i : Int} (hi : 0 ≤ i ∧ i < S 21 0)  : K 14 (K 54 0 i) 7 = K 54 0 i := (h.2.2.2.2.1.2.2.2.2.2.2.2.1 i hi.1 hi.2).2.2.2.2.2.2.2.2.1
theorem Rst.t8 {S : SS} {n : KN} {K : KS} (h : Rst S n K) {i : Int} (hi : 0 ≤ i ∧ i < S 21 0)  : K 14 (K 54 0 i) 8 = S 20 (17 * i + 7) := (h.2.2.2.2.1.2.2.2.2.2.2.2.1 i hi.1 hi.2).2.2.2.2.2.2.2.2.2.1
theorem Rst.t40 {S : SS} {n : KN} {K : KS} (h : Rst S n K) {i : Int} (hi : 0 ≤ i ∧ i < S 21 0)  : K 40 (K 54 0 i) (-1) = 3 := (h.2.2.2.2.1.2.2.2.2.2.2.2.1 i hi.1 hi.2).2.2.2.2.2.2.2.2.2.2.1
theorem Rst.cd {S : SS} {n : KN} {K : KS} (h : Rst S n K) {i : Int} (hi : 0 ≤ i ∧ i < S 21 0) {j : Int} (hj : 0 ≤ j ∧ j < S 20 (17 * i + 7)) : 0 ≤ K 40 (K 54 0 i) j ∧ K 15 (K 40 (K 54 0 i) j) 0 = S 20 (17 * i + 8 + 3 * j) ∧ 0 ≤ K 15 (K 40 (K 54 0 i) j) 1 ∧ K 16 (K 15 (K 40 (K 54 0 i) j) 1) 9 = S 20 (17 * i + 9 + 3 * j) ∧ K 16 (K 15 (K 40 (K 54 0 i) j) 1) 0 = S 20 (17 * i + 10 + 3 * j) ∧ K 16 (K 15 (K 40 (K 54 0 i) j) 1) (-1) = 1 := (h.2.2.2.2.1.2.2.2.2.2.2.2.1 i hi.1 hi.2).2.2.2.2.2.2.2.2.2.2.2 j hj.1 hj.2
theorem Rst.inj {S : SS} {n : KN} {K : KS} (h : Rst S n K)  {t u : Int} (ht : 0 ≤ t ∧ t < S 21 0) (hu : 0 ≤ u ∧ u < S 21 0) (e : K 54 0 t = K 54 0 u) : t = u := h.2.2.2.2.1.2.2.2.2.2.2.2.2 t u ht.1 ht.2 hu.1 hu.2 e
theorem Rst.n1 {S : SS} {n : KN} {K : KS} (h : Rst S n K)   : n 1 = 1 := h.2.2.2.2.2.1.1
theorem Rst.c5 {S : SS} {n : KN} {K : KS} (h : Rst S n K)   : K 1 0 5 = S 22 0 := h.2.2.2.2.2.1.2.1
theorem Rst.c7 {S : SS} {n : KN} {K : KS} (h : Rst S n K)   : K 1 0 7 = 0 := h.2.2.2.2.2.1.2.2.1
theorem Rst.c8 {S : SS} {n : KN} {K : KS} (h : Rst S n K)   : K 1 0 8 = 0 := h.2.2.2.2.2.1.2.2.2.1
theorem Rst.c9 {S : SS} {n : KN} {K : KS} (h : Rst S n K)   : K 1 0 9 = 1 := h.2.2.2.2.2.1.2.2.2.2.1
theorem Rst.c10 {S : SS} {n : KN} {K : KS} (h : Rst S n K)   : K 1 0 10 = 2 := h.2.2.2.2.2.1.2.2.2.2.2.1
theorem Rst.c11 {S : SS} {n : KN} {K : KS} (h : Rst S n K)   : K 1 0 11 = 0 := h.2.2.2.2.2.1.2.2.2.2.2.2.1
theorem Rst.n3 {S : SS} {n : KN} {K : KS} (h : Rst S n K)   : n 3 = 3 := h.2.2.2.2.2.1.2.2.2.2.2.2.2.1
theorem Rst.n34 {S : SS} {n : KN} {K : KS} (h : Rst S n K)   : n 34 = 3 := h.2.2.2.2.2.1.2.2.2.2.2.2.2.2.1
theorem Rst.b0 {S : SS} {n : KN} {K : KS} (h : Rst S n K) {i : Int} (hi : 0 ≤ i ∧ i < 3)  : K 3 i 0 = i := (h.2.2.2.2.2.1.2.2.2.2.2.2.2.2.2.1 i hi.1 hi.2).1
theorem Rst.b1 {S : SS} {n : KN} {K : KS} (h : Rst S n K) {i : Int} (hi : 0 ≤ i ∧ i < 3)  : K 3 i 1 = 0 := (h.2.2.2.2.2.1.2.2.2.2.2.2.2.2.2.1 i hi.1 hi.2).2.1
theorem Rst.b34 {S : SS} {n : KN} {K : KS} (h : Rst S n K) {i : Int} (hi : 0 ≤ i ∧ i < 3)  : K 34 i (-1) = 12 := (h.2.2.2.2.2.1.2.2.2.2.2.2.2.2.2.1 i hi.1 hi.2).2.2
theorem Rst.n2 {S : SS} {n : KN} {K : KS} (h : Rst S n K)   : 1 ≤ n 2 := h.2.2.2.2.2.1.2.2.2.2.2.2.2.2.2.2.1
theorem Rst.n31 {S : SS} {n : KN} {K : KS} (h : Rst S n K)   : n 31 = n 2 := h.2.2.2.2.2.1.2.2.2.2.2.2.2.2.2.2.2.1
theorem Rst.n32 {S : SS} {n : KN} {K : KS} (h : Rst S n K)   : n 32 = n 2 := h.2.2.2.2.2.1.2.2.2.2.2.2.2.2.2.2.2.2.1
theorem Rst.n33 {S : SS} {n : KN} {K : KS} (h : Rst S n K)   : n 33 = n 2 := h.2.2.2.2.2.1.2.2.2.2.2.2.2.2.2.2.2.2.2.1
theorem Rst.o0 {S : SS} {n : KN} {K : KS} (h : Rst S n K) {i : Int} (hi : 0 ≤ i ∧ i < n 2)  : K 2 i 0 = i := (h.2.2.2.2.2.1.2.2.2.2.2.2.2.2.2.2.2.2.2.2 i hi.1 hi.2).1
theorem Rst.o1 {S : SS} {n : KN} {K : KS} (h : Rst S n K) {i : Int} (hi : 0 ≤ i ∧ i < n 2)  : K 2 i 1 = i := (h.2.2.2.2.2.1.2.2.2.2.2.2.2.2.2.2.2.2.2.2 i hi.1 hi.2).2.1
theorem Rst.o2 {S : SS} {n : KN} {K : KS} (h : Rst S n K) {i : Int} (hi : 0 ≤ i ∧ i < n 2)  : K 2 i 2 = i := (h.2.2.2.2.2.1.2.2.2.2.2.2.2.2.2.2.2.2.2.2 i hi.1 hi.2).2.2.1
theorem Rst.o31 {S : SS} {n : KN} {K : KS} (h : Rst S n K) {i : Int} (hi : 0 ≤ i ∧ i < n 2)  : K 31 i (-1) = 40 := (h.2.2.2.2.2.1.2.2.2.2.2.2.2.2.2.2.2.2.2.2 i hi.1 hi.2).2.2.2.1
theorem Rst.o32 {S : SS} {n : KN} {K : KS} (h : Rst S n K) {i : Int} (hi : 0 ≤ i ∧ i < n 2)  : K 32 i (-1) = 40 := (h.2.2.2.2.2.1.2.2.2.2.2.2.2.2.2.2.2.2.2.2 i hi.1 hi.2).2.2.2.2.1
theorem Rst.o33 {S : SS} {n : KN} {K : KS} (h : Rst S n K) {i : Int} (hi : 0 ≤ i ∧ i < n 2)  : K 33 i (-1) = 40 := (h.2.2.2.2.2.1.2.2.2.2.2.2.2.2.2.2.2.2.2.2 i hi.1 hi.2).2.2.2.2.2
theorem Rst.n35 {S : SS} {n : KN} {K : KS} (h : Rst S n K)   : n 35 = n 12 := h.2.2.2.2.2.2.1
theorem Rst.n36 {S : SS} {n : KN} {K : KS} (h : Rst S n K)   : n 36 = n 12 := h.2.2.2.2.2.2.2.1
theorem Rst.n37 {S : SS} {n : KN} {K : KS} (h : Rst S n K)   : n 37 = n 12 := h.2.2.2.2.2.2.2.2.1
theorem Rst.n2m {S : SS} {n : KN} {K : KS} (h : Rst S n K)   : n 2 = n 12 + 1 := h.2.2.2.2.2.2.2.2.2.1
theorem Rst.m6 {S : SS} {n : KN} {K : KS} (h : Rst S n K) {i : Int} (hi : 0 ≤ i ∧ i < n 12)  : K 12 i 6 = i + 1 := (h.2.2.2.2.2.2.2.2.2.2 i hi.1 hi.2).1
theorem Rst.m7 {S : SS} {n : KN} {K : KS} (h : Rst S n K) {i : Int} (hi : 0 ≤ i ∧ i < n 12)  : K 12 i 7 = i := (h.2.2.2.2.2.2.2.2.2.2 i hi.1 hi.2).2.1
theorem Rst.m11 {S : SS} {n : KN} {K : KS} (h : Rst S n K) {i : Int} (hi : 0 ≤ i ∧ i < n 12)  : K 12 i 11 = i := (h.2.2.2.2.2.2.2.2.2.2 i hi.1 hi.2).2.2.1
theorem Rst.m12 {S : SS} {n : KN} {K : KS} (h : Rst S n K) {i : Int} (hi : 0 ≤ i ∧ i < n 12)  : K 12 i 12 = i := (h.2.2.2.2.2.2.2.2.2.2 i hi.1 hi.2).2.2.2.1
theorem Rst.m14 {S : SS} {n : KN} {K : KS} (h : Rst S n K) {i : Int} (hi : 0 ≤ i ∧ i < n 12)  : K 12 i 14 = 0 := (h.2.2.2.2.2.2.2.2.2.2 i hi.1 hi.2).2.2.2.2.1
theorem Rst.m35 {S : SS} {n : KN} {K : KS} (h : Rst S n K) {i : Int} (hi : 0 ≤ i ∧ i < n 12)  : K 35 i (-1) = 120 := (h.2.2.2.2.2.2.2.2.2.2 i hi.1 hi.2).2.2.2.2.2.1
theorem Rst.m36 {S : SS} {n : KN} {K : KS} (h : Rst S n K) {i : Int} (hi : 0 ≤ i ∧ i < n 12)  : K 36 i (-1) = 48 := (h.2.2.2.2.2.2.2.2.2.2 i hi.1 hi.2).2.2.2.2.2.2.1
theorem Rst.m37 {S : SS} {n : KN} {K : KS} (h : Rst S n K) {i : Int} (hi : 0 ≤ i ∧ i < n 12)  : K 37 i (-1) = 48 := (h.2.2.2.2.2.2.2.2.2.2 i hi.1 hi.2).2.2.2.2.2.2.2
