set_option linter.unusedVariables false
/-- what a machine's run may write: its own object, values of parameters, work space, poses 0 and its own, its arrays, its tracks -/
def FT (mi ta tb m : Int) (k : Nat) (i f : Int) : Prop := k = 12 ∧ i = mi ∧ (f ≤ 5 ∨ f = 8 ∨ f = 9 ∨ f = 13) ∨ k = 5 ∧ f = 1 ∨ k = 34 ∧ 0 ≤ f ∨ k = 2 ∧ (i = 0 ∨ i = mi + 1) ∧ f = 3 ∨ (31 ≤ k ∧ k ≤ 33) ∧ (i = 0 ∨ i = mi + 1) ∧ 0 ≤ f ∨ (35 ≤ k ∧ k ≤ 37) ∧ i = mi ∧ 0 ≤ f ∨ k = 13 ∧ (i = ta ∨ i = tb ∨ m ≤ i ∨ i < 0)
theorem FT.m {mi ta tb m f : Int} (h : f ≤ 5 ∨ f = 8 ∨ f = 9 ∨ f = 13) : FT mi ta tb m 12 mi f := Or.inl ⟨rfl, rfl, h⟩
theorem FT.v {mi ta tb m i : Int} : FT mi ta tb m 5 i 1 := Or.inr (Or.inl ⟨rfl, rfl⟩)
theorem FT.b {mi ta tb m i f : Int} (h : 0 ≤ f) : FT mi ta tb m 34 i f := Or.inr (Or.inr (Or.inl ⟨rfl, h⟩))
theorem FT.p0 {mi ta tb m : Int} : FT mi ta tb m 2 0 3 := Or.inr (Or.inr (Or.inr (Or.inl ⟨rfl, Or.inl rfl, rfl⟩)))
theorem FT.p1 {mi ta tb m : Int} : FT mi ta tb m 2 (mi + 1) 3 := Or.inr (Or.inr (Or.inr (Or.inl ⟨rfl, Or.inr rfl, rfl⟩)))
theorem FT.q0 {mi ta tb m f : Int} {k : Nat} (hk : 31 ≤ k ∧ k ≤ 33) (h : 0 ≤ f) : FT mi ta tb m k 0 f := Or.inr (Or.inr (Or.inr (Or.inr (Or.inl ⟨hk, Or.inl rfl, h⟩))))
theorem FT.q1 {mi ta tb m f : Int} {k : Nat} (hk : 31 ≤ k ∧ k ≤ 33) (h : 0 ≤ f) : FT mi ta tb m k (mi + 1) f := Or.inr (Or.inr (Or.inr (Or.inr (Or.inl ⟨hk, Or.inr rfl, h⟩))))
theorem FT.a {mi ta tb m f : Int} {k : Nat} (hk : 35 ≤ k ∧ k ≤ 37) (h : 0 ≤ f) : FT mi ta tb m k mi f := Or.inr (Or.inr (Or.inr (Or.inr (Or.inr (Or.inl ⟨hk, rfl, h⟩)))))
theorem FT.t {mi ta tb m i f : Int} (h : i = ta ∨ i = tb ∨ m ≤ i ∨ i < 0) : FT mi ta tb m 13 i f := Or.inr (Or.inr (Or.inr (Or.inr (Or.inr (Or.inr ⟨rfl, h⟩)))))
theorem FT.n10 {mi ta tb m : Int} : ¬ FT mi ta tb m 12 mi 10 := by unfold FT; omega
/-- a track that a run has come to -/
def TkS (ta tb m t : Int) : Prop := t = ta ∨ t = tb ∨ m ≤ t ∨ t < 0
theorem FT.mono {mi ta tb m ta' tb' m' : Int} (ha : TkS ta tb m ta') (hb : TkS ta tb m tb') (hm : m ≤ m') : ∀ k i f, FT mi ta' tb' m' k i f → FT mi ta tb m k i f := by
  intro k i f h
  rcases h with h | h | h | h | h | h | ⟨h1, h2⟩
  · exact Or.inl h
  · exact Or.inr (Or.inl h)
  · exact Or.inr (Or.inr (Or.inl h))
  · exact Or.inr (Or.inr (Or.inr (Or.inl h)))
  · exact Or.inr (Or.inr (Or.inr (Or.inr (Or.inl h))))
  · exact Or.inr (Or.inr (Or.inr (Or.inr (Or.inr (Or.inl h)))))
  · subst h1
    unfold TkS at ha hb
    exact FT.t (by omega)
theorem kf_upo {K K' : KS} {P : Nat → Int → Int → Prop} (h : KF K K' P) {k : Nat} {i : Int} {g : Int → Int} (hp : ∀ f, P k i f) : KF K (upo K' k i g) P := fun k' i' f' hn => by
  unfold upo
  rw [if_neg (fun z => hn (by rw [z.1, z.2]; exact hp f'))]
  exact h k' i' f' hn
theorem KF.upo {K K' : KS} {P : Nat → Int → Int → Prop} (h : KF K K' P) {k : Nat} {i : Int} {g : Int → Int} (hp : ∀ f, P k i f) : KF K (upo K' k i g) P := kf_upo h hp
/-- how many there are of kinds of which the structure doesn't speak -/
abbrev NSk (k : Nat) : Prop := k = 7 ∨ k = 13 ∨ (15 ≤ k ∧ k ≤ 19) ∨ k = 27 ∨ k = 28 ∨ k = 38 ∨ 57 ≤ k
def nmk (n : KN) : KN := fun k => if NSk k then 0 else n k
theorem nmk_par {S : SS} {n : KN} {K : KS} : RepPar S (nmk n) K ↔ RepPar S n K := by unfold RepPar; simp [nmk, NSk]
theorem nmk_clip {S : SS} {n : KN} {K : KS} : RepClip S (nmk n) K ↔ RepClip S n K := by unfold RepClip; simp [nmk, NSk]
theorem nmk_node {S : SS} {n : KN} {K : KS} : RepNode S (nmk n) K ↔ RepNode S n K := by unfold RepNode; simp [nmk, NSk]
theorem nmk_state {S : SS} {n : KN} {K : KS} : RepState S (nmk n) K ↔ RepState S n K := by unfold RepState; simp [nmk, NSk]
theorem nmk_trans {S : SS} {n : KN} {K : KS} : RepTrans S (nmk n) K ↔ RepTrans S n K := by unfold RepTrans; simp [nmk, NSk]
theorem nmk_ctl {S : SS} {n : KN} {K : KS} : RepCtl S (nmk n) K ↔ RepCtl S n K := by unfold RepCtl; simp [nmk, NSk]
theorem nmk_sh {n : KN} {K : KS} : RepSh (nmk n) K ↔ RepSh n K := by unfold RepSh; simp [nmk, NSk]
theorem Rst.nm {S : SS} {n : KN} {K : KS} : Rst S (nmk n) K ↔ Rst S n K := by unfold Rst; rw [nmk_par, nmk_clip, nmk_node, nmk_state, nmk_trans, nmk_ctl, nmk_sh]
theorem Rst.nk {S : SS} {n n' : KN} {K : KS} (h : Rst S n K) (hn : ∀ k, ¬ NSk k → n' k = n k) : Rst S n' K := by
  have e : nmk n' = nmk n := by
    funext k
    unfold nmk
    split
    · rfl
    · rename_i z; exact hn k z
  rw [← Rst.nm, e, Rst.nm]
  exact h
theorem Rst.u {S : SS} {n : KN} {K : KS} (h : Rst S n K) {k : Nat} {i f v : Int} (hs : ¬ SKd k f) : Rst S n (up3 K k i f v) :=
  h.kf (P := fun k' i' f' => k' = k ∧ i' = i ∧ f' = f) (KF.up KF.rf ⟨rfl, rfl, rfl⟩) (fun k' i' f' z => by rw [z.1, z.2.2]; exact hs)
def msk5 (K : KS) : KS := fun k i f => if SKd k f ∧ ¬ (k = 5 ∧ f = 1) then K k i f else 0
theorem msk5_clip {S : SS} {n : KN} {K : KS} : RepClip S n (msk5 K) ↔ RepClip S n K := by unfold RepClip; simp [msk5, SKd]
theorem msk5_node {S : SS} {n : KN} {K : KS} : RepNode S n (msk5 K) ↔ RepNode S n K := by unfold RepNode; simp [msk5, SKd]
theorem msk5_state {S : SS} {n : KN} {K : KS} : RepState S n (msk5 K) ↔ RepState S n K := by unfold RepState; simp [msk5, SKd]
theorem msk5_trans {S : SS} {n : KN} {K : KS} : RepTrans S n (msk5 K) ↔ RepTrans S n K := by unfold RepTrans RepTr1; simp [msk5, SKd]
theorem msk5_ctl {S : SS} {n : KN} {K : KS} : RepCtl S n (msk5 K) ↔ RepCtl S n K := by unfold RepCtl; simp [msk5, SKd]
theorem msk5_sh {n : KN} {K : KS} : RepSh n (msk5 K) ↔ RepSh n K := by unfold RepSh; simp [msk5, SKd]
/-- the structure lasts while values are written -/
theorem Rst.vl {S S' : SS} {n : KN} {K K' : KS} {P : Nat → Int → Int → Prop} (h : Rst S n K) (hf : ∀ f : Nat, f ≠ 0 → S' f = S f) (hk : KF K K' P) (hp : ∀ k i f, P k i f → SKd k f → k = 5 ∧ f = 1) (hv : ∀ p : Int, 0 ≤ p → p < S 3 0 → K' 5 p 1 = S' 0 p) : Rst S' n K' := by
  have e : msk5 K' = msk5 K := by
    funext k i f
    unfold msk5
    split
    · rename_i z; exact hk k i f (fun y => z.2 (hp k i f y z.1))
    · rfl
  have ek : ∀ (k : Nat) (i f : Int), SKd k f → ¬ (k = 5 ∧ f = 1) → K' k i f = K k i f := fun k i f z1 z2 => hk k i f (fun y => z2 (hp k i f y z1))
  have q : Rst (fun f j => if f = 0 then S' 0 j else S f j) n K' := by
    have c2 : RepClip S n K' := by rw [← msk5_clip, e, msk5_clip]; exact h.2.1
    have c3 : RepNode S n K' := by rw [← msk5_node, e, msk5_node]; exact h.2.2.1
    have c4 : RepState S n K' := by rw [← msk5_state, e, msk5_state]; exact h.2.2.2.1
    have c5 : RepTrans S n K' := by rw [← msk5_trans, e, msk5_trans]; exact h.2.2.2.2.1
    have c6 : RepCtl S n K' := by rw [← msk5_ctl, e, msk5_ctl]; exact h.2.2.2.2.2.1
    have c7 : RepSh n K' := by rw [← msk5_sh, e, msk5_sh]; exact h.2.2.2.2.2.2
    refine ⟨?_, c2, c3, c4, c5, c6, c7⟩
    obtain ⟨⟨a1, a2, a3, a4, a5, a6, a7, a8⟩, -⟩ := h
    refine ⟨by rw [ek 1 0 0 (by unfold SKd; omega) (by omega)]; exact a1, a2, a3, by rw [ek 20 0 1 (by unfold SKd; omega) (by omega)]; exact a4, by rw [ek 50 0 (-1) (by unfold SKd; omega) (by omega)]; exact a5, by rw [ek 20 0 2 (by unfold SKd; omega) (by omega)]; exact a6, a7, fun p p0 p1 => ?_⟩
    rw [ek 50 0 p (by unfold SKd; omega) (by omega), ek 5 p 0 (by unfold SKd; omega) (by omega)]
    exact ⟨(a8 p p0 p1).1, (a8 p p0 p1).2.1, hv p p0 p1⟩
  have e2 : (fun (f : Nat) (j : Int) => if f = 0 then S' 0 j else S f j) = S' := by
    funext f j
    by_cases z : f = 0
    · subst z; rfl
    · rw [if_neg z, hf f z]
  rw [e2] at q
  exact q
theorem MV.vl {S S' : SS} {n : KN} {K : KS} {mi ta tb fa fb : Int} (h : MV S n K mi ta tb fa fb) (hs : ∀ j : Int, 8 ≤ j → S' 0 j = S 0 j) : MV S' n K mi ta tb fa fb := by
  obtain ⟨a1, a2, a3, a4, a5, a6⟩ := h
  unfold MV
  rw [frS_eq (fun j hj => hs j (by omega)), hs 8 (by omega), hs 9 (by omega), hs 10 (by omega), hs 11 (by omega), hs 12 (by omega), hs 13 (by omega), hs 14 (by omega), hs 16 (by omega), hs 17 (by omega), hs 18 (by omega), hs 20 (by omega), hs 166 (by omega), hs 288 (by omega)]
  exact ⟨a1, a2, a3, a4, a5, a6.1, fun j j0 j1 => (a6.2.1 j j0 j1).trans (hs _ (by omega)).symm, a6.2.2⟩
/-- a machine at its source alone -/
def MVa (S : SS) (n : KN) (K : KS) (mi ta fa : Int) : Prop := (0 ≤ mi ∧ mi < n 12) ∧ (K 12 mi 0 = ta ∧ 0 ≤ ta ∧ ta < n 13 ∧ K 13 ta 0 = S 0 12 ∧ K 13 ta 1 = S 0 13 ∧ K 13 ta 2 = S 0 14 ∧ K 13 ta 3 = fa) ∧ (K 12 mi 4 = S 0 11 ∧ K 12 mi 5 = S 0 20) ∧
  (S 0 20 = 1 → PA (frS S 0) (K 2 (mi + 1) 3) (K 31 (mi + 1)) (K 32 (mi + 1)) (K 33 (mi + 1))) ∧ K 12 mi 8 = S 0 166 ∧ (∀ j : Int, 0 ≤ j → j < 4 * S 0 166 → K 35 mi j = S 0 (167 + j)) ∧ K 12 mi 9 = S 0 288
theorem MVa.idle {S : SS} {n : KN} {K : KS} {mi ta tb fa fb l : Int} (h : MV S n K mi ta tb fa fb) (h8 : S 0 8 = 0) : MVa (takB S l) n K mi ta fa := by
  obtain ⟨a1, a2, a3, a4, a5, a6⟩ := h
  have b := (a4.resolve_right (by omega)).2.2.2
  have e : takB S l = up2 (up2 (up2 S 0 11 0) 0 20 0) 0 21 0 := by unfold takB; rw [if_neg (by omega)]
  have o : ∀ j : Int, j ≠ 11 → j ≠ 20 → j ≠ 21 → takB S l 0 j = S 0 j := fun j x y z => by rw [e, up2_j _ _ _ _ z, up2_j _ _ _ _ y, up2_j _ _ _ _ x]
  have o11 : takB S l 0 11 = 0 := by rw [e, up2_j _ _ _ _ (by omega), up2_j _ _ _ _ (by omega), up2_s]
  have o20 : takB S l 0 20 = 0 := by rw [e, up2_j _ _ _ _ (by omega), up2_s]
  unfold MVa
  rw [o 12 (by omega) (by omega) (by omega), o 13 (by omega) (by omega) (by omega), o 14 (by omega) (by omega) (by omega), o 166 (by omega) (by omega) (by omega), o 288 (by omega) (by omega) (by omega), o11, o20]
  exact ⟨a1, a2, ⟨b.2.1, b.2.2⟩, fun z => by omega, a6.1, fun j j0 j1 => (a6.2.1 j j0 j1).trans (o _ (by omega) (by omega) (by omega)).symm, a6.2.2⟩
/-- the frozen store's numbers -/
theorem frzS_v {S : SS} {l : Int} (hl : (poseS S).length ≤ 32) : frS (frzS S l) 0 = poseS S ∧ frzS S l 0 11 = S 0 11 + 1 ∧ frzS S l 0 20 = 1 ∧ (∀ j : Int, 0 ≤ j → j < 4 → frzS S l 0 (12 + j) = S 0 (if l = 2 then 16 + j else 12 + j)) ∧ ∀ j : Int, (j < 11 ∨ 16 ≤ j ∧ j < 20 ∨ 118 ≤ j) → frzS S l 0 j = S 0 j := by
  obtain ⟨P, hP⟩ : ∃ z, z = poseS S := ⟨_, rfl⟩
  unfold frzS
  rw [← hP] at hl ⊢
  obtain ⟨S1, hS1⟩ : ∃ z : SS, z = frzY (frzM S P P.length) P.length := ⟨_, rfl⟩
  rw [← hS1]
  have o1 : ∀ j : Int, j ≠ 11 → j ≠ 20 → (j < 21 ∨ 118 ≤ j) → S1 0 j = S 0 j := fun j h1 h2 h3 => by rw [hS1, frzY_o (by omega), frzM_o _ (by omega)]
  obtain ⟨a11, a20, a21⟩ := frzY_i (frzM S P P.length) P.length
  rw [← hS1, frzM_o _ (by omega)] at a11
  rw [← hS1] at a20 a21
  have hfr : frS S1 0 = P := frz_frS a21 (fun i i0 i1 => by rw [hS1, frzY_o (by omega), frzY_o (by omega), frzY_o (by omega)]; exact frzM_i _ ⟨i0, i1⟩)
  by_cases e : l = 2
  · rw [if_pos e]
    refine ⟨?_, by rw [cpyS_r (by omega)]; exact a11, by rw [cpyS_r (by omega)]; exact a20, fun j j0 j1 => ?_, fun j hj => by rw [cpyS_r (by omega)]; exact o1 j (by omega) (by omega) (by omega)⟩
    · rw [frS_eq (S := S1) (fun j hj => cpyS_r (by omega) _)]; exact hfr
    · rw [cpyS_i (by omega), if_pos e, show 12 + j - 12 + 16 = 16 + j by omega]; exact o1 _ (by omega) (by omega) (by omega)
  · rw [if_neg e]
    exact ⟨hfr, a11, a20, fun j j0 j1 => by rw [if_neg e]; exact o1 _ (by omega) (by omega) (by omega), fun j hj => o1 j (by omega) (by omega) (by omega)⟩
theorem MVa.frz {S : SS} {n : KN} {K K' : KS} {mi ta tb fa fb l g tc fc : Int} (h : MV S n K mi ta tb fa fb) (h8 : S 0 8 = 1) (hl : (poseS S).length ≤ 32) (hg : l = 2 ∧ g = 0 ∨ l = 1 ∧ g ≠ 0) (ht : tc = if g = 0 then tb else ta) (hfc : fc = if g = 0 then fb else fa)
    (e13 : ∀ i f, K' 13 i f = K 13 i f) (e35 : ∀ f, K' 35 mi f = K 35 mi f) (e8 : K' 12 mi 8 = K 12 mi 8) (e9 : K' 12 mi 9 = K 12 mi 9) (e0 : K' 12 mi 0 = tc) (e4 : K' 12 mi 4 = S 0 11 + 1) (e5 : K' 12 mi 5 = 1) (hp : PA (poseS S) (K' 2 (mi + 1) 3) (K' 31 (mi + 1)) (K' 32 (mi + 1)) (K' 33 (mi + 1))) : MVa (takB S l) n K' mi tc fc := by
  obtain ⟨a1, a2, a3, a4, a5, a6⟩ := h
  have b := (a4.resolve_left (by omega)).2.1
  obtain ⟨v1, v2, v3, v4, v5⟩ := frzS_v (l := l) hl
  have e : takB S l = frzS S l := by unfold takB; rw [if_pos h8]
  have w0 := v4 0 (by omega) (by omega)
  have w1 := v4 1 (by omega) (by omega)
  have w2 := v4 2 (by omega) (by omega)
  rw [show (12 : Int) + 0 = 12 by omega] at w0
  rw [show (12 : Int) + 1 = 13 by omega] at w1
  rw [show (12 : Int) + 2 = 14 by omega] at w2
  unfold MVa
  rw [e, e0, e4, e5, e8, e9, e13, e13, e13, e13, v1, v2, v3, w0, w1, w2, v5 166 (by omega), v5 288 (by omega)]
  refine ⟨a1, ?_, ⟨rfl, rfl⟩, fun _ => hp, a6.1, fun j j0 j1 => ?_, a6.2.2⟩
  · rcases hg with ⟨z1, z2⟩ | ⟨z1, z2⟩
    · rw [if_pos z2] at ht hfc
      subst ht; subst hfc
      rw [if_pos z1, if_pos z1, if_pos z1]
      exact ⟨rfl, b.1, a3.2, b.2.2.1, b.2.2.2.1, b.2.2.2.2.1, b.2.2.2.2.2⟩
    · rw [if_neg z2] at ht hfc
      subst ht; subst hfc
      have z3 : ¬ l = 2 := by omega
      rw [if_neg z3, if_neg z3, if_neg z3]
      exact ⟨rfl, a2.2⟩
  · rw [e35, v5 _ (by omega)]
    exact a6.2.1 j j0 j1
