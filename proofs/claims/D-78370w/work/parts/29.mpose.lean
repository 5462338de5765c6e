set_option linter.unusedVariables false
/-- a pose in four places: how many; clips, times, weights -/
def PA (P : SP) (m : Int) (c t w : Int → Int) : Prop := m = P.length ∧ ∀ (k : Nat) (e : Int × Int × Int), P[k]? = some e → c k = e.1 ∧ t k = e.2.1 ∧ w k = e.2.2
abbrev ltE (e : Int × Int × Int) (c t : Int) : Prop := e.1 < c ∨ e.1 = c ∧ e.2.1 < t
abbrev eqE (e : Int × Int × Int) (c t : Int) : Prop := e.1 = c ∧ e.2.1 = t
/-- an entry is added to a pose -/
def insP (P : SP) (c t w : Int) : SP := match P with
  | [] => [(c, t, w)]
  | e :: P => if e.1 < c ∨ e.1 = c ∧ e.2.1 < t then e :: insP P c t w else if e.1 = c ∧ e.2.1 = t then (c, t, e.2.2 + w) :: P else (c, t, w) :: e :: P
theorem insP_new {c t w : Int} : ∀ (P : SP) (k : Nat), (∀ j : Nat, j < k → ∃ e, P[j]? = some e ∧ ltE e c t) → (∀ e, P[k]? = some e → ¬ ltE e c t ∧ ¬ eqE e c t) → k ≤ P.length → insP P c t w = P.take k ++ (c, t, w) :: P.drop k
  | [], k, h1, h2, h3 => by
    have : k = 0 := by simpa using h3
    subst this; rfl
  | e :: P, 0, h1, h2, h3 => by
    obtain ⟨a, b⟩ := h2 e rfl
    rw [insP, if_neg a, if_neg b]; rfl
  | e :: P, k + 1, h1, h2, h3 => by
    obtain ⟨e0, q1, q2⟩ := h1 0 (by omega)
    have : e = e0 := by simpa using q1
    subst this
    rw [insP, if_pos q2, insP_new P k (fun j hj => h1 (j + 1) (by omega)) (fun e he => h2 e (by simpa using he)) (by simpa using h3)]
    rfl
theorem insP_old {c t w : Int} : ∀ (P : SP) (k : Nat) (e : Int × Int × Int), (∀ j : Nat, j < k → ∃ e, P[j]? = some e ∧ ltE e c t) → P[k]? = some e → eqE e c t → insP P c t w = P.set k (c, t, e.2.2 + w)
  | [], k, e, h1, h2, h3 => by simp at h2
  | e :: P, 0, e1, h1, h2, h3 => by
    have : e = e1 := by simpa using h2
    subst this
    rw [insP, if_neg (by unfold eqE at h3; omega), if_pos h3]; rfl
  | e :: P, k + 1, e1, h1, h2, h3 => by
    obtain ⟨e0, q1, q2⟩ := h1 0 (by omega)
    have : e = e0 := by simpa using q1
    subst this
    rw [insP, if_pos q2, insP_old P k e1 (fun j hj => h1 (j + 1) (by omega)) (by simpa using h2) h3]
    rfl
theorem insP_len {c t w : Int} : ∀ (P : SP), P.length ≤ (insP P c t w).length ∧ (insP P c t w).length ≤ P.length + 1
  | [] => by simp [insP]
  | e :: P => by
    have := insP_len (c := c) (t := t) (w := w) P
    rw [insP]
    split
    · simp only [List.length_cons]; omega
    · split
      · simp only [List.length_cons]; omega
      · simp only [List.length_cons]; omega
theorem insP_sum {c t w : Int} : ∀ (P : SP), sumW (insP P c t w) = sumW P + w
  | [] => by simp [insP, sumW]
  | e :: P => by
    have h := insP_sum (c := c) (t := t) (w := w) P
    unfold sumW at *
    rw [insP]
    split
    · simp only [List.map_cons, List.sum_cons, h]; omega
    · split
      · simp only [List.map_cons, List.sum_cons]; omega
      · simp only [List.map_cons, List.sum_cons]; omega
theorem insP_mem {c t w : Int} : ∀ (P : SP) (e : Int × Int × Int), e ∈ insP P c t w → e ∈ P ∨ e = (c, t, w) ∨ ∃ e0 ∈ P, e = (c, t, e0.2.2 + w)
  | [], e, h => by simp [insP] at h; exact Or.inr (Or.inl h)
  | e0 :: P, e, h => by
    rw [insP] at h
    split at h
    · rcases List.mem_cons.mp h with rfl | h
      · exact Or.inl (List.mem_cons_self ..)
      · rcases insP_mem P e h with h | h | ⟨e1, h, h2⟩
        · exact Or.inl (List.mem_cons_of_mem _ h)
        · exact Or.inr (Or.inl h)
        · exact Or.inr (Or.inr ⟨e1, List.mem_cons_of_mem _ h, h2⟩)
    · split at h
      · rcases List.mem_cons.mp h with rfl | h
        · exact Or.inr (Or.inr ⟨e0, List.mem_cons_self .., rfl⟩)
        · exact Or.inl (List.mem_cons_of_mem _ h)
      · rcases List.mem_cons.mp h with rfl | h
        · exact Or.inr (Or.inl rfl)
        · exact Or.inl h
theorem insP_ord {c t w : Int} : ∀ (P : SP), P.Pairwise lexLt → (insP P c t w).Pairwise lexLt
  | [], _ => by simp [insP]
  | e :: P, h => by
    obtain ⟨h1, h2⟩ := List.pairwise_cons.mp h
    rw [insP]
    split
    · rename_i hl
      refine List.pairwise_cons.mpr ⟨fun x hx => ?_, insP_ord P h2⟩
      rcases insP_mem P x hx with hx | rfl | ⟨e1, hx, rfl⟩
      · exact h1 x hx
      · exact hl
      · exact hl
    · split
      · rename_i hl he
        refine List.pairwise_cons.mpr ⟨fun x hx => ?_, h2⟩
        have := h1 x hx
        unfold lexLt at *
        dsimp only
        omega
      · rename_i hl he
        refine List.pairwise_cons.mpr ⟨fun x hx => ?_, h⟩
        rcases List.mem_cons.mp hx with rfl | hx
        · unfold lexLt; dsimp only; omega
        · have := h1 x hx
          unfold lexLt at *
          dsimp only
          omega
/-- an entry is added, place by place -/
theorem PA_new {P : SP} {m m' k c t w : Int} {fc ft fw gc gt gw : Int → Int} (h : PA P m fc ft fw) (hk : 0 ≤ k ∧ k ≤ m) (hm : m' = m + 1)
    (hlt : ∀ j : Int, 0 ≤ j → j < k → fc j < c ∨ fc j = c ∧ ft j < t) (hge : k < m → ¬ (fc k < c ∨ fc k = c ∧ ft k < t) ∧ ¬ (fc k = c ∧ ft k = t))
    (hg : ∀ j : Int, 0 ≤ j → j ≤ m → (gc j = if j = k then c else if k < j then fc (j - 1) else fc j) ∧ (gt j = if j = k then t else if k < j then ft (j - 1) else ft j) ∧ (gw j = if j = k then w else if k < j then fw (j - 1) else fw j)) : PA (insP P c t w) m' gc gt gw := by
  obtain ⟨h1, h2⟩ := h
  obtain ⟨q, rfl⟩ : ∃ q : Nat, k = q := ⟨k.toNat, by omega⟩
  have hq : q ≤ P.length := by omega
  have e := insP_new (c := c) (t := t) (w := w) P q (fun j hj => by
      obtain ⟨x, hx⟩ : ∃ x, P[j]? = some x := ⟨P[j]'(by omega), List.getElem?_eq_getElem (by omega)⟩
      obtain ⟨a, b, -⟩ := h2 j x hx
      have := hlt j (by omega) (by omega)
      exact ⟨x, hx, by unfold ltE; omega⟩) (fun x hx => by
      obtain ⟨a, b, -⟩ := h2 q x hx
      have hl := (List.getElem?_eq_some_iff.mp hx).1
      have := hge (by omega)
      unfold ltE eqE
      omega) hq
  rw [e]
  refine ⟨by simp only [List.length_append, List.length_take, List.length_cons, List.length_drop]; omega, fun j x hx => ?_⟩
  have hl := (List.getElem?_eq_some_iff.mp hx).1
  simp only [List.length_append, List.length_take, List.length_cons, List.length_drop] at hl
  obtain ⟨g1, g2, g3⟩ := hg j (by omega) (by omega)
  rw [g1, g2, g3]
  by_cases a : j < q
  · rw [List.getElem?_append_left (by simp only [List.length_take]; omega), List.getElem?_take_of_lt a] at hx
    rw [if_neg (by omega), if_neg (by omega), if_neg (by omega), if_neg (by omega), if_neg (by omega), if_neg (by omega)]
    exact h2 j x hx
  · rw [List.getElem?_append_right (by simp only [List.length_take]; omega)] at hx
    by_cases b : j = q
    · subst b
      rw [show j - (List.take j P).length = 0 by simp only [List.length_take]; omega] at hx
      have : (c, t, w) = x := by simpa using hx
      subst this
      rw [if_pos rfl, if_pos rfl, if_pos rfl]
      exact ⟨rfl, rfl, rfl⟩
    · rw [show j - (List.take q P).length = (j - q - 1) + 1 by simp only [List.length_take]; omega, List.getElem?_cons_succ, List.getElem?_drop, show q + (j - q - 1) = j - 1 by omega] at hx
      simp only [if_neg (show ¬ ((j : Int) = q) by omega), if_pos (show (q : Int) < j by omega)]
      have := h2 (j - 1) x hx
      rw [show ((j - 1 : Nat) : Int) = (j : Int) - 1 by omega] at this
      exact this
theorem PA_old {P : SP} {m k c t w : Int} {fc ft fw gw : Int → Int} (h : PA P m fc ft fw) (hk : 0 ≤ k ∧ k < m)
    (hlt : ∀ j : Int, 0 ≤ j → j < k → fc j < c ∨ fc j = c ∧ ft j < t) (hge : fc k = c ∧ ft k = t)
    (hg : ∀ j : Int, 0 ≤ j → j < m → gw j = if j = k then fw k + w else fw j) : PA (insP P c t w) m fc ft gw := by
  obtain ⟨h1, h2⟩ := h
  obtain ⟨q, rfl⟩ : ∃ q : Nat, k = q := ⟨k.toNat, by omega⟩
  obtain ⟨y, hy⟩ : ∃ y, P[q]? = some y := ⟨P[q]'(by omega), List.getElem?_eq_getElem (by omega)⟩
  obtain ⟨y1, y2, y3⟩ := h2 q y hy
  have e := insP_old (c := c) (t := t) (w := w) P q y (fun j hj => by
      obtain ⟨x, hx⟩ : ∃ x, P[j]? = some x := ⟨P[j]'(by omega), List.getElem?_eq_getElem (by omega)⟩
      obtain ⟨a, b, -⟩ := h2 j x hx
      have := hlt j (by omega) (by omega)
      exact ⟨x, hx, by unfold ltE; omega⟩) hy (by unfold eqE; omega)
  rw [e]
  refine ⟨by rw [List.length_set]; exact h1, fun j x hx => ?_⟩
  have hl := (List.getElem?_eq_some_iff.mp hx).1
  rw [List.length_set] at hl
  rw [hg j (by omega) (by omega)]
  by_cases b : q = j
  · subst b
    rw [List.getElem?_set_self hl] at hx
    have : (c, t, y.2.2 + w) = x := by simpa using hx
    subst this
    rw [if_pos rfl]
    exact ⟨hge.1, hge.2, by rw [y3]⟩
  · rw [List.getElem?_set_ne b] at hx
    rw [if_neg (by omega)]
    exact h2 j x hx
theorem PA.congr {P : SP} {m m' : Int} {fc ft fw gc gt gw : Int → Int} (h : PA P m fc ft fw) (hm : m' = m) (hg : ∀ j : Int, 0 ≤ j → j < m → gc j = fc j ∧ gt j = ft j ∧ gw j = fw j) : PA P m' gc gt gw := by
  refine ⟨hm.trans h.1, fun k e he => ?_⟩
  have hl := (List.getElem?_eq_some_iff.mp he).1
  have h1 := h.1
  obtain ⟨a, b, c⟩ := hg k (by omega) (by omega)
  rw [a, b, c]
  exact h.2 k e he
/-- one step of a shift -/
theorem shf1 {g f g' : Int → Int} {i m : Int} (h : ∀ j : Int, g j = if i < j ∧ j ≤ m then f (j - 1) else f j) (hi : i ≤ m) (hg : ∀ j : Int, g' j = if j = i then g (i - 1) else g j) (j : Int) : g' j = if i + (-1) < j ∧ j ≤ m then f (j - 1) else f j := by
  rw [hg j]
  by_cases e : j = i
  · rw [if_pos e, h, if_neg (by omega), if_pos (by omega), e]
  · rw [if_neg e, h]
    by_cases e2 : i < j ∧ j ≤ m
    · rw [if_pos e2, if_pos (by omega)]
    · rw [if_neg e2, if_neg (by omega)]
/-- the reference's pose -/
def RPm (P : SP) (K : KS) : Prop := PA P (K 4 0 40) (K 137 0) (K 138 0) (K 139 0)
/-- entries in range -/
def EOk (P : SP) : Prop := ∀ e ∈ P, 0 ≤ e.1 ∧ e.1 < 12 ∧ 0 ≤ e.2.1 ∧ e.2.1 < 500 ∧ 0 ≤ e.2.2 ∧ e.2.2 ≤ 1000000
theorem PA.at {P : SP} {m : Int} {fc ft fw : Int → Int} (h : PA P m fc ft fw) {k : Int} (hk : 0 ≤ k ∧ k < m) : ∃ e ∈ P, P[k.toNat]? = some e ∧ fc k = e.1 ∧ ft k = e.2.1 ∧ fw k = e.2.2 := by
  have hl : k.toNat < P.length := by have := h.1; omega
  have h2 := h.2 k.toNat (P[k.toNat]) (List.getElem?_eq_getElem hl)
  rw [show ((k.toNat : Nat) : Int) = k by omega] at h2
  exact ⟨_, List.getElem_mem hl, List.getElem?_eq_getElem hl, h2⟩
set_option maxHeartbeats 4000000 in
set_option maxRecDepth 100000 in
theorem m_X4_addsEntry {w : KW} {n : KN} {α : KA} {K : KS} (S : SS) (P : SP) (c t wg : Int) (h40 : (0 : Int) ≤ 0 ∧ 0 < n 4) (hM : MRep S n K) (hP : RPm P K) (hE0 : EOk P) (hl : P.length < 72) (hc : 0 ≤ c ∧ c < 12) (ht : 0 ≤ t ∧ t < 500) (hw : 0 ≤ wg ∧ wg ≤ 1000000) : KM w yX4_addsEntry cX4_addsEntry 7 none { frames := 0, cells := 0, slots := 0, locals := 0 } (3, 0) [.ref (α 4 0), .int (iI c), .int (iI t), .long (iL wg)] n α K (fun r n' α' K' => n = n' ∧ α = α' ∧ MRep (S) n K' ∧ KO K K' (fun k i => k = 137 ∨ k = 138 ∨ k = 139 ∨ k = 4) ∧ (RPm (insP P c t wg) K' ∧ K' 4 0 25 = K 4 0 25)) := by
  refine y_start (by decide) (Nat.le_of_ble_eq_true rfl) (fun x hE hQ => ?_)
  have hw := hQ.2
  subst hw
  have hE : YE x cX4_addsEntry RX4 none "addsEntry" 7 { frames := 0, cells := 0, slots := 0, locals := 0 } := hE
  refine y_wk (fun hWK => ?_)
  have hn0 := hWK.1
  refine y_bud (bc' := 0) (bs' := 0) (Nat.le_refl _) (Nat.le_refl _) ?_
  refine y_to (lv' := [(0, .ref (α 4 0)), (1, .int (iI c)), (2, .int (iI t)), (3, .long (iL wg))]) (st' := []) rfl rfl rfl ?_
  obtain ⟨hm0, hPA⟩ : K 4 0 40 = P.length ∧ PA P (K 4 0 40) (K 137 0) (K 138 0) (K 139 0) := ⟨hP.1, hP⟩
  have hent : ∀ j : Int, 0 ≤ j → j < K 4 0 40 → (0 ≤ K 137 0 j ∧ K 137 0 j < 12) ∧ (0 ≤ K 138 0 j ∧ K 138 0 j < 500) ∧ 0 ≤ K 139 0 j ∧ K 139 0 j ≤ 1000000 := fun j j0 j1 => by obtain ⟨e, he, -, a, b, d⟩ := hPA.at ⟨j0, j1⟩; have := hE0 e he; omega
  refine y_iconst hE dX4_addsEntry_0 ?_
  refine y_istore hE [(5, .int (iI 0)), (0, .ref (α 4 0)), (1, .int (iI c)), (2, .int (iI t)), (3, .long (iL wg))] (by decide) rfl dX4_addsEntry_1 ?_
  have L3 : ∀ (fuel : Nat) (k : Int), (0 ≤ k ∧ k ≤ K 4 0 40) → (∀ j : Int, 0 ≤ j → j < k → (K 137 0 j < c ∨ K 137 0 j = c ∧ K 138 0 j < t)) → (K 4 0 40 - k).toNat < fuel → Y x n α K 0 0 3 [(5, .int (iI k)), (0, .ref (α 4 0)), (1, .int (iI c)), (2, .int (iI t)), (3, .long (iL wg))] [] := by
    intro fuel3
    induction fuel3 with
    | zero => intro k hk hlt hfu3; exact absurd hfu3 (Nat.not_lt_zero _)
    | succ fuel3 ih3 =>
      intro k hk hlt hfu3
      have J51 : (k < K 4 0 40 → ¬ (K 137 0 k < c ∨ K 137 0 k = c ∧ K 138 0 k < t)) → Y x n α K 0 0 51 [(5, .int (iI k)), (0, .ref (α 4 0)), (1, .int (iI c)), (2, .int (iI t)), (3, .long (iL wg))] [] := by
        intro hge
        have J94 : (k < K 4 0 40 → ¬ (K 137 0 k = c ∧ K 138 0 k = t)) → Y x n α K 0 0 94 [(5, .int (iI k)), (0, .ref (α 4 0)), (1, .int (iI c)), (2, .int (iI t)), (3, .long (iL wg))] [] := by
          intro hne
          refine y_aload_n hE rfl 1 rfl dX4_addsEntry_94 ?_
          refine gX4_265 (z := K 4 0 40) hE h40 rfl dX4_addsEntry_95 ?_
          refine y_istore hE [(6, .int (iI (K 4 0 40))), (5, .int (iI k)), (0, .ref (α 4 0)), (1, .int (iI c)), (2, .int (iI t)), (3, .long (iL wg))] (by decide) rfl dX4_addsEntry_98 ?_
          have L100 : ∀ (fuel : Nat) (K2 : KS) (i : Int), (MRep S n K2) → (KO K K2 (fun k i => k = 137 ∨ k = 138 ∨ k = 139 ∨ k = 4)) → (k ≤ i ∧ i ≤ K 4 0 40) → (K2 4 0 40 = K 4 0 40) → (K2 4 0 25 = K 4 0 25) → (∀ j : Int, (K2 137 0 j = if i < j ∧ j ≤ K 4 0 40 then K 137 0 (j - 1) else K 137 0 j) ∧ (K2 138 0 j = if i < j ∧ j ≤ K 4 0 40 then K 138 0 (j - 1) else K 138 0 j) ∧ (K2 139 0 j = if i < j ∧ j ≤ K 4 0 40 then K 139 0 (j - 1) else K 139 0 j)) → (i - k).toNat < fuel → Y x n α K2 0 0 100 [(6, .int (iI i)), (5, .int (iI k)), (0, .ref (α 4 0)), (1, .int (iI c)), (2, .int (iI t)), (3, .long (iL wg))] [] := by
            intro fuel100
            induction fuel100 with
            | zero => intro K2 i hM2 hk2 hi h40b h25b hsh hfu100; exact absurd hfu100 (Nat.not_lt_zero _)
            | succ fuel100 ih100 =>
              intro K2 i hM2 hk2 hi h40b h25b hsh hfu100
              refine y_iload hE 0 rfl dX4_addsEntry_100 ?_
              refine y_iload hE 1 rfl dX4_addsEntry_102 ?_
              refine y_icmp_le hE 161 (by decide) (by omega) (by omega) dX4_addsEntry_104 (fun c_104 => ?_) (fun c_104 => ?_)
              · refine y_aload_n hE rfl 2 rfl dX4_addsEntry_161 ?_
                refine gX4_82r (z := 0) hE h40 (MObj.r hM2.1 37 (by decide)) (by omega) dX4_addsEntry_162 (fun hl_162 => ?_)
                refine y_iload hE 1 rfl dX4_addsEntry_165 ?_
                refine y_iload_n hE rfl 3 rfl dX4_addsEntry_167 ?_
                refine y_iast hE (by unfold kC; decide) rfl (by simp [kTag]) hl_162 (by have hL : K2 137 0 (-1) = 72 := (MObj.l hM2.1 37 (by decide)); omega) dX4_addsEntry_168 ?_
                refine y_aload_n hE rfl 2 rfl dX4_addsEntry_169 ?_
                refine gX4_85r (z := 0) hE h40 (MObj.r hM2.1 38 (by decide)) (by omega) dX4_addsEntry_170 (fun hl_170 => ?_)
                refine y_iload hE 1 rfl dX4_addsEntry_173 ?_
                refine y_iload_n hE rfl 4 rfl dX4_addsEntry_175 ?_
                refine y_iast hE (by unfold kC; decide) rfl (by simp [kTag]) hl_170 (by have hL : (up3 K2 137 0 k c) 138 0 (-1) = 72 := (MObj.l hM2.1 38 (by decide)); omega) dX4_addsEntry_176 ?_
                refine y_aload_n hE rfl 2 rfl dX4_addsEntry_177 ?_
                refine gX4_88r (z := 0) hE h40 (MObj.r hM2.1 39 (by decide)) (by omega) dX4_addsEntry_178 (fun hl_178 => ?_)
                refine y_iload hE 1 rfl dX4_addsEntry_181 ?_
                refine y_lload_n hE rfl 5 rfl dX4_addsEntry_183 ?_
                refine y_last hE (by unfold kC; decide) rfl (by simp [kTag]) hl_178 (by have hL : (up3 (up3 K2 137 0 k c) 138 0 k t) 139 0 (-1) = 72 := (MObj.l hM2.1 39 (by decide)); omega) dX4_addsEntry_184 ?_
                refine y_aload_n hE rfl 2 rfl dX4_addsEntry_185 ?_
                refine y_dup hE rfl dX4_addsEntry_186 ?_
                refine gX4_265 (z := (K 4 0 40)) hE h40 h40b dX4_addsEntry_187 ?_
                refine y_iconst hE dX4_addsEntry_190 ?_
                refine y_iadd hE dX4_addsEntry_191 ?_
                refine pX4_265 hE h40 dX4_addsEntry_192 ?_
                exact y_vret (r := 0) hE rfl hQ dX4_addsEntry_195 Ext.rf ⟨rfl, rfl, (MRep.t (MRep.u (MRep.u (MRep.u hM2 37 (by decide) (j := k) (by omega) c) 38 (by decide) (j := k) (by omega) t) 39 (by decide) (j := k) (by omega) wg) 40 (by decide) ((K 4 0 40) + 1)), (KO.up (KO.up (KO.up (KO.up hk2 (by decide)) (by decide)) (by decide)) (by decide)), PA_new hPA (k := k) (by omega) (by simp [up3, h40b]) hlt (fun z => ⟨hge z, hne z⟩) (fun j j0 j1 => ⟨by by_cases e : j = k; (subst e; rw [if_pos rfl]; simp [up3]); (rw [if_neg e]; simp [up3, e]; rw [(hsh j).1]; by_cases e2 : k < j; (rw [if_pos (by omega), if_pos e2]); (rw [if_neg (by omega), if_neg e2])), by by_cases e : j = k; (subst e; rw [if_pos rfl]; simp [up3]); (rw [if_neg e]; simp [up3, e]; rw [(hsh j).2.1]; by_cases e2 : k < j; (rw [if_pos (by omega), if_pos e2]); (rw [if_neg (by omega), if_neg e2])), by by_cases e : j = k; (subst e; rw [if_pos rfl]; simp [up3]); (rw [if_neg e]; simp [up3, e]; rw [(hsh j).2.2]; by_cases e2 : k < j; (rw [if_pos (by omega), if_pos e2]); (rw [if_neg (by omega), if_neg e2]))⟩), by simp [up3, h25b]⟩
              · refine y_aload_n hE rfl 2 rfl dX4_addsEntry_107 ?_
                refine gX4_82r (z := 0) hE h40 (MObj.r hM2.1 37 (by decide)) (by omega) dX4_addsEntry_108 (fun hl_108 => ?_)
                refine y_iload hE 0 rfl dX4_addsEntry_111 ?_
                refine y_aload_n hE rfl 2 rfl dX4_addsEntry_113 ?_
                refine gX4_82r (z := 0) hE h40 (MObj.r hM2.1 37 (by decide)) (by omega) dX4_addsEntry_114 (fun hl_114 => ?_)
                refine y_iload hE 0 rfl dX4_addsEntry_117 ?_
                refine y_iconst hE dX4_addsEntry_119 ?_
                refine y_isub hE dX4_addsEntry_120 ?_
                refine y_iald hE rfl hl_114 (by have hL : K2 137 0 (-1) = 72 := (MObj.l hM2.1 37 (by decide)); omega) dX4_addsEntry_121 ?_
                refine y_iast hE (by unfold kC; decide) rfl (by simp [kTag]) hl_108 (by have hL : K2 137 0 (-1) = 72 := (MObj.l hM2.1 37 (by decide)); omega) dX4_addsEntry_122 ?_
                refine y_aload_n hE rfl 2 rfl dX4_addsEntry_123 ?_
                refine gX4_85r (z := 0) hE h40 (MObj.r hM2.1 38 (by decide)) (by omega) dX4_addsEntry_124 (fun hl_124 => ?_)
                refine y_iload hE 0 rfl dX4_addsEntry_127 ?_
                refine y_aload_n hE rfl 2 rfl dX4_addsEntry_129 ?_
                refine gX4_85r (z := 0) hE h40 (MObj.r hM2.1 38 (by decide)) (by omega) dX4_addsEntry_130 (fun hl_130 => ?_)
                refine y_iload hE 0 rfl dX4_addsEntry_133 ?_
                refine y_iconst hE dX4_addsEntry_135 ?_
                refine y_isub hE dX4_addsEntry_136 ?_
                refine y_iald hE rfl hl_130 (by have hL : (up3 K2 137 0 i (K2 137 0 (i - 1))) 138 0 (-1) = 72 := (MObj.l hM2.1 38 (by decide)); omega) dX4_addsEntry_137 ?_
                refine y_to (st' := [.int (iI (K2 138 0 (i - 1))), .int (iI i), .ref (α 138 0)]) rfl rfl (by rw [show (up3 K2 137 0 i (K2 137 0 (i - 1))) 138 0 (i - 1) = K2 138 0 (i - 1) from rfl]) ?_
                refine y_iast hE (by unfold kC; decide) rfl (by simp [kTag]) hl_124 (by have hL : (up3 K2 137 0 i (K2 137 0 (i - 1))) 138 0 (-1) = 72 := (MObj.l hM2.1 38 (by decide)); omega) dX4_addsEntry_138 ?_
                refine y_aload_n hE rfl 2 rfl dX4_addsEntry_139 ?_
                refine gX4_88r (z := 0) hE h40 (MObj.r hM2.1 39 (by decide)) (by omega) dX4_addsEntry_140 (fun hl_140 => ?_)
                refine y_iload hE 0 rfl dX4_addsEntry_143 ?_
                refine y_aload_n hE rfl 2 rfl dX4_addsEntry_145 ?_
                refine gX4_88r (z := 0) hE h40 (MObj.r hM2.1 39 (by decide)) (by omega) dX4_addsEntry_146 (fun hl_146 => ?_)
                refine y_iload hE 0 rfl dX4_addsEntry_149 ?_
                refine y_iconst hE dX4_addsEntry_151 ?_
                refine y_isub hE dX4_addsEntry_152 ?_
                refine y_lald hE rfl hl_146 (by have hL : (up3 (up3 K2 137 0 i (K2 137 0 (i - 1))) 138 0 i (K2 138 0 (i - 1))) 139 0 (-1) = 72 := (MObj.l hM2.1 39 (by decide)); omega) dX4_addsEntry_153 ?_
                refine y_to (st' := [.long (iL (K2 139 0 (i - 1))), .int (iI i), .ref (α 139 0)]) rfl rfl (by rw [show (up3 (up3 K2 137 0 i (K2 137 0 (i - 1))) 138 0 i (K2 138 0 (i - 1))) 139 0 (i - 1) = K2 139 0 (i - 1) from rfl]) ?_
                refine y_last hE (by unfold kC; decide) rfl (by simp [kTag]) hl_140 (by have hL : (up3 (up3 K2 137 0 i (K2 137 0 (i - 1))) 138 0 i (K2 138 0 (i - 1))) 139 0 (-1) = 72 := (MObj.l hM2.1 39 (by decide)); omega) dX4_addsEntry_154 ?_
                refine y_iinc hE 0 rfl [(6, .int (iI (i + (-1)))), (5, .int (iI k)), (0, .ref (α 4 0)), (1, .int (iI c)), (2, .int (iI t)), (3, .long (iL wg))] (by decide) rfl dX4_addsEntry_155 ?_
                refine y_goto hE 100 (by decide) dX4_addsEntry_158 ?_
                exact ih100 (up3 (up3 (up3 K2 137 0 i (K2 137 0 (i - 1))) 138 0 i (K2 138 0 (i - 1))) 139 0 i (K2 139 0 (i - 1))) (i + (-1)) ((MRep.u (MRep.u (MRep.u hM2 37 (by decide) (j := i) (by omega) (K2 137 0 (i - 1))) 38 (by decide) (j := i) (by omega) (K2 138 0 (i - 1))) 39 (by decide) (j := i) (by omega) (K2 139 0 (i - 1)))) ((KO.up (KO.up (KO.up hk2 (by decide)) (by decide)) (by decide))) (by omega) (by simp [up3, h40b]) (by simp [up3, h25b]) (fun j => ⟨shf1 (g := K2 137 0) (f := K 137 0) (fun j => (hsh j).1) hi.2 (fun j => by simp [up3]) j, shf1 (g := K2 138 0) (f := K 138 0) (fun j => (hsh j).2.1) hi.2 (fun j => by simp [up3]) j, shf1 (g := K2 139 0) (f := K 139 0) (fun j => (hsh j).2.2) hi.2 (fun j => by simp [up3]) j⟩) (by omega)
          exact L100 _ K (K 4 0 40) (hM) (KO.rf) (by omega) (rfl) (rfl) (fun j => ⟨by rw [if_neg (by omega)], by rw [if_neg (by omega)], by rw [if_neg (by omega)]⟩) (Nat.lt_succ_self _)
        refine y_iload hE 0 rfl dX4_addsEntry_51 ?_
        refine y_aload_n hE rfl 1 rfl dX4_addsEntry_53 ?_
        refine gX4_265 (z := K 4 0 40) hE h40 rfl dX4_addsEntry_54 ?_
        refine y_icmp_ge hE 94 (by decide) (by omega) (by omega) dX4_addsEntry_57 (fun c_57 => ?_) (fun c_57 => ?_)
        · exact J94  (by omega)
        · have hek := hent k (by omega) (by omega)
          refine y_aload_n hE rfl 1 rfl dX4_addsEntry_60 ?_
          refine gX4_82r (z := 0) hE h40 (MObj.r hM.1 37 (by decide)) (by omega) dX4_addsEntry_61 (fun hl_61 => ?_)
          refine y_iload hE 0 rfl dX4_addsEntry_64 ?_
          refine y_iald hE rfl hl_61 (by have hL : K 137 0 (-1) = 72 := (MObj.l hM.1 37 (by decide)); omega) dX4_addsEntry_66 ?_
          refine y_iload_n hE rfl 2 rfl dX4_addsEntry_67 ?_
          refine y_icmp_ne hE 94 (by decide) (by omega) (by omega) dX4_addsEntry_68 (fun c_68 => ?_) (fun c_68 => ?_)
          · exact J94  (by omega)
          · refine y_aload_n hE rfl 1 rfl dX4_addsEntry_71 ?_
            refine gX4_85r (z := 0) hE h40 (MObj.r hM.1 38 (by decide)) (by omega) dX4_addsEntry_72 (fun hl_72 => ?_)
            refine y_iload hE 0 rfl dX4_addsEntry_75 ?_
            refine y_iald hE rfl hl_72 (by have hL : K 138 0 (-1) = 72 := (MObj.l hM.1 38 (by decide)); omega) dX4_addsEntry_77 ?_
            refine y_iload_n hE rfl 3 rfl dX4_addsEntry_78 ?_
            refine y_icmp_ne hE 94 (by decide) (by omega) (by omega) dX4_addsEntry_79 (fun c_79 => ?_) (fun c_79 => ?_)
            · exact J94  (by omega)
            · refine y_aload_n hE rfl 1 rfl dX4_addsEntry_82 ?_
              refine gX4_88r (z := 0) hE h40 (MObj.r hM.1 39 (by decide)) (by omega) dX4_addsEntry_83 (fun hl_83 => ?_)
              refine y_iload hE 0 rfl dX4_addsEntry_86 ?_
              refine y_dup2 hE rfl rfl dX4_addsEntry_88 ?_
              refine y_lald hE rfl hl_83 (by have hL : K 139 0 (-1) = 72 := (MObj.l hM.1 39 (by decide)); omega) dX4_addsEntry_89 ?_
              refine y_lload_n hE rfl 4 rfl dX4_addsEntry_90 ?_
              refine y_ladd hE dX4_addsEntry_91 ?_
              refine y_last hE (by unfold kC; decide) rfl (by simp [kTag]) hl_83 (by have hL : K 139 0 (-1) = 72 := (MObj.l hM.1 39 (by decide)); omega) dX4_addsEntry_92 ?_
              exact y_vret (r := 0) hE rfl hQ dX4_addsEntry_93 Ext.rf ⟨rfl, rfl, (MRep.u hM 39 (by decide) (j := k) (by omega) ((K 139 0 k) + wg)), (KO.up KO.rf (by decide)), (PA_old (gw := ((up3 K 139 0 k ((K 139 0 k) + wg))) 139 0) hPA (k := k) (by omega) hlt (by omega) (fun j j0 j1 => by by_cases e : j = k; (subst e; rw [if_pos rfl]; simp [up3]); (rw [if_neg e]; simp [up3, e]))).congr (by simp [up3]) (fun j _ _ => ⟨by simp [up3], by simp [up3], rfl⟩), by simp [up3]⟩
      refine y_iload hE 0 rfl dX4_addsEntry_3 ?_
      refine y_aload_n hE rfl 1 rfl dX4_addsEntry_5 ?_
      refine gX4_265 (z := K 4 0 40) hE h40 rfl dX4_addsEntry_6 ?_
      refine y_icmp_ge hE 51 (by decide) (by omega) (by omega) dX4_addsEntry_9 (fun c_9 => ?_) (fun c_9 => ?_)
      · exact J51  (by omega)
      · have hek := hent k (by omega) (by omega)
        have J45 : ((K 137 0 k < c ∨ K 137 0 k = c ∧ K 138 0 k < t)) → Y x n α K 0 0 45 [(5, .int (iI k)), (0, .ref (α 4 0)), (1, .int (iI c)), (2, .int (iI t)), (3, .long (iL wg))] [] := by
          intro hltk
          have hlt2 : ∀ j : Int, 0 ≤ j → j < k + 1 → (K 137 0 j < c ∨ K 137 0 j = c ∧ K 138 0 j < t) := fun j j0 j1 => by by_cases e : j = k; (subst e; exact hltk); exact hlt j j0 (by omega)
          refine y_iinc hE 0 rfl [(5, .int (iI (k + 1))), (0, .ref (α 4 0)), (1, .int (iI c)), (2, .int (iI t)), (3, .long (iL wg))] (by decide) rfl dX4_addsEntry_45 ?_
          refine y_goto hE 3 (by decide) dX4_addsEntry_48 ?_
          exact ih3 (k + 1) (by omega) (hlt2) (by omega)
        refine y_aload_n hE rfl 1 rfl dX4_addsEntry_12 ?_
        refine gX4_82r (z := 0) hE h40 (MObj.r hM.1 37 (by decide)) (by omega) dX4_addsEntry_13 (fun hl_13 => ?_)
        refine y_iload hE 0 rfl dX4_addsEntry_16 ?_
        refine y_iald hE rfl hl_13 (by have hL : K 137 0 (-1) = 72 := (MObj.l hM.1 37 (by decide)); omega) dX4_addsEntry_18 ?_
        refine y_iload_n hE rfl 2 rfl dX4_addsEntry_19 ?_
        refine y_icmp_lt hE 45 (by decide) (by omega) (by omega) dX4_addsEntry_20 (fun c_20 => ?_) (fun c_20 => ?_)
        · exact J45  (by omega)
        · refine y_aload_n hE rfl 1 rfl dX4_addsEntry_23 ?_
          refine gX4_82r (z := 0) hE h40 (MObj.r hM.1 37 (by decide)) (by omega) dX4_addsEntry_24 (fun hl_24 => ?_)
          refine y_iload hE 0 rfl dX4_addsEntry_27 ?_
          refine y_iald hE rfl hl_24 (by have hL : K 137 0 (-1) = 72 := (MObj.l hM.1 37 (by decide)); omega) dX4_addsEntry_29 ?_
          refine y_iload_n hE rfl 2 rfl dX4_addsEntry_30 ?_
          refine y_icmp_ne hE 51 (by decide) (by omega) (by omega) dX4_addsEntry_31 (fun c_31 => ?_) (fun c_31 => ?_)
          · exact J51  (by omega)
          · refine y_aload_n hE rfl 1 rfl dX4_addsEntry_34 ?_
            refine gX4_85r (z := 0) hE h40 (MObj.r hM.1 38 (by decide)) (by omega) dX4_addsEntry_35 (fun hl_35 => ?_)
            refine y_iload hE 0 rfl dX4_addsEntry_38 ?_
            refine y_iald hE rfl hl_35 (by have hL : K 138 0 (-1) = 72 := (MObj.l hM.1 38 (by decide)); omega) dX4_addsEntry_40 ?_
            refine y_iload_n hE rfl 3 rfl dX4_addsEntry_41 ?_
            refine y_icmp_ge hE 51 (by decide) (by omega) (by omega) dX4_addsEntry_42 (fun c_42 => ?_) (fun c_42 => ?_)
            · exact J51  (by omega)
            · exact J45  (by omega)
  exact L3 _ 0 (by omega) (fun j j0 j1 => by omega) (Nat.lt_succ_self _)
