set_option linter.unusedVariables false
/-! ===== new objects and arrays, casts ===== -/
/-- a new object's fields: references null, numbers 0; gh: what its ninth field tells of it -/
def dflG (codes : List (Nat × Nat)) (gh : Int) : Int → Int := fun f => if f = 9 ∧ codes.length ≤ 9 then gh else if (codes[f.toNat]?).map Prod.fst = some 2 then -1 else 0
theorem dflG_at {codes : List (Nat × Nat)} {gh : Int} {j : Nat} {c : Nat × Nat} (h : codes[j]? = some c) : dflG codes gh j = if c.1 = 2 then -1 else 0 := by
  have hl : j < codes.length := (List.getElem?_eq_some_iff.mp h).1
  unfold dflG
  rw [if_neg (by omega), Int.toNat_natCast, h]
  simp
def dflA (len z : Int) : Int → Int := fun f => if f = -1 then len else z
theorem ext_r {n n' : KN} {α α' : KA} (h : Ext n α n' α') {k : Nat} {i : Int} (hi : 0 ≤ i ∧ i < n k) : α k i = α' k i := ((h k).2 i hi.1 hi.2).symm
section KNEW
variable {x : YX} {cc : ByteArray} {own nm : String} {ret : Option FieldType} {nL : Nat} {RM : Room} {n : KN} {α : KA} {K : KS} {bc bs pc : Nat} {lv : List (Nat × Value)} {st : List Value}
def dfV (c : Nat) : Value := match c with
  | 1 => .long 0
  | 2 => .null
  | 4 => .float 0
  | _ => .int 0
theorem fval_d {α' : KA} {c : Nat × Nat} : fval α' c (if c.1 = 2 then -1 else 0) = dfV c.1 := by
  obtain ⟨c1, c2⟩ := c
  match c1 with
  | 0 => rfl
  | 1 => rfl
  | 2 => rfl
  | 3 => rfl
  | 4 => rfl
  | m + 5 =>
    simp only
    rw [if_neg (by omega)]
    rfl
theorem y_new (hE : YE x cc own ret nm nL RM) (k : Nat) (gh : Int) {ci N index : Nat} {T : u_T} {C : String} {codes : List (Nat × Nat)} (hk : ¬ kC k) (hd : kD (upo K k (n k) (dflG codes gh)) k (n k) = .inl (ci, codes)) (hc : kCl[ci]? = some (C, T, N))
    (hin : ∀ w ∈ u_ws C T N, w ∈ lw_all) (ty : Nat → FieldType) (hty : ∀ k, k < N → parseFieldDescriptor (T k).2.2.1 = some (ty k)) (hcl : Cond.classLink own index C ∈ lw_all) (hinst : Cond.instantiable C N ∈ lw_all) (hini : Cond.initialized C ∈ lw_all) (hlen : codes.length = N)
    (hdef : ∀ j, j < N → (codes[j]?).map (fun c => dfV c.1) = some (defaultValue (ty j))) (d : decode cc pc = .ok (.new index, 3)) {bc' bs' : Nat} (hb : bc' + 1 ≤ bc) (hb2 : bs' + N ≤ bs)
    (kk : ∀ α' : KA, Ext n α (upn n k) α' → Y x (upn n k) α' (upo K k (n k) (dflG codes gh)) bc' bs' (pc + 3) lv (.ref (α' k (n k)) :: st)) : Y x n α K bc bs pc lv st := by
  intro H locs ls cells slots hR hS hl hcb hs
  obtain ⟨L, G, hP, hD, h1, h2, h3, h4⟩ := hR
  refine va_new (C := C) (T := T) (N := N) hE.1 hE.2.1 hE.2.2.2.2.1 hin ty hty hE.2.2.2.1 (hE.2.2.2.2.1 _ hcl) (hE.2.2.2.2.1 _ hinst) (hE.2.2.2.2.1 _ hini) (yK hE) hP hD hS (yA0 hE) hc (fs := fvs α (dflG codes gh) codes 0) ?_ (by omega) (by omega) d (fun q H1 hP1 hD1 hS1 => ?_)
  · intro j hj
    have h := hdef j hj
    unfold vp_V
    rw [List.getD_eq_getElem?_getD, fvs_at]
    cases hcj : codes[j]? with
    | none => rw [hcj] at h; cases h
    | some c =>
      rw [hcj] at h
      simp only [Option.map_some, Option.some.injEq] at h
      simp only [Option.map_some, Option.getD_some, Int.zero_add]
      rw [dflG_at hcj, fval_d, h]
  · have hWK : WK (upn n k) (upo K k (n k) (dflG codes gh)) := by
      refine wk_push h4 ?_
      rw [hd]
      simp only
      intro f c hf h2
      rw [dflG_at hf, if_pos h2]
      decide
    have hself : upo K k (n k) (dflG codes gh) k (n k) = dflG codes gh := funext fun f => upo_s _ _ _ _ _
    obtain ⟨g1, g2⟩ := cr_push h1 h2 h3 h4 hk hWK (q := q) (e := .inr (ci, fvs α (dflG codes gh) codes 0)) (by
      rw [cont_o hd, hself]
      congr 2
      refine fvs_congr _ _ _ _ _ _ fun j c hj => ?_
      rw [Int.zero_add, dflG_at hj, fval_d, fval_d]) hP1 hD1
    have hq : upa α k (n k) q k (n k) = q := by simp [upa]
    have hk9 := kk _ g2
    rw [hq] at hk9
    exact hk9 H1 locs ls (cells + 1) (slots + N) g1 hS1 hl (by omega) (by omega)
theorem y_newA {H1 : Heap} {q ac c1 c2 : Nat} {len z : Int} {L : List Nat} {G : Nat → va_E} (k : Nat) (hk : ¬ kC k) (hd : kD (upo K k (n k) (dflA len z)) k (n k) = .inr (ac, c1, c2)) (hlen : 0 ≤ len ∧ len ≤ 2147483647) (hz : c1 = 2 → z < 0)
    (h1 : ∀ (k : Nat) (i : Int), ¬ kC k → 0 ≤ i → i < n k → α k i ∈ L ∧ G (α k i) = cont (yW x).2.2.1 α K k i)
    (h2 : ∀ (k k' : Nat) (i i' : Int), ¬ kC k → ¬ kC k' → 0 ≤ i → i < n k → 0 ≤ i' → i' < n k' → α k i = α k' i' → k = k' ∧ i = i') (h3 : CC (yW x) n α K) (hW : WK n K)
    (hP1 : va_P (yW x).2.1 kCl (va_pl L G ++ [(q, .inl ((yW x).2.2.1 ac, len.toNat, arrC α (c1, c2) (dflA len z)))]) H1) (hD1 : va_D (kA (yW x)) (va_pl L G ++ [(q, .inl ((yW x).2.2.1 ac, len.toNat, arrC α (c1, c2) (dflA len z)))])) :
    CR (yW x) (upn n k) (upa α k (n k) q) (upo K k (n k) (dflA len z)) H1 ∧ Ext n α (upn n k) (upa α k (n k) q) := by
  have hWK : WK (upn n k) (upo K k (n k) (dflA len z)) := by
    refine wk_push hW ?_
    rw [hd]
    refine ⟨?_, ?_, ?_⟩
    · unfold dflA; rw [if_pos rfl]; exact hlen.1
    · unfold dflA; rw [if_pos rfl]; exact hlen.2
    · intro h j hj
      unfold dflA
      rw [if_neg (by omega)]
      exact hz h
  have hself : upo K k (n k) (dflA len z) k (n k) = dflA len z := funext fun f => upo_s _ _ _ _ _
  refine cr_push h1 h2 h3 hW hk hWK (q := q) ?_ hP1 hD1
  rw [cont_a hd, hself]
  show (.inl ((yW x).2.2.1 ac, len.toNat, arrC α (c1, c2) (dflA len z)) : va_E) = .inl ((yW x).2.2.1 ac, (dflA len z (-1)).toNat, arrC (upa α k (n k) q) (c1, c2) (dflA len z))
  rw [show dflA len z (-1) = len by unfold dflA; rw [if_pos rfl]]
  congr 3
  unfold arrC
  simp only
  split
  · rfl
  · congr 4
    funext j
    by_cases hj : (j : Int) < dflA len z (-1)
    · rw [if_pos hj, if_pos hj]
      have : dflA len z j < 0 := by unfold dflA; rw [if_neg (by omega)]; exact hz rfl
      rw [refO_n this, refO_n this]
    · rw [if_neg hj, if_neg hj]
  · rfl
theorem y_newa_i (hE : YE x cc own ret nm nL RM) (k : Nat) {len : Int} (hk : ¬ kC k) (hd : kD (upo K k (n k) (dflA len 0)) k (n k) = .inr (0, 0, 0)) (hq : Cond.arrayClass .int ∈ lw_all) (hlen : 0 ≤ len ∧ len ≤ 65536) (d : decode cc pc = .ok (.newarray .int, 2)) {bc' bs' : Nat} (hb : bc' + 1 ≤ bc) (hb2 : bs' + len.toNat ≤ bs)
    (kk : ∀ α' : KA, Ext n α (upn n k) α' → Y x (upn n k) α' (upo K k (n k) (dflA len 0)) bc' bs' (pc + 2) lv (.ref (α' k (n k)) :: st)) : Y x n α K bc bs pc lv (.int (iI len) :: st) := by
  intro H locs ls cells slots hR hS hl hcb hs
  obtain ⟨L, G, hP, hD, h1, h2, h3, h4⟩ := hR
  refine va_newa (atype := .int) (ty := .int) (N' := len.toNat) (a0 := (len.toNat, .inl (fun _ => 0))) hE.1 hE.2.1 (hE.2.2.2.2.1 _ hq) rfl (yK hE) hP hD hS (yA0 hE) (fun _ => rfl) (by rw [show (0 : Int32) = iI 0 from rfl, iI_lt (by omega) (by omega)]; omega) (iI_cl hlen.1 (by omega)) (by show len.toNat * 4 ≤ 536870912; omega) (by omega) (by omega) d (fun q cA H1 hK1 hP1 hD1 hS1 => ?_)
  have hcA : cA = (yW x).2.2.1 0 := by
    have e1 := (hK1.2 8 (cA, .int) rfl).2
    have e2 := ((yK hE).2 0 _ rfl).2
    exact Option.some.inj (Eq.trans (Eq.symm e1) e2)
  subst hcA
  have ha : (.inl (fun _ => 0) : (Nat → Int32) ⊕ (Nat → Int64) ⊕ (Nat → UInt32) ⊕ (Nat → UInt64) ⊕ (Nat → Option Nat)) = arrC α (0, 0) (dflA len 0) := by
    show _ = (.inl (fun j : Nat => iI (dflA len 0 j)) : (Nat → Int32) ⊕ (Nat → Int64) ⊕ (Nat → UInt32) ⊕ (Nat → UInt64) ⊕ (Nat → Option Nat))
    congr 1
  rw [ha] at hP1 hD1
  obtain ⟨g1, g2⟩ := y_newA (x := x) k hk hd ⟨hlen.1, by omega⟩ (fun h => absurd h (by decide)) h1 h2 h3 h4 hP1 hD1
  have hq : upa α k (n k) q k (n k) = q := by simp [upa]
  have hk9 := kk _ g2
  rw [hq] at hk9
  exact hk9 H1 locs ls (cells + 1) (slots + len.toNat) g1 hS1 hl (by omega) (by omega)
theorem y_newa_l (hE : YE x cc own ret nm nL RM) (k : Nat) {len : Int} (hk : ¬ kC k) (hd : kD (upo K k (n k) (dflA len 0)) k (n k) = .inr (1, 1, 1)) (hq : Cond.arrayClass .long ∈ lw_all) (hlen : 0 ≤ len ∧ len ≤ 65536) (d : decode cc pc = .ok (.newarray .long, 2)) {bc' bs' : Nat} (hb : bc' + 1 ≤ bc) (hb2 : bs' + len.toNat ≤ bs)
    (kk : ∀ α' : KA, Ext n α (upn n k) α' → Y x (upn n k) α' (upo K k (n k) (dflA len 0)) bc' bs' (pc + 2) lv (.ref (α' k (n k)) :: st)) : Y x n α K bc bs pc lv (.int (iI len) :: st) := by
  intro H locs ls cells slots hR hS hl hcb hs
  obtain ⟨L, G, hP, hD, h1, h2, h3, h4⟩ := hR
  refine va_newa (atype := .long) (ty := .long) (N' := len.toNat) (a0 := (len.toNat, .inr (.inl (fun _ => 0)))) hE.1 hE.2.1 (hE.2.2.2.2.1 _ hq) rfl (yK hE) hP hD hS (yA0 hE) (fun _ => rfl) (by rw [show (0 : Int32) = iI 0 from rfl, iI_lt (by omega) (by omega)]; omega) (iI_cl hlen.1 (by omega)) (by show len.toNat * 8 ≤ 536870912; omega) (by omega) (by omega) d (fun q cA H1 hK1 hP1 hD1 hS1 => ?_)
  have hcA : cA = (yW x).2.2.1 1 := by
    have e1 := (hK1.2 8 (cA, .long) rfl).2
    have e2 := ((yK hE).2 1 _ rfl).2
    exact Option.some.inj (Eq.trans (Eq.symm e1) e2)
  subst hcA
  have ha : (.inr (.inl (fun _ => 0)) : (Nat → Int32) ⊕ (Nat → Int64) ⊕ (Nat → UInt32) ⊕ (Nat → UInt64) ⊕ (Nat → Option Nat)) = arrC α (1, 1) (dflA len 0) := by
    show _ = (.inr (.inl (fun j : Nat => iL (dflA len 0 j))) : (Nat → Int32) ⊕ (Nat → Int64) ⊕ (Nat → UInt32) ⊕ (Nat → UInt64) ⊕ (Nat → Option Nat))
    congr 2
  rw [ha] at hP1 hD1
  obtain ⟨g1, g2⟩ := y_newA (x := x) k hk hd ⟨hlen.1, by omega⟩ (fun h => absurd h (by decide)) h1 h2 h3 h4 hP1 hD1
  have hq : upa α k (n k) q k (n k) = q := by simp [upa]
  have hk9 := kk _ g2
  rw [hq] at hk9
  exact hk9 H1 locs ls (cells + 1) (slots + len.toNat) g1 hS1 hl (by omega) (by omega)
theorem y_newa_z (hE : YE x cc own ret nm nL RM) (k : Nat) {len : Int} (hk : ¬ kC k) (hd : kD (upo K k (n k) (dflA len 0)) k (n k) = .inr (2, 7, 0)) (hq : Cond.arrayClass .boolean ∈ lw_all) (hlen : 0 ≤ len ∧ len ≤ 65536) (d : decode cc pc = .ok (.newarray .boolean, 2)) {bc' bs' : Nat} (hb : bc' + 1 ≤ bc) (hb2 : bs' + len.toNat ≤ bs)
    (kk : ∀ α' : KA, Ext n α (upn n k) α' → Y x (upn n k) α' (upo K k (n k) (dflA len 0)) bc' bs' (pc + 2) lv (.ref (α' k (n k)) :: st)) : Y x n α K bc bs pc lv (.int (iI len) :: st) := by
  intro H locs ls cells slots hR hS hl hcb hs
  obtain ⟨L, G, hP, hD, h1, h2, h3, h4⟩ := hR
  refine va_newa (atype := .boolean) (ty := .boolean) (N' := len.toNat) (a0 := (len.toNat, .inl (fun _ => 0))) hE.1 hE.2.1 (hE.2.2.2.2.1 _ hq) rfl (yK hE) hP hD hS (yA0 hE) (fun _ => rfl) (by rw [show (0 : Int32) = iI 0 from rfl, iI_lt (by omega) (by omega)]; omega) (iI_cl hlen.1 (by omega)) (by show len.toNat * 1 ≤ 536870912; omega) (by omega) (by omega) d (fun q cA H1 hK1 hP1 hD1 hS1 => ?_)
  have hcA : cA = (yW x).2.2.1 2 := by
    have e1 := (hK1.2 8 (cA, .boolean) rfl).2
    have e2 := ((yK hE).2 2 _ rfl).2
    exact Option.some.inj (Eq.trans (Eq.symm e1) e2)
  subst hcA
  have ha : (.inl (fun _ => 0) : (Nat → Int32) ⊕ (Nat → Int64) ⊕ (Nat → UInt32) ⊕ (Nat → UInt64) ⊕ (Nat → Option Nat)) = arrC α (7, 0) (dflA len 0) := by
    show _ = (.inl (fun j : Nat => iI (dflA len 0 j)) : (Nat → Int32) ⊕ (Nat → Int64) ⊕ (Nat → UInt32) ⊕ (Nat → UInt64) ⊕ (Nat → Option Nat))
    congr 1
  rw [ha] at hP1 hD1
  obtain ⟨g1, g2⟩ := y_newA (x := x) k hk hd ⟨hlen.1, by omega⟩ (fun h => absurd h (by decide)) h1 h2 h3 h4 hP1 hD1
  have hq : upa α k (n k) q k (n k) = q := by simp [upa]
  have hk9 := kk _ g2
  rw [hq] at hk9
  exact hk9 H1 locs ls (cells + 1) (slots + len.toNat) g1 hS1 hl (by omega) (by omega)
theorem y_newa_b (hE : YE x cc own ret nm nL RM) (k : Nat) {len : Int} (hk : ¬ kC k) (hd : kD (upo K k (n k) (dflA len 0)) k (n k) = .inr (3, 8, 0)) (hq : Cond.arrayClass .byte ∈ lw_all) (hlen : 0 ≤ len ∧ len ≤ 65536) (d : decode cc pc = .ok (.newarray .byte, 2)) {bc' bs' : Nat} (hb : bc' + 1 ≤ bc) (hb2 : bs' + len.toNat ≤ bs)
    (kk : ∀ α' : KA, Ext n α (upn n k) α' → Y x (upn n k) α' (upo K k (n k) (dflA len 0)) bc' bs' (pc + 2) lv (.ref (α' k (n k)) :: st)) : Y x n α K bc bs pc lv (.int (iI len) :: st) := by
  intro H locs ls cells slots hR hS hl hcb hs
  obtain ⟨L, G, hP, hD, h1, h2, h3, h4⟩ := hR
  refine va_newa (atype := .byte) (ty := .byte) (N' := len.toNat) (a0 := (len.toNat, .inl (fun _ => 0))) hE.1 hE.2.1 (hE.2.2.2.2.1 _ hq) rfl (yK hE) hP hD hS (yA0 hE) (fun _ => rfl) (by rw [show (0 : Int32) = iI 0 from rfl, iI_lt (by omega) (by omega)]; omega) (iI_cl hlen.1 (by omega)) (by show len.toNat * 1 ≤ 536870912; omega) (by omega) (by omega) d (fun q cA H1 hK1 hP1 hD1 hS1 => ?_)
  have hcA : cA = (yW x).2.2.1 3 := by
    have e1 := (hK1.2 8 (cA, .byte) rfl).2
    have e2 := ((yK hE).2 3 _ rfl).2
    exact Option.some.inj (Eq.trans (Eq.symm e1) e2)
  subst hcA
  have ha : (.inl (fun _ => 0) : (Nat → Int32) ⊕ (Nat → Int64) ⊕ (Nat → UInt32) ⊕ (Nat → UInt64) ⊕ (Nat → Option Nat)) = arrC α (8, 0) (dflA len 0) := by
    show _ = (.inl (fun j : Nat => iI (dflA len 0 j)) : (Nat → Int32) ⊕ (Nat → Int64) ⊕ (Nat → UInt32) ⊕ (Nat → UInt64) ⊕ (Nat → Option Nat))
    congr 1
  rw [ha] at hP1 hD1
  obtain ⟨g1, g2⟩ := y_newA (x := x) k hk hd ⟨hlen.1, by omega⟩ (fun h => absurd h (by decide)) h1 h2 h3 h4 hP1 hD1
  have hq : upa α k (n k) q k (n k) = q := by simp [upa]
  have hk9 := kk _ g2
  rw [hq] at hk9
  exact hk9 H1 locs ls (cells + 1) (slots + len.toNat) g1 hS1 hl (by omega) (by omega)
theorem y_newq (hE : YE x cc own ret nm nL RM) (k : Nat) {len : Int} {ac kd index : Nat} {C : String} (hk : ¬ kC k) (hd : kD (upo K k (n k) (dflA len (-1))) k (n k) = .inr (ac, 2, kd)) (ht : kTyl[ac]? = some (.object C)) (hcl : Cond.classLink own index C ∈ lw_all) (hq : Cond.arrayOver (.object C) ∈ lw_tbl) (hlen : 0 ≤ len ∧ len ≤ 65536) (d : decode cc pc = .ok (.anewarray index, 3)) {bc' bs' : Nat} (hb : bc' + 1 ≤ bc) (hb2 : bs' + len.toNat ≤ bs)
    (kk : ∀ α' : KA, Ext n α (upn n k) α' → Y x (upn n k) α' (upo K k (n k) (dflA len (-1))) bc' bs' (pc + 3) lv (.ref (α' k (n k)) :: st)) : Y x n α K bc bs pc lv (.int (iI len) :: st) := by
  intro H locs ls cells slots hR hS hl hcb hs
  obtain ⟨L, G, hP, hD, h1, h2, h3, h4⟩ := hR
  refine va_newq (C := C) (N' := len.toNat) hE.1 hE.2.1 hE.2.2.2.1 (hE.2.2.2.2.1 _ hcl) (y_nwA hE hq) (yK hE) hP hD hS (yA0 hE) (by rw [show (0 : Int32) = iI 0 from rfl, iI_lt (by omega) (by omega)]; omega) (iI_cl hlen.1 (by omega)) (by omega) (by omega) (by omega) d (fun q cA H1 hK1 hP1 hD1 hS1 => ?_)
  have hcA : cA = (yW x).2.2.1 ac := by
    obtain ⟨_, _, _, _, _, e1⟩ := (hK1.2 8 (cA, .object C) rfl).2
    obtain ⟨_, _, _, _, _, e2⟩ := ((yK hE).2 ac _ (kTys_at ht)).2
    exact Option.some.inj (e1.symm.trans e2)
  subst hcA
  have ha : (.inr (.inr (.inr (.inr (fun _ => none)))) : (Nat → Int32) ⊕ (Nat → Int64) ⊕ (Nat → UInt32) ⊕ (Nat → UInt64) ⊕ (Nat → Option Nat)) = arrC α (2, kd) (dflA len (-1)) := by
    show _ = (.inr (.inr (.inr (.inr (fun j : Nat => if (j : Int) < dflA len (-1) (-1) then refO α kd (dflA len (-1) j) else none)))) : (Nat → Int32) ⊕ (Nat → Int64) ⊕ (Nat → UInt32) ⊕ (Nat → UInt64) ⊕ (Nat → Option Nat))
    congr 4
    funext j
    split
    · unfold dflA
      rw [if_neg (by omega), refO_n (by decide)]
    · rfl
  rw [ha] at hP1 hD1
  obtain ⟨g1, g2⟩ := y_newA (x := x) k hk hd ⟨hlen.1, by omega⟩ (fun _ => by decide) h1 h2 h3 h4 hP1 hD1
  have hq : upa α k (n k) q k (n k) = q := by simp [upa]
  have hk9 := kk _ g2
  rw [hq] at hk9
  exact hk9 H1 locs ls (cells + 1) (slots + len.toNat) g1 hS1 hl (by omega) (by omega)
theorem y_objInit (hE : YE x cc own ret nm nL RM) {a idx : Nat} (hl1 : Cond.methodLink own idx Lib.objectInit ∈ lw_all) (hin1 : Cond.instanceMethod Lib.objectInit ∈ lw_all) (hc1 : Cond.code Lib.objectInit ⟨#[0xb1]⟩ 1 none ∈ lw_all) (hf : 1 ≤ RM.frames) (hlo : (st.map fun v => v.category).sum + 12 ≤ RM.locals) (d : decode cc pc = .ok (.invokespecial idx, 3)) (kk : Y x n α K bc bs (pc + 3) lv st) : Y x n α K bc bs pc lv (.ref a :: st) := by
  intro H locs ls cells slots hR hS hl hcb hs
  obtain ⟨hx, hb, hml, hown, hts, -, -, -, hRM, hnL, -⟩ := id hE
  refine W.objInit hx hb hown (hts _ hl1) (hts _ hin1) (hts _ hc1) rfl (by rw [hml, ← hnL]; exact hl.1) rfl d (by rw [hRM]; exact hf) (by rw [hRM]; show 2 * (F0 _ pc ls _).monitorRoom + _ + 12 ≤ _; have : (F0 x.2.2.2.2.2.1 pc ls (Value.ref a :: st)).monitorRoom = 0 := rfl; omega) ?_
  exact kk H locs ls cells slots hR hS hl hcb hs
theorem y_cast (hE : YE x cc own ret nm nL RM) {k : Nat} {i : Int} {index : Nat} {nm2 : String} {ci : Nat} {codes : List (Nat × Nat)} {q : vw_C} (hd : kD K k i = .inl (ci, codes)) (hc : kCl[ci]? = some q) (hi : 0 ≤ i ∧ i < n k) (hcl : Cond.classLink own index nm2 ∈ lw_all) (hq : Cond.castable q.1 nm2 ∈ lw_tbl) (d : decode cc pc = .ok (.checkcast index, 3)) (kk : Y x n α K bc bs (pc + 3) lv (.ref (α k i) :: st)) : Y x n α K bc bs pc lv (.ref (α k i) :: st) := by
  intro H locs ls cells slots hR hS hl hcb hs
  refine va_castY hE.1 hE.2.1 hE.2.2.2.1 (hE.2.2.2.2.1 _ hcl) (y_nwC hE hq) (cr_recv hE hR hS hi hd hc) d ?_
  exact kk H locs ls cells slots hR hS hl hcb hs
theorem y_castE (hE : YE x cc own ret nm nL RM) {k : Nat} {i : Int} {index : Nat} {nm2 : String} {ci : Nat} {codes : List (Nat × Nat)} {q : vw_C} (hd : kD K k i = .inl (ci, codes)) (hc : kCl[ci]? = some q) (hi : 0 ≤ i ∧ i < n k) (hcl : Cond.classLink own index nm2 ∈ lw_all) (hq : q.1 = nm2) (d : decode cc pc = .ok (.checkcast index, 3)) (kk : Y x n α K bc bs (pc + 3) lv (.ref (α k i) :: st)) : Y x n α K bc bs pc lv (.ref (α k i) :: st) := by
  intro H locs ls cells slots hR hS hl hcb hs
  refine va_castE hE.1 hE.2.1 hE.2.2.2.1 (hE.2.2.2.2.1 _ hcl) (by rw [← hq]; exact cr_recv hE hR hS hi hd hc) d ?_
  exact kk H locs ls cells slots hR hS hl hcb hs
theorem y_castN (hE : YE x cc own ret nm nL RM) {index : Nat} (d : decode cc pc = .ok (.checkcast index, 3)) (kk : Y x n α K bc bs (pc + 3) lv (.null :: st)) : Y x n α K bc bs pc lv (.null :: st) := by
  intro H locs ls cells slots hR hS hl hcb hs
  exact lv_castN hE.1 hE.2.1 d (kk H locs ls cells slots hR hS hl hcb hs)
end KNEW
