set_option linter.unusedVariables false
/-- a made test's fields: 9 its operator -/
def lmG (o z : Int) : Int → Int := fun f => if f = 9 then o else if f = -1 then 1 else z
theorem lm_pp {cs rest : List Char} {t : FieldType} (h : parametersPrefix 255 cs = some ([t], rest)) : parametersPrefix cs.length cs = some ([t], rest) := by
  cases cs with
  | nil => simp [parametersPrefix, fieldTypePrefix] at h
  | cons c cs =>
    rw [List.length_cons]
    by_cases hc : c = ')'
    · subst hc
      simp [parametersPrefix] at h
    · rw [parametersPrefix] at h ⊢
      · cases hf : fieldTypePrefix 0 (c :: cs) with
        | none => simp [hf] at h
        | some q =>
          obtain ⟨t1, r1⟩ := q
          simp only [hf, Option.bind_eq_bind, Option.bind_some, Option.bind_eq_some_iff, Option.pure_def] at h ⊢
          obtain ⟨⟨ts, r2⟩, h1, h2⟩ := h
          simp only [Option.some.injEq, Prod.mk.injEq, List.cons.injEq] at h2
          obtain ⟨⟨rfl, rfl⟩, rfl⟩ := h2
          refine ⟨([], r2), ?_, rfl⟩
          cases r1 with
          | nil => simp [parametersPrefix, fieldTypePrefix] at h1
          | cons d r3 =>
            by_cases hd : d = ')'
            · subst hd
              simp [parametersPrefix] at h1 ⊢
              exact h1
            · exfalso
              rw [parametersPrefix] at h1
              · cases hf2 : fieldTypePrefix 0 (d :: r3) with
                | none => simp [hf2] at h1
                | some q2 =>
                  simp only [hf2, Option.bind_eq_bind, Option.bind_some, Option.bind_eq_some_iff, Option.pure_def] at h1
                  obtain ⟨q3, -, h3⟩ := h1
                  simp at h3
              · intro r4 h5
                exact hd (List.cons.inj h5).1
      · intro r4 h5
        exact hc (List.cons.inj h5).1
      · intro r4 h5
        exact hc (List.cons.inj h5).1
theorem lm_desc {desc : String} {d : MethodDescriptor} {t : FieldType} (h : parseMethodDescriptor desc = some d) (hp : d.parameters = [t]) : parseLongMethodDescriptor desc = some d := by
  unfold parseMethodDescriptor at h
  unfold parseLongMethodDescriptor
  split at h
  · rename_i cs hcs
    try rw [hcs]
    simp only [Option.bind_eq_bind, Option.bind_eq_some_iff] at h ⊢
    obtain ⟨⟨ps, rest⟩, h1, h⟩ := h
    split at h
    · rename_i hv
      simp only [Option.bind_some] at h
      split at h
      · cases h
        simp only at hp
        subst hp
        refine ⟨([t], rest), lm_pp h1, ?_⟩
        simp only at hv
        subst hv
        rfl
      · cases h
    · rename_i hv
      split at h
      · rename_i t' hf
        simp only [Option.bind_some] at h
        split at h
        · cases h
          simp only at hp
          subst hp
          refine ⟨([t], rest), lm_pp h1, ?_⟩
          split
          · rename_i hv2
            exact absurd hv2 hv
          · simp only at hf ⊢
            rw [hf]
            rfl
        · cases h
      · cases h
  · cases h
theorem lm_arr {A : Type} {x : Array Nat} {g : Nat → Nat → Nat → Option A} {v : A} (h : Lambda.shapeOf?.match_15 (fun _ => Option A) x g (fun _ => none) = some v) : ∃ a b c, g a b c = some v := by
  obtain ⟨l⟩ := x
  rcases l with _ | ⟨a, _ | ⟨b, _ | ⟨c, _ | ⟨d, l⟩⟩⟩⟩
  · cases h
  · cases h
  · cases h
  · exact ⟨a, b, c, h⟩
  · cases h
theorem lm_site {cf : ClassFile} {index : Nat} {sh : Lambda.Shape} (h : Lambda.shapeOf? cf index = some sh) : ∃ b nt name desc d, cf.constantPool[index]? = some (.invokeDynamic b nt) ∧ cf.constantPool.nameAndType? nt = some (name, desc) ∧ parseMethodDescriptor desc = some d ∧ d.parameters = sh.captured := by
  unfold Lambda.shapeOf? at h
  split at h
  · rename_i b nt hidx
    obtain ⟨en, -, h⟩ := Option.bind_eq_some_iff.mp h
    obtain ⟨bm, -, h⟩ := Option.bind_eq_some_iff.mp h
    split at h
    · obtain ⟨_, -, h⟩ := Option.bind_eq_some_iff.mp h
      obtain ⟨a0, a1, a2, h⟩ := lm_arr h
      split at h
      · split at h
        · split at h
          · obtain ⟨⟨name, desc⟩, hnd, h⟩ := Option.bind_eq_some_iff.mp h
            obtain ⟨site, hsite, h⟩ := Option.bind_eq_some_iff.mp h
            split at h
            · obtain ⟨⟨i1, i2, i3, i4⟩, -, h⟩ := Option.bind_eq_some_iff.mp h
              obtain ⟨y1, -, h⟩ := Option.bind_eq_some_iff.mp h
              obtain ⟨y2, -, h⟩ := Option.bind_eq_some_iff.mp h
              obtain ⟨y3, -, h⟩ := Option.bind_eq_some_iff.mp h
              obtain ⟨y4, -, h⟩ := Option.bind_eq_some_iff.mp h
              obtain ⟨y5, -, h⟩ := Option.bind_eq_some_iff.mp h
              cases h
              exact ⟨b, nt, name, desc, site, hidx, hnd, hsite, rfl⟩
            · cases h
          · cases h
        · cases h
      · cases h
    · cases h
  · cases h
section KIND
variable {x : YX} {cc : ByteArray} {own nm : String} {ret : Option FieldType} {nL : Nat} {RM : Room} {n : KN} {α : KA} {K : KS} {bc bs pc : Nat} {lv : List (Nat × Value)} {st : List Value}
theorem y_indy (hE : YE x cc own ret nm nL RM) (hnd : x.2.2.2.2.1.methodNamed? yX1_testFor = some x.2.2.2.2.2.1) {o : Nat} (ho : o < 4) (hpc : pc = 29 + 7 * o) {z : Int} {bc' bs' : Nat} (hb : bc' + 1 ≤ bc) (hb2 : bs' + 1 ≤ bs) (hst : st = []) (hl2 : 3100 ≤ RM.locals) (d : decode cc pc = .ok (.invokedynamic (lmIx o), 5))
    (k : ∀ α' : KA, Ext n α (upn n 16) α' → Y x (upn n 16) α' (upo K 16 (n 16) (lmG o z)) bc' bs' (pc + 5) lv (.ref (α' 16 (n 16)) :: st)) : Y x n α K bc bs pc lv (.int (iI z) :: st) := by
  subst hst
  subst hpc
  intro H locs ls cells slots hR hS hl hcb hs T hT X
  obtain ⟨L, G, hP, hD, h1, h2, h3, h4⟩ := hR
  obtain ⟨hx, hcb0, hml0, hown, hts0, -, -, -, hRM, hnL, hl0, hW0, hI0⟩ := id hE
  obtain ⟨mD, kD0, cfD, i0, p0, lk, hmD, hkD, hcfD, hshape, -, hfind, hmade, hcan, hlk⟩ := State.lambdaAt?_spec (hW0.2.2.2.2 o ho)
  have hlk2 : lk = .makes ((yW x).2.2.1 (20 + o)) := by
    rcases hlk with ⟨a, cell, -, h, -⟩ | h
    · cases h
    · exact h.1
  subst hlk2
  have hWs := hI0.2.2
  have hA := hWs.alike
  have hmm : mD = x.2.2.2.2.2.1 := Option.some.inj (hmD.symm.trans ((State.methodNamed?_setVm (s := (yW x).2.2.2.1) hA yX1_testFor).symm.trans hnd))
  subst hmm
  obtain ⟨kS, hkS, heS⟩ := hA.2.2 _ _ hkD
  obtain ⟨bsm, nt, name, desc, dd, hc1, hc2, hc3, hc4⟩ := lm_site hshape
  have hsig := lm_desc hc3 (t := .int) (by rw [hc4]; rfl)
  obtain ⟨dd2, hLm, -⟩ := y_lmT hE ho
  obtain ⟨b1, ⟨dk, b2, b3⟩, b4, -⟩ := id hLm
  obtain ⟨kK, tk, file, methk, ck, toy, t, found, iface, hkK, hkn, -, -, -, -, -, -, -, ⟨hkind, hti⟩, -⟩ := lm_made ho b2 b3 b1 b4
  have hsl : ((kK.instanceTypes.toList.zip [Value.int (iI z)]).map fun (t, v) => narrow t v) = [.int (iI z)] := by rw [hti]; rfl
  obtain ⟨X₁, st1⟩ := X.lambdaMakes hx (g := F0 x.2.2.2.2.2.1 (29 + 7 * o) ls [.int (iI z)]) rfl (by show ls.size = _; rw [hl.1, hnL, hml0]) (by rw [hcb0]; exact d) (vals := [.int (iI z)]) (rest := [])
    hkS (by rw [heS]; exact hfind) (by rw [heS]; exact hcfD) hc1 hc2 hsig (by rw [hc4]; rfl) rfl hkK
    (by rw [X.admits.platform, hRM]; show 2 * 0 + (1 + 0) + 3072 ≤ RM.locals; omega) (by omega) (by rw [hsl]; show slots + 1 ≤ _; omega)
    (fun i v hv => by
      rw [hsl] at hv
      cases i with
      | zero => simp at hv; subst hv; simp [State.fitsSlot, State.slotType?, hkK, hkind, hti, fits]
      | succ j => simp at hv)
  rw [hsl] at X₁ st1
  have hTh : T.heap.size = H.size := by rw [hT]
  have hnew : (T.pushCell { cls := (yW x).2.2.1 (20 + o), slots := [Value.int (iI z)].toArray, vm := .none }).heap[H.size]? = some { cls := (yW x).2.2.1 (20 + o), slots := [Value.int (iI z)].toArray, vm := .none } := by rw [← hTh]; exact State.heap_pushCell_size _ _
  have hold : ∀ q : Nat, q < H.size → (T.pushCell { cls := (yW x).2.2.1 (20 + o), slots := [Value.int (iI z)].toArray, vm := .none }).heap[q]? = H[q]? := fun q hq => by rw [State.heap_pushCell_of_lt _ _ (by rw [hTh]; exact hq), hT]
  have hsz : H.size ≤ (T.pushCell { cls := (yW x).2.2.1 (20 + o), slots := [Value.int (iI z)].toArray, vm := .none }).heap.size := Nat.le_of_lt (Array.getElem?_eq_some_iff.mp hnew).1
  generalize hT1 : T.pushCell { cls := (yW x).2.2.1 (20 + o), slots := [Value.int (iI z)].toArray, vm := .none } = T1 at X₁ st1 hnew hold hsz
  have hk : ∀ (k : Nat) (q : Nat × va_E), (va_pl L G)[k]? = some q → T1.heap[q.1]? = H[q.1]? := fun k q hq => hold q.1 ((hP k q hq).lt)
  have hd : kD (upo K 16 (n 16) (lmG o z)) 16 (n 16) = .inr (20 + o, 0, 0) := by
    unfold kD
    rw [if_neg (by decide), if_pos rfl, upo_s]
    simp [lmG]
  have hWK : WK (upn n 16) (upo K 16 (n 16) (lmG o z)) := by
    refine wk_push h4 ?_
    rw [hd]
    exact ⟨by simp [lmG], by simp [lmG], fun h => absurd h (by show ¬ ((0 : Nat) = 2); decide)⟩
  have hself : upo K 16 (n 16) (lmG o z) 16 (n 16) = lmG o z := funext fun f => upo_s _ _ _ _ _
  have hcell : va_at (yW x).2.1 kCl (H.size, .inl ((yW x).2.2.1 (20 + o), 1, .inl fun j => iI (lmG o z j))) T1.heap := by
    show T1.heap[H.size]? = some (arrV _ 1 (fun j => .int (iI (lmG o z j))))
    rw [hnew]
    unfold arrV
    simp [lmG]
    rfl
  obtain ⟨g1, g2⟩ := cr_push (w := yW x) h1 h2 h3 h4 (k := 16) (by unfold kC; decide) hWK (q := H.size) (e := .inl ((yW x).2.2.1 (20 + o), 1, .inl fun j => iI (lmG o z j))) (by
      rw [cont_a hd, hself]
      rfl) (H1 := T1.heap) ((hP.kept hk).app (fun k q hq => by
        have hz : k < 1 := (List.getElem?_eq_some_iff.mp hq).1
        rw [show k = 0 by omega] at hq
        cases hq
        exact hcell)) (hD.push hP rfl (yA0 hE _ hS.1))
  have hq : upa α 16 (n 16) H.size 16 (n 16) = H.size := by simp [upa]
  have hk9 := k _ g2
  rw [hq] at hk9
  obtain ⟨t9, a9, b9⟩ := hk9 T1.heap locs ls (cells + 1) (slots + 1) g1 ⟨Nat.le_trans hS.1 hsz, fun q q1 q2 => (hold q (Nat.lt_of_lt_of_le q1 hS.1)).trans (hS.2.1 q q1 q2), hS.2.2⟩ hl (by omega) (by omega) T1 rfl X₁
  exact ⟨t9, st1 t9 (by rw [hTh]; exact a9), b9⟩
end KIND
/-- a walk that knows its own method -/
theorem y_startN {w : KW} {y : MethodName} {b : ByteArray} {L : Nat} {ret : Option FieldType} {rm : Room} {rt : Nat × Nat} {av : List Value} {n : KN} {α : KA} {K : KS} {post : Int → KN → KA → KS → Prop}
    (hy : plainName y.cls = true) (hL : (lg_sl av).length ≤ L)
    (body : ∀ x : YX, YE x b y.cls ret y.name L rm → YQ x w n α rt post → x.2.2.2.2.1.methodNamed? y = some x.2.2.2.2.2.1 → Y x n α K rm.cells rm.slots 0 (lv_args 0 av) []) : KM w y b L ret rm rt av n α K post := by
  refine Met.ofW (cc := b) (maxL := L) (ret := ret) hy rfl ?_
  intro p e s m args below meth c s₁ B hml hv
  obtain ⟨rfl, hw, hi, hcr⟩ := hv
  have hts := atoms_spec (ws := ws_ y b L ret) B.pre
  have hts : ∀ w ∈ lw_all, w.before _ s = true := fun w h => hts w (List.mem_cons_of_mem _ h)
  rw [lg_entry_eq]
  exact body (p, w.1, e, (headSpec (ws_ y b L ret) rm).room, s, m, _, below, meth, c, _, L, w)
    ⟨B.exec, B.bytes, hml, findClass_of_methodNamed B.named, hts, B.returns, (name_of_methodNamed B.named B.method).1, B.notSynchronized, rfl, rfl, rfl, hw, hi⟩ ⟨rfl, rfl⟩ B.named
    s.heap [] _ 0 0 hcr va_S.rf (lv_entry av hL) (Nat.le_of_eq (Nat.zero_add _)) (Nat.le_of_eq (Nat.zero_add _))
set_option maxHeartbeats 4000000 in
set_option maxRecDepth 100000 in
theorem m_X1_testFor {w : KW} {n : KN} {α : KA} {K : KS} (op v : Int) (hop : -2147483648 ≤ op ∧ op ≤ 2147483647) : KM w yX1_testFor cX1_testFor 2 (some (.object "AnimationController$Test")) { frames := 0, cells := 1, slots := 1, locals := 3100 } (2, 16) [.int (iI op), .int (iI v)] n α K (fun r n' α' K' => n' = upn n 16 ∧ r = n 16 ∧ 0 ≤ r ∧ r < n' 16 ∧ K' = upo K 16 (n 16) (lmG (if op = 0 then 0 else if op = 1 then 1 else if op = 2 then 2 else 3) v)) := by
  refine y_startN (by decide) (Nat.le_of_ble_eq_true rfl) (fun x hE hQ hnd => ?_)
  have hw := hQ.2
  subst hw
  have hE : YE x cX1_testFor RX1 (some (.object "AnimationController$Test")) "testFor" 2 { frames := 0, cells := 1, slots := 1, locals := 3100 } := hE
  refine y_wk (fun hWK => ?_)
  have hn0 := hWK.1
  refine y_bud (bc' := 1) (bs' := 1) (Nat.le_refl _) (Nat.le_refl _) ?_
  refine y_to (lv' := [(0, .int (iI op)), (1, .int (iI v))]) (st' := []) rfl rfl rfl ?_
  refine y_iload_n hE rfl 0 rfl dX1_testFor_0 ?_
  by_cases c_1_0 : op = 0
  · refine y_tsw hE (by omega) dX1_testFor_1 27 28 (by omega) (by rw [c_1_0]; rfl) (by decide) ?_
    refine y_iload_n hE rfl 1 rfl dX1_testFor_28 ?_
    refine y_indy hE hnd (o := 0) (by decide) rfl (z := v) (bc' := 0) (bs' := 0) (Nat.le_refl _) (Nat.le_refl _) rfl (Nat.le_of_ble_eq_true rfl) dX1_testFor_29 (fun α_29 hx_29 => ?_)
    show Y x (upn n 16) α_29 (upo K 16 (n 16) (lmG 0 v)) 0 0 34 _ _
    obtain ⟨K_29, hK_29⟩ : ∃ z, z = upo K 16 (n 16) (lmG 0 v) := ⟨_, rfl⟩
    rw [← hK_29]
    obtain ⟨n_29, hn_29⟩ : ∃ z, z = upn n 16 := ⟨_, rfl⟩
    rw [← hn_29] at hx_29 ⊢
    obtain ⟨i_29, hi_29⟩ : ∃ z, z = n 16 := ⟨_, rfl⟩
    rw [← hi_29] at hK_29 ⊢
    have hl_29 : 0 ≤ i_29 ∧ i_29 < n_29 16 := by rw [hn_29, hi_29]; exact upn_self hn0 16
    refine y_to (st' := [refV α_29 16 i_29]) rfl rfl (by rw [refV_s hl_29.1]) ?_
    exact y_aret hE rfl (Or.inl ⟨_, rfl⟩) hQ dX1_testFor_34 hx_29 ⟨hn_29, hi_29, hl_29.1, hl_29.2, by rw [hK_29, hi_29, if_pos (by omega)]⟩
  by_cases c_1_1 : op = 1
  · refine y_tsw hE (by omega) dX1_testFor_1 34 35 (by omega) (by rw [c_1_1]; rfl) (by decide) ?_
    refine y_iload_n hE rfl 1 rfl dX1_testFor_35 ?_
    refine y_indy hE hnd (o := 1) (by decide) rfl (z := v) (bc' := 0) (bs' := 0) (Nat.le_refl _) (Nat.le_refl _) rfl (Nat.le_of_ble_eq_true rfl) dX1_testFor_36 (fun α_36 hx_36 => ?_)
    show Y x (upn n 16) α_36 (upo K 16 (n 16) (lmG 1 v)) 0 0 41 _ _
    obtain ⟨K_36, hK_36⟩ : ∃ z, z = upo K 16 (n 16) (lmG 1 v) := ⟨_, rfl⟩
    rw [← hK_36]
    obtain ⟨n_36, hn_36⟩ : ∃ z, z = upn n 16 := ⟨_, rfl⟩
    rw [← hn_36] at hx_36 ⊢
    obtain ⟨i_36, hi_36⟩ : ∃ z, z = n 16 := ⟨_, rfl⟩
    rw [← hi_36] at hK_36 ⊢
    have hl_36 : 0 ≤ i_36 ∧ i_36 < n_36 16 := by rw [hn_36, hi_36]; exact upn_self hn0 16
    refine y_to (st' := [refV α_36 16 i_36]) rfl rfl (by rw [refV_s hl_36.1]) ?_
    exact y_aret hE rfl (Or.inl ⟨_, rfl⟩) hQ dX1_testFor_41 hx_36 ⟨hn_36, hi_36, hl_36.1, hl_36.2, by rw [hK_36, hi_36, if_neg (by omega), if_pos (by omega)]⟩
  by_cases c_1_2 : op = 2
  · refine y_tsw hE (by omega) dX1_testFor_1 41 42 (by omega) (by rw [c_1_2]; rfl) (by decide) ?_
    refine y_iload_n hE rfl 1 rfl dX1_testFor_42 ?_
    refine y_indy hE hnd (o := 2) (by decide) rfl (z := v) (bc' := 0) (bs' := 0) (Nat.le_refl _) (Nat.le_refl _) rfl (Nat.le_of_ble_eq_true rfl) dX1_testFor_43 (fun α_43 hx_43 => ?_)
    show Y x (upn n 16) α_43 (upo K 16 (n 16) (lmG 2 v)) 0 0 48 _ _
    obtain ⟨K_43, hK_43⟩ : ∃ z, z = upo K 16 (n 16) (lmG 2 v) := ⟨_, rfl⟩
    rw [← hK_43]
    obtain ⟨n_43, hn_43⟩ : ∃ z, z = upn n 16 := ⟨_, rfl⟩
    rw [← hn_43] at hx_43 ⊢
    obtain ⟨i_43, hi_43⟩ : ∃ z, z = n 16 := ⟨_, rfl⟩
    rw [← hi_43] at hK_43 ⊢
    have hl_43 : 0 ≤ i_43 ∧ i_43 < n_43 16 := by rw [hn_43, hi_43]; exact upn_self hn0 16
    refine y_to (st' := [refV α_43 16 i_43]) rfl rfl (by rw [refV_s hl_43.1]) ?_
    exact y_aret hE rfl (Or.inl ⟨_, rfl⟩) hQ dX1_testFor_48 hx_43 ⟨hn_43, hi_43, hl_43.1, hl_43.2, by rw [hK_43, hi_43, if_neg (by omega), if_neg (by omega), if_pos (by omega)]⟩
  refine y_tswD hE (by omega) dX1_testFor_1 49 (by omega) (by decide) ?_
  refine y_iload_n hE rfl 1 rfl dX1_testFor_49 ?_
  refine y_indy hE hnd (o := 3) (by decide) rfl (z := v) (bc' := 0) (bs' := 0) (Nat.le_refl _) (Nat.le_refl _) rfl (Nat.le_of_ble_eq_true rfl) dX1_testFor_50 (fun α_50 hx_50 => ?_)
  show Y x (upn n 16) α_50 (upo K 16 (n 16) (lmG 3 v)) 0 0 55 _ _
  obtain ⟨K_50, hK_50⟩ : ∃ z, z = upo K 16 (n 16) (lmG 3 v) := ⟨_, rfl⟩
  rw [← hK_50]
  obtain ⟨n_50, hn_50⟩ : ∃ z, z = upn n 16 := ⟨_, rfl⟩
  rw [← hn_50] at hx_50 ⊢
  obtain ⟨i_50, hi_50⟩ : ∃ z, z = n 16 := ⟨_, rfl⟩
  rw [← hi_50] at hK_50 ⊢
  have hl_50 : 0 ≤ i_50 ∧ i_50 < n_50 16 := by rw [hn_50, hi_50]; exact upn_self hn0 16
  refine y_to (st' := [refV α_50 16 i_50]) rfl rfl (by rw [refV_s hl_50.1]) ?_
  exact y_aret hE rfl (Or.inl ⟨_, rfl⟩) hQ dX1_testFor_55 hx_50 ⟨hn_50, hi_50, hl_50.1, hl_50.2, by rw [hK_50, hi_50, if_neg (by omega), if_neg (by omega), if_neg (by omega)]⟩
