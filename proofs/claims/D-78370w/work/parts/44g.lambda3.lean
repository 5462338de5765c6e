set_option linter.unusedVariables false
section LMCALL
variable {p : Program} {l : Launch} {e : Env} {R R' : Room} {s : State} {m : MethodId} {args : Array Value} {below : List Frame} {meth : Method} {c : Code}
/-- what the walks of the lambdas take of the tables -/
def LmT (o : Nat) (cK d : ClassId) (s : State) : Prop := Lambda.isMade { classPath := fun _ => none } s.vm d (lmSh o) cK = true ∧ (∃ dk, s.vm.classes[d]? = some dk ∧ dk.name = "AnimationController") ∧
  (∀ q ok, s.vm.findClass "java/lang/Object" = some q → s.vm.classes[q]? = some ok → ok.instanceTypes.size = 0) ∧
  ∃ (mT : MethodId) (methT : Method) (cT : Code) (kT : Class), s.methodNamed? (lmY9 o) = some mT ∧ (s.vm.method? mT = some methT ∧ methT.code = some cT ∧ cT.code = lmC9 o ∧ cT.maxLocals = 2 ∧ methT.sig.returnType = some .boolean ∧ methT.locks = false ∧ methT.sig.parameters.length = 2 ∧ methT.isStatic = true) ∧ s.vm.classes[mT.cls]? = some kT ∧ kT.init = .initialized
theorem LmT.warm {o : Nat} {cK d : ClassId} {s U : State} (hW : s.WarmedH U.vm) (h : LmT o cK d s) : LmT o cK d U := by
  obtain ⟨h1, ⟨dk, h2, h3⟩, h4, mT, methT, cT, kT, h5, ⟨g1, g2⟩, h6, h7⟩ := h
  have hA := hW.alike
  refine ⟨Lambda.isMade_warmer hW h1, ?_, fun q ok a b => ?_, mT, methT, cT, ?_⟩
  · obtain ⟨dk', e1, e2⟩ := hA.2.2 _ _ h2
    exact ⟨dk', e1, by rw [e2]; exact h3⟩
  · rw [hA.findClass] at a
    cases hk : s.vm.classes[q]? with
    | none => rw [hA.none hk] at b; cases b
    | some k =>
      obtain ⟨k', e1, e2⟩ := hA.2.2 _ _ hk
      cases e1.symm.trans b
      have := h4 q k a hk
      rw [e2]
      exact this
  · obtain ⟨k', e1, e2⟩ := hA.2.2 _ _ h6
    refine ⟨k', ?_, ⟨by rw [hA.method?]; exact g1, g2⟩, e1, by rw [e2]; exact h7⟩
    have := State.methodNamed?_setVm (s := s) hA (lmY9 o)
    rw [h5] at this
    exact this
/-- the forwarder's walk -/
theorem lm_fw {H : Heap} {o : Nat} {cK d : ClassId} (ho : o < 4) (hexec : p.tables.exec = Jvm.exec) (hm : m = ⟨cK, 1⟩) (hb : c.code = lmCo) (hml : c.maxLocals = 2) (hr : meth.sig.returnType = some .boolean) (hlk : meth.locks = false) (hs : H = s.heap) (hT : LmT o cK d s) {a : Nat} {v w : Int} (hv : -2147483648 ≤ v ∧ v ≤ 2147483647) (hw : -2147483648 ≤ w ∧ w ≤ 2147483647)
    (hcell : H[a]? = some { cls := cK, slots := #[.int (iI w)], vm := .none }) (hf : 1 ≤ R.frames) (hl : 13 ≤ R.locals) :
    W p l e R s m args below meth c H [] 0 0 (MQ below (fun _ st o9 t => o9 = .returned (some (.int (iI (tsI o v w)))) ∧ t.heap = st.heap) args s 0 0 (fun _ => False)) (entryFrame m #[.ref a, .int (iI v)] 2) := by
  subst hm
  have hloc : entryFrame ⟨cK, 1⟩ #[.ref a, .int (iI v)] 2 = F0 ⟨cK, 1⟩ 0 #[.val (.ref a), .val (.int (iI v))] [] := rfl
  rw [hloc]
  obtain ⟨f0, hf0, hfp⟩ := Option.map_eq_some_iff.mp (lm_eF ho).2.2.2.1
  simp only [Prod.mk.injEq] at hfp
  refine lv_aload_n hexec hb lm_d0 rfl rfl ?_
  refine w_getR (f1 := f0) (v := .int (iI w)) hexec hb (fun T hW => ?_) hfp.1 hcell (by simp) (by rw [hfp.2]; rfl) lm_d1 ?_
  · obtain ⟨h1, ⟨dk, h2, h3⟩, h4, -⟩ := hT.warm (U := T) hW
    obtain ⟨k, tk, file, methk, ck, toy, t, found, iface, -, -, -, -, -, -, -, -, hfr, -⟩ := lm_made ho h2 h3 h1 h4
    exact hfr f0 hf0
  · refine lv_iload_n hexec hb lm_d4 rfl rfl ?_
    intro T hT0 X
    have hTT := hT.warm (U := T) X.warmed
    obtain ⟨h1, ⟨dk, h2, h3⟩, h4, mT, methT, cT, kT, h5, ⟨g1, g2, g3, g4, g5, g6, g7, g8⟩, h6, h7⟩ := hTT
    obtain ⟨k, tk, file, methk, ck, toy, t, found, iface, hk, hkn, hfile, hpool, ⟨hmk, hck, hbk, hmlk, hlkk, hflk, hrk⟩, ⟨htoy, htk, hlook⟩, hready, hclsR, -, -, -, -, -⟩ := lm_made ho h2 h3 h1 h4
    have hy := lm_y9 ho
    have hne : (lmY9 o).cls ≠ "java/lang/invoke/MethodHandle" ∧ (lmY9 o).cls ≠ "java/lang/invoke/VarHandle" := by rw [hy]; show "AnimationController" ≠ "java/lang/invoke/MethodHandle" ∧ "AnimationController" ≠ "java/lang/invoke/VarHandle"; decide
    have ht : t = mT := by
      have q1 := State.methodFound?_of_named h5 hne
      rw [hy] at q1
      simp only [State.methodFound?, htoy, htk, Option.bind_eq_bind, Option.bind_some] at q1
      rw [hlook] at q1
      exact Option.some.inj q1
    subst ht
    obtain ⟨kT', hkT', hnameT⟩ := className_of_methodNamed h5
    cases h6.symm.trans hkT'
    have hsp : ∀ y : Method, signaturePolymorphic kT y = false := fun y => by simp [signaturePolymorphic, hnameT, hne.1, hne.2]
    have htc : t.cls = toy := by
      have q1 := findClass_of_methodNamed h5
      rw [hy] at q1
      exact Option.some.inj (q1.symm.trans htoy)
    have htk2 : T.vm.classes[toy]? = some kT := by rw [← htc]; exact h6
    have eM := lm_eM ho
    obtain ⟨b, hmem⟩ := memberRef_ask' (e := e) (vm := T.vm) (d := cK) (index := 23) hk hfile (Or.inl (by rw [hpool]; exact eM.1)) (by rw [hpool]; exact eM.2.2)
    have hpl : T.plainMethod t := State.plainMethod.of_name (fun k' hk' => by cases h6.symm.trans hk'; rw [hnameT, hy]; show plainName "AnimationController" = true; decide)
    obtain ⟨T', X', hh', hW', hsteps⟩ := w_enter X (R' := { frames := 0, cells := 0, slots := 0, locals := 0 }) (g := F0 ⟨cK, 1⟩ 5 #[.val (.ref a), .val (.int (iI v))] []) rfl (by rw [hml]; rfl) (by rw [hb]; exact lm_d5) (a := #[.int (iI w), .int (iI v)]) g1 g2 g6 hpl
      (by show 0 + 1 ≤ R.frames; omega) (by rw [g4]; show 2 * 0 + 0 + (2 + 11) + 0 ≤ R.locals; omega) (Nat.zero_le _) (Nat.zero_le _) (v := .int (iI (tsI o v w)))
      (by rw [g4]; exact lm_b (ls := #[.val (.int (iI w)), .val (.int (iI v))]) ho hexec g3 g5 g6 rfl hv hw rfl rfl)
    obtain ⟨t9, a1, b1⟩ := lm_end (p := p) (l := l) (e := e) (R := R) (s := s) (m := ⟨cK, 1⟩) (args := args) (below := below) (meth := meth) (c := c) (H := H) (ls := #[.val (.ref a), .val (.int (iI v))]) hexec hb hr hlk hs (tsI_01 o v w) lm_d8 T' (by rw [hh', hT0]) X'
    refine ⟨t9, ?_, b1⟩
    jvm_step X.here [hexec, hb, lm_d5, invokestatic.wp_ready (e := e) (s := T) (m := t) (k := kT) (meth := methT) (args := [.int (iI w), .int (iI v)]) (rest := []) (f := F0 ⟨cK, 1⟩ 5 #[.val (.ref a), .val (.int (iI v))] [.int (iI v), .int (iI w)]) X.here.top ⟨19, _, _, b, toy, kT, hmem, hclsR, htk2, by simp [hsp]⟩ hready h6 g1 (hsp _) g8 h7 (by rw [g7]; rfl) rfl]
    intro acts
    exact (hsteps acts).trans a1
end LMCALL
section KLAM
variable {x : YX} {cc : ByteArray} {own nm : String} {ret : Option FieldType} {nL : Nat} {RM : Room} {n : KN} {α : KA} {K : KS} {bc bs pc : Nat} {lv : List (Nat × Value)} {st : List Value}
theorem y_lmT (hE : YE x cc own ret nm nL RM) {o : Nat} (ho : o < 4) : ∃ d, LmT o ((yW x).2.2.1 (20 + o)) d x.2.2.2.2.1 ∧ x.2.2.2.2.1.lambdaCallable (lmSh o) ((yW x).2.2.1 (20 + o)) = true := by
  obtain ⟨hx, hcb0, hml0, hown, hts0, -, -, -, hRM, hnL, hl0, hW0, hI0⟩ := id hE
  obtain ⟨mD, kD0, cfD, i0, p0, lk, hmD, hkD, -, -, -, -, hmade, hcan, -⟩ := State.lambdaAt?_spec (hW0.2.2.2.2 o ho)
  obtain ⟨kD', hkD', hnameD⟩ := className_of_methodNamed hmD
  cases hkD.symm.trans hkD'
  have hWs := hI0.2.2
  have hA := hWs.alike
  obtain ⟨kDs, hkDs, heDs⟩ := hA.2.2 _ _ hkD
  obtain ⟨w1, w2⟩ := lm_w9 ho
  obtain ⟨mT, hmT⟩ := Cond.code_named (hts0 _ w1)
  obtain ⟨methT, cT, c1, c2, c3, c4, c5, c6, -, c8⟩ := Cond.code_spec hmT (hts0 _ w1)
  have hst := Cond.static_spec hmT c1 (hts0 _ w2)
  obtain ⟨kT, hkT, -⟩ := className_of_methodNamed hmT
  have hfT := findClass_of_methodNamed hmT
  have hyc : (lmY9 o).cls = "AnimationController" := by rw [lm_y9 ho]
  rw [hyc] at hfT
  have hinit := Cond.initialized_spec hfT hkT (hts0 _ q108)
  have hdesc : (lmY9 o).desc = "(II)Z" := by rw [lm_y9 ho]
  rw [hdesc] at c8
  have hsig : methT.sig.parameters.length = 2 := by
    have : parseMethodDescriptor "(II)Z" = some { parameters := [.int, .int], returnType := some .boolean } := by decide +kernel
    rw [this] at c8
    rw [← Option.some.inj c8]
    rfl
  refine ⟨mD.cls, ⟨Lambda.isMade_warmer hWs hmade, ⟨kDs, hkDs, by rw [heDs]; exact hnameD⟩, fun q ok a b => ?_, mT, methT, cT, kT, hmT, ⟨c1, c2, c3, c4, c5, c6, hsig, hst⟩, hkT, hinit⟩, ?_⟩
  · obtain ⟨c9, k9, g1, g2, -, -, -, g6⟩ := Cond.instantiable_spec (hts0 _ q3341)
    rw [g1] at a
    cases a
    rw [g2] at b
    cases b
    exact g6
  · simp only [State.lambdaCallable, hA.findClass, hA.assignable, hA.superclasses, hA.declaredIn] at hcan ⊢
    exact hcan
/-- a test is asked -/
theorem y_holds (hE : YE x cc RX15 ret nm nL RM) {ts op wv v : Int} (hop : 0 ≤ op ∧ op ≤ 3) (e9 : K 16 ts 9 = op) (ew : K 16 ts 0 = wv) (el : K 16 ts (-1) = 1) (hts : 0 ≤ ts ∧ ts < n 16) (hv : -2147483648 ≤ v ∧ v ≤ 2147483647) (hwv : -2147483648 ≤ wv ∧ wv ≤ 2147483647) (hf : 2 ≤ RM.frames) (hl2 : 60 ≤ RM.locals) (hst : st = [])
    (hW9 : nL ≤ 8) (d : decode cc pc = .ok (.invokeinterface 23 2, 5)) (k : Y x n α K bc bs (pc + 5) lv (.int (iI (tsI op v wv)) :: st)) : Y x n α K bc bs pc lv (.int (iI v) :: .ref (α 16 ts) :: st) := by
  subst hst
  intro H locs ls cells slots hR hS hl hcb hs T hT X
  obtain ⟨hx, hcb0, hml0, hown, hts0, -, -, -, hRM, hnL, hl0, hW0, hI0⟩ := id hE
  obtain ⟨o, ho⟩ : ∃ o : Nat, (o : Int) = op := ⟨op.toNat, by omega⟩
  have ho4 : o < 4 := by omega
  obtain ⟨ws, q0, hP, hq⟩ := cr_any hE hR hS hts
  rw [cont_a (q := (20 + o, 0, 0)) (by unfold kD; rw [if_neg (by decide), if_pos rfl, e9, ← ho]; simp)] at hq
  have hcell0 : H[α 16 ts]? = some (vp_cell ((yW x).2.2.1 (20 + o)) ((K 16 ts (-1)).toNat, arrC α (0, 0) (K 16 ts))) := hP q0 _ hq
  have hcell : H[α 16 ts]? = some { cls := (yW x).2.2.1 (20 + o), slots := #[.int (iI wv)], vm := .none } := by
    rw [hcell0, el]
    show some (arrV _ 1 (fun j => .int (iI (K 16 ts j)))) = _
    unfold arrV
    simp [ew]
    rfl
  obtain ⟨dd, hLm, hcan⟩ := y_lmT hE ho4
  obtain ⟨h1, ⟨dk, h2, h3⟩, h4, -⟩ := id hLm
  obtain ⟨kK, tk, file, methk, ck, toy, t, found, iface, hkK, hkn, -, -, ⟨hmk, hck, hbk, hmlk, hlkk, hflk, hrk⟩, -, -, -, -, -, hif, hfo, hsel⟩ := lm_made ho4 h2 h3 h1 h4
  -- the interface's method
  have hWs := hI0.2.2
  have hA := hWs.alike
  obtain ⟨cI, kI, r0, j1, j2, j3, j4, j5⟩ := Cond.interfaceMethod_spec (hW0.2.1 _ q2376)
  have j1s : x.2.2.2.2.1.vm.findClass "AnimationController$Test" = some cI := by rw [hA.findClass]; exact j1
  obtain ⟨kI', j2s, j2e⟩ := hA.2.2 _ _ j2
  have j3s : kI'.isInterface = true := by rw [j2e]; exact j3
  have j4s : x.2.2.2.2.1.methodFound? "AnimationController$Test" "holds" "(I)Z" = some r0 := (State.methodFound?_setVm (s := (yW x).2.2.2.1) hA _ _ _).trans j4
  have j5s : x.2.2.2.2.1.methodNamed? ⟨"AnimationController$Test", "holds", "(I)Z"⟩ = some r0 := (State.methodNamed?_setVm (s := (yW x).2.2.2.1) hA _).trans j5
  cases hif.symm.trans j1s
  have hfr : found = r0 := by
    simp only [State.methodFound?, j1s, j2s, j3s, Option.bind_eq_bind, Option.bind_some] at j4s
    rw [hfo] at j4s
    exact Option.some.inj j4s
  subst hfr
  have hr0cls : found.cls = iface := Option.some.inj ((findClass_of_methodNamed j5s).symm.trans j1s)
  have hdecl : (Cond.declares ⟨"AnimationController$Test", "holds", "(I)Z"⟩).before x.2.2.2.2.2.2.1 x.2.2.2.2.1 = true := va_Nw.use rfl (va_Nw.warmD hWs (va_Nw.of rfl (hW0.2.1 _ q2377)))
  obtain ⟨r9, r, hn9, hrm, hstR, hsigR⟩ := Cond.declares_spec hdecl
  cases hn9.symm.trans j5s
  obtain ⟨hnameR, hdescR⟩ := name_of_methodNamed j5s hrm
  obtain ⟨i2, hi2, hasg, hway⟩ := State.lambdaCallable_spec hcan
  cases (show x.2.2.2.2.1.vm.findClass "AnimationController$Test" = some i2 from hi2).symm.trans j1s
  have hsigI : r.sig.parameters.length = 1 := by
    have : parseMethodDescriptor "(I)Z" = some { parameters := [.int], returnType := some .boolean } := by decide +kernel
    rw [this] at hsigR
    rw [← Option.some.inj hsigR]
    rfl
  have e2 : (lmSh o).sam.toString = "(I)Z" := by show MethodDescriptor.toString { parameters := [.int], returnType := some .boolean } = "(I)Z"; decide +kernel
  obtain ⟨vm₁, X₁, hstep₁⟩ := X.invokeinterface hx hown (hts0 _ q2375) j5s hrm hstR (by rw [hr0cls]; exact j2s) j3s (by decide) (a := α 16 ts) (cell := { cls := (yW x).2.2.1 (20 + o), slots := #[.int (iI wv)], vm := .none }) (kcell := kK) (by rw [hT]; exact hcell) (fun z h => by cases h) hkK (by rw [hr0cls]; exact hasg)
    (m' := ⟨(yW x).2.2.1 (20 + o), 1⟩) (meth' := methk) (by rw [Launch.admits_selectMethod X.admits]; exact hsel) hmk (by rw [hnameR, hdescR]; rw [e2] at hway; exact hway) (by rw [hflk]; decide) (by simp [Method.isAbstract, hflk, hasFlag, Acc.abstract])
    (g := F0 x.2.2.2.2.2.1 pc ls [.int (iI v), .ref (α 16 ts)]) rfl (argsL := [.int (iI v)]) (rest := []) (by rw [hsigI]; rfl) rfl (by rw [hcb0]; exact d)
  have hL1 := hLm.warm (U := T.setVm vm₁) X₁.warmed
  obtain ⟨b1, ⟨dk1, b2, b3⟩, b4, -⟩ := id hL1
  obtain ⟨kK1, tk1, file1, methk1, ck1, toy1, t1, found1, iface1, hkK1, hkn1, -, -, ⟨hmk1, hck1, hbk1, hmlk1, hlkk1, hflk1, hrk1⟩, -⟩ := lm_made ho4 b2 b3 b1 b4
  have hpl : (T.setVm vm₁).plainMethod ⟨(yW x).2.2.1 (20 + o), 1⟩ := State.plainMethod.of_name (fun k' hk' => by cases hkK1.symm.trans hk'; rw [hkn1]; decide)
  have hH1 : (T.setVm vm₁).heap = H := hT
  obtain ⟨T', X', hh', hW', hsteps⟩ := w_enter X₁ (R' := { frames := 1, cells := 0, slots := 0, locals := 26 }) (g := F0 x.2.2.2.2.2.1 pc ls []) rfl (by show ls.size = _; rw [hl.1, hnL, hml0]) (by rw [hcb0]; exact d) (a := #[.ref (α 16 ts), .int (iI v)]) hmk1 hck1 hlkk1 hpl
    (by rw [hRM]; exact hf) (by rw [hmlk1, hRM]; show 2 * 0 + 0 + (2 + 11) + 26 ≤ RM.locals; omega) (by show cells + 0 ≤ _; omega) (by show slots + 0 ≤ _; omega) (v := .int (iI (tsI op v wv)))
    (by rw [hmlk1, ← ho]; exact lm_fw (R := { frames := 1, cells := 0, slots := 0, locals := 26 }) (cK := (yW x).2.2.1 (20 + o)) (d := dd) ho4 hx rfl hbk1 hmlk1 hrk1 hlkk1 (by rfl) (by exact hL1) hv hwv (by rw [hH1]; exact hcell) (Nat.le_refl _) (by show 13 ≤ 26; decide))
  obtain ⟨t9, a9, b9⟩ := k H locs ls cells slots hR hS hl hcb hs T' (by rw [hh', hH1]) X'
  exact ⟨t9, hstep₁ t9 (fun acts => (hsteps acts).trans a9), b9⟩
end KLAM
