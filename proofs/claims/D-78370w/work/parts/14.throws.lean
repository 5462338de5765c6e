set_option linter.unusedVariables false
/-! ===== contracts of methods that throw ===== -/
def kX (w : KW) (n : KN) (α : KA) (postX : String → KN → KA → KS → Prop) : String → State → State → Prop := fun E st t =>
  (∃ (n' : KN) (α' : KA) (K' : KS), CR w n' α' K' t.heap ∧ Ext n α n' α' ∧ postX E n' α' K') ∧ va_F (kA w) st t
def KMX (w : KW) (y : MethodName) (b : ByteArray) (L : Nat) (ret : Option FieldType) (rm : Room) (rt : Nat × Nat) (av : List Value) (n : KN) (α : KA) (K : KS) (post : Int → KN → KA → KS → Prop) (postX : String → KN → KA → KS → Prop) : Prop :=
  vx_Met w.1 y (ws_ y b L ret) rm (kP w n α K av) (kQ w n α rt post) (kX w n α postX) rm.cells rm.slots (kA w)
def YQX (x : YX) (w : KW) (n0 : KN) (α0 : KA) (rt : Nat × Nat) (post : Int → KN → KA → KS → Prop) (postX : String → KN → KA → KS → Prop) : Prop :=
  x.2.2.2.2.2.2.2.2.2.2.1 = vx_MQ x.2.2.2.2.2.2.2.1 (kQ w n0 α0 rt post) (kX w n0 α0 postX) x.2.2.2.2.2.2.1 x.2.2.2.2.1 x.2.2.2.1.cells x.2.2.2.1.slots (kA w) ∧ yW x = w
/-- the method has no handlers -/
def YNH (x : YX) : Prop := ∀ z ∈ x.2.2.2.2.2.2.2.2.2.1.exceptionTable.toList, False
theorem y_startX {w : KW} {y : MethodName} {b : ByteArray} {L : Nat} {ret : Option FieldType} {rm : Room} {rt : Nat × Nat} {av : List Value} {n : KN} {α : KA} {K : KS} {post : Int → KN → KA → KS → Prop} {postX : String → KN → KA → KS → Prop}
    (hy : plainName y.cls = true) (hL : (lg_sl av).length ≤ L)
    (body : ∀ x : YX, YE x b y.cls ret y.name L rm → YQX x w n α rt post postX → YNH x → Y x n α K rm.cells rm.slots 0 (lv_args 0 av) []) : KMX w y b L ret rm rt av n α K post postX := by
  refine vx_ofW (cc := b) (maxL := L) (ret := ret) hy rfl ?_
  intro p e s m args below meth c s₁ B hml hno hv
  obtain ⟨rfl, hw, hi, hcr⟩ := hv
  have hts := atoms_spec (ws := ws_ y b L ret) B.pre
  have hts : ∀ w ∈ lw_all, w.before _ s = true := fun w h => hts w (List.mem_cons_of_mem _ h)
  rw [lg_entry_eq]
  exact body (p, w.1, e, (headSpec (ws_ y b L ret) rm).room, s, m, _, below, meth, c, _, L, w)
    ⟨B.exec, B.bytes, hml, findClass_of_methodNamed B.named, hts, B.returns, (name_of_methodNamed B.named B.method).1, B.notSynchronized, rfl, rfl, rfl, hw, hi⟩ ⟨rfl, rfl⟩ hno
    s.heap [] _ 0 0 hcr va_S.rf (lv_entry av hL) (Nat.le_of_eq (Nat.zero_add _)) (Nat.le_of_eq (Nat.zero_add _))
/-- a heap that has grown holds the store -/
theorem cr_more {w : KW} {n : KN} {α : KA} {K : KS} {H H1 : Heap} (h : CR w n α K H) (hk : ∀ q : Nat, q < H.size → H1[q]? = H[q]?) : CR w n α K H1 := by
  obtain ⟨L, G, hP, hD, h1, h2, h3, h4⟩ := h
  exact ⟨L, G, hP.kept (fun k x hx => hk _ (hP k x hx).lt), hD, h1, h2, h3, h4⟩
section KTHROW
variable {x : YX} {cc : ByteArray} {own nm : String} {ret : Option FieldType} {nL : Nat} {RM : Room} {n : KN} {α : KA} {K : KS} {bc bs pc : Nat} {lv : List (Nat × Value)} {st : List Value}
theorem y_nwD (hE : YE x cc own ret nm nL RM) {y : MethodName} (hq : Cond.declares y ∈ lw_tbl) : (Cond.declares y).before x.2.2.2.2.2.2.1 x.2.2.2.2.1 = true := by
  obtain ⟨-, -, -, -, -, -, -, -, -, -, -, hW, hI⟩ := hE
  exact va_Nw.use rfl (va_Nw.warmD hI.2.2 (va_Nw.of rfl (hW.2.1 _ hq)))
theorem y_flags (hE : YE x cc own ret nm nL RM) : x.2.1.stackTraces = false := by
  obtain ⟨-, -, -, -, -, -, -, -, -, -, hl, hW, -⟩ := hE
  unfold Launch.stackTraces
  rw [hl, hW.1]
  decide +kernel
/-- what the Statement takes of the start -/
theorem y_given (hE : YE x cc own ret nm nL RM) : ∀ c ∈ flatC (Jvm.Cond.and given_1 narrow_1), c.before #[Value.ref (yW x).2.2.2.2] (yW x).2.2.2.1 = true := flat_of_before _ hE.2.2.2.2.2.2.2.2.2.2.2.1.2.2.1
theorem g_US : (Cond.isRef (.static Bundle.tN "UNASSIGNED_STACK" Bundle.steD)) ∈ flatC (Jvm.Cond.and given_1 narrow_1) := by decide +kernel
theorem g_SS : (Cond.isRef (.static Bundle.tN "SUPPRESSED_SENTINEL" Bundle.listD)) ∈ flatC (Jvm.Cond.and given_1 narrow_1) := by decide +kernel
theorem y_Zq (hE : YE x cc own ret nm nL RM) {C nn d : String} (hl : Cond.laysStatic C nn d ∈ lw_tbl) (hi : Cond.initialized C ∈ lw_all) (hg : (Cond.isRef (.static C nn d)) ∈ flatC (Jvm.Cond.and given_1 narrow_1)) : vx_Zq C nn d (kA (yW x)) x.2.2.2.2.1 x.2.2.2.2.1.heap := by
  have hG := y_given hE _ hg
  have hW := hE.2.2.2.2.2.2.2.2.2.2.2.1
  have hI := hE.2.2.2.2.2.2.2.2.2.2.2.2
  have h0 : vx_Zq C nn d (kA (yW x)) (yW x).2.2.2.1 (yW x).2.2.2.1.heap := vx_Zqof (hW.2.1 _ hl) (hW.2.1 _ (lw_all_tbl hi)) hG (fun a h z => absurd z (Nat.not_le.mpr h))
  exact (h0.moved hI.2.2.alike).kept (fun a h _ => hI.2.1 a h)
abbrev wt_IAE : List Cond := vx_at0 "AnimationController" 5 "java/lang/IllegalArgumentException" ["java/lang/RuntimeException", "java/lang/Exception"]
theorem at_IAE (hE : YE x cc RX1 ret nm nL RM) : ∀ w ∈ wt_IAE, w.before x.2.2.2.2.2.2.1 x.2.2.2.2.1 = true :=
  vx_hat (L := wt_IAE) (B := [Cond.declares ⟨"java/lang/RuntimeException", "<init>", "()V"⟩, Cond.declares ⟨"java/lang/Exception", "<init>", "()V"⟩, Cond.declares ⟨"java/lang/Throwable", "<init>", "()V"⟩, Cond.castable "java/lang/IllegalArgumentException" "java/lang/IllegalArgumentException"]) (fun w h => hE.2.2.2.2.1 _ (lw_in (wt_IAE.filter goodWord) [112, 210, 219, 225, 228, 230, 211, 212, 170, 171, 213, 218, 226, 467, 200, 468, 202, 469, 204, 214, 216, 206, 1915, 1916, 1917, 1918, 1918, 1919, 1920, 1921, 1921, 1922, 1923, 211, 1914, 189, 197, 198, 199, 201, 203, 205, 209, 208, 207] (by decide +kernel) (by decide +kernel) w h)) (by decide +kernel)
    (vx_c (y_nwD hE q191) (vx_c (y_nwD hE q193) (vx_c (y_nwD hE q195) (vx_c (va_Nw.use rfl (y_nwC hE q190)) vx_n))))
theorem ag_IAE {ik : Nat} : ∀ w ∈ Cond.classLink "AnimationController" ik "java/lang/IllegalArgumentException" :: Cond.initialized "java/lang/IllegalArgumentException" :: wt_IAE, vx_ot w = true := by
  intro w h
  rcases List.mem_cons.mp h with rfl | h
  · rfl
  · rcases List.mem_cons.mp h with rfl | h
    · rfl
    · have h2 : wt_IAE.all vx_ot = true := by decide +kernel
      exact List.all_eq_true.mp h2 w h
abbrev wt_ISE : List Cond := vx_at0 "AnimationController" 11 "java/lang/IllegalStateException" ["java/lang/RuntimeException", "java/lang/Exception"]
theorem at_ISE (hE : YE x cc RX1 ret nm nL RM) : ∀ w ∈ wt_ISE, w.before x.2.2.2.2.2.2.1 x.2.2.2.2.1 = true :=
  vx_hat (L := wt_ISE) (B := [Cond.declares ⟨"java/lang/RuntimeException", "<init>", "()V"⟩, Cond.declares ⟨"java/lang/Exception", "<init>", "()V"⟩, Cond.declares ⟨"java/lang/Throwable", "<init>", "()V"⟩, Cond.castable "java/lang/IllegalStateException" "java/lang/IllegalStateException"]) (fun w h => hE.2.2.2.2.1 _ (lw_in (wt_ISE.filter goodWord) [112, 210, 219, 225, 228, 230, 211, 212, 170, 171, 213, 218, 226, 467, 200, 468, 202, 469, 204, 214, 216, 206, 1937, 1938, 1939, 1918, 1918, 1919, 1920, 1921, 1921, 1922, 1923, 211, 1936, 1928, 1930, 222, 1931, 1932, 1933, 1934, 209, 208, 1935] (by decide +kernel) (by decide +kernel) w h)) (by decide +kernel)
    (vx_c (y_nwD hE q191) (vx_c (y_nwD hE q193) (vx_c (y_nwD hE q195) (vx_c (va_Nw.use rfl (y_nwC hE q1929)) vx_n))))
theorem ag_ISE {ik : Nat} : ∀ w ∈ Cond.classLink "AnimationController" ik "java/lang/IllegalStateException" :: Cond.initialized "java/lang/IllegalStateException" :: wt_ISE, vx_ot w = true := by
  intro w h
  rcases List.mem_cons.mp h with rfl | h
  · rfl
  · rcases List.mem_cons.mp h with rfl | h
    · rfl
    · have h2 : wt_ISE.all vx_ot = true := by decide +kernel
      exact List.all_eq_true.mp h2 w h
abbrev wt_IOOBE : List Cond := vx_at0 "AnimationController" 18 "java/lang/IndexOutOfBoundsException" ["java/lang/RuntimeException", "java/lang/Exception"]
theorem at_IOOBE (hE : YE x cc RX1 ret nm nL RM) : ∀ w ∈ wt_IOOBE, w.before x.2.2.2.2.2.2.1 x.2.2.2.2.1 = true :=
  vx_hat (L := wt_IOOBE) (B := [Cond.declares ⟨"java/lang/RuntimeException", "<init>", "()V"⟩, Cond.declares ⟨"java/lang/Exception", "<init>", "()V"⟩, Cond.declares ⟨"java/lang/Throwable", "<init>", "()V"⟩, Cond.castable "java/lang/IndexOutOfBoundsException" "java/lang/IndexOutOfBoundsException"]) (fun w h => hE.2.2.2.2.1 _ (lw_in (wt_IOOBE.filter goodWord) [112, 210, 219, 225, 228, 230, 211, 212, 170, 171, 213, 218, 226, 467, 200, 468, 202, 469, 204, 214, 216, 206, 1988, 1989, 1990, 1918, 1918, 1919, 1920, 1921, 1921, 1922, 1923, 211, 1987, 1979, 1981, 223, 1982, 1983, 1984, 1985, 209, 208, 1986] (by decide +kernel) (by decide +kernel) w h)) (by decide +kernel)
    (vx_c (y_nwD hE q191) (vx_c (y_nwD hE q193) (vx_c (y_nwD hE q195) (vx_c (va_Nw.use rfl (y_nwC hE q1980)) vx_n))))
theorem ag_IOOBE {ik : Nat} : ∀ w ∈ Cond.classLink "AnimationController" ik "java/lang/IndexOutOfBoundsException" :: Cond.initialized "java/lang/IndexOutOfBoundsException" :: wt_IOOBE, vx_ot w = true := by
  intro w h
  rcases List.mem_cons.mp h with rfl | h
  · rfl
  · rcases List.mem_cons.mp h with rfl | h
    · rfl
    · have h2 : wt_IOOBE.all vx_ot = true := by decide +kernel
      exact List.all_eq_true.mp h2 w h
theorem y_throw0 (hE : YE x cc RX1 ret nm nL RM) {w : KW} {n0 : KN} {α0 : KA} {rt : Nat × Nat} {post : Int → KN → KA → KS → Prop} {postX : String → KN → KA → KS → Prop} (hQ : YQX x w n0 α0 rt post postX) (hN : YNH x) {ik ic : Nat} {X : String} (hcls : Bundle.fit X = true)
    (hk : Cond.classLink "AnimationController" ik X ∈ lw_all) (hini : Cond.initialized X ∈ lw_all) (hat : ∀ w ∈ vx_at0 "AnimationController" ic X ["java/lang/RuntimeException", "java/lang/Exception"], w.before x.2.2.2.2.2.2.1 x.2.2.2.2.1 = true) (hgood : ∀ w ∈ Cond.classLink "AnimationController" ik X :: Cond.initialized X :: vx_at0 "AnimationController" ic X ["java/lang/RuntimeException", "java/lang/Exception"], vx_ot w = true)
    (d0 : decode cc pc = .ok (.new ik, 3)) (d3 : decode cc (pc + 3) = .ok (.dup, 1)) (d4 : decode cc (pc + 4) = .ok (.invokespecial ic, 3)) (d7 : decode cc (pc + 7) = .ok (.athrow, 1))
    (hf : 6 ≤ RM.frames) (hlo : (st.map fun v => v.category).sum + 81 ≤ RM.locals) (hb : 1 ≤ bc) (hb2 : 6 ≤ bs) (hX : Ext n0 α0 n α) (hp : postX X n α K) : Y x n α K bc bs pc lv st := by
  intro H locs ls cells slots hR hS hl hcb hs
  obtain ⟨hx, hcb2, hml, hown, hts, -, -, hlk, hRM, hnL, -⟩ := id hE
  obtain ⟨hQ, rfl⟩ := hQ
  rw [hQ]
  refine vx_throw0 (names := ["java/lang/RuntimeException", "java/lang/Exception"]) (A := kA (yW x)) hx hcb2 (y_flags hE) hown hcls (by decide) (hts _ hk) (hts _ hini) hat hgood (y_Zq hE q215 q112 g_US) (y_Zq hE q217 q112 g_SS) hS (by rw [hl.1, hml, hnL]) d0 d3 d4 d7 (fun z hz => (hN z hz).elim) (by rw [hRM]; show 2 + 3 < _; omega) (by rw [hRM]; show _ + (13 * (2 + 1) + 42) ≤ _; omega) (by omega) (by omega) hlk (fun t hvm hz hk9 => ?_) hS.2.2 (by omega) (by omega)
  exact ⟨⟨n, α, K, cr_more hR hk9, hX, hp⟩, ⟨Nat.le_trans hS.1 hz, fun q h1 h2 => by rw [hk9 q (Nat.lt_of_lt_of_le h1 hS.1)]; exact hS.2.1 q h1 h2⟩⟩
/-- behind a call that may throw, in a method without handlers -/
theorem y_runX (hE : YE x cc own ret nm nL RM) {w : KW} {n0 : KN} {α0 : KA} {rt0 : Nat × Nat} {post0 : Int → KN → KA → KS → Prop} {postX0 : String → KN → KA → KS → Prop} (hQ : YQX x w n0 α0 rt0 post0 postX0) (hN : YNH x) (hX0 : Ext n0 α0 n α) {rt : Nat × Nat} {post : Int → KN → KA → KS → Prop} {postX : String → KN → KA → KS → Prop} {mc ms : Nat} {rest : List Value} {a : Array Value}
    (hr : ∀ (H : Heap) (locs : List Loc) (cells slots : Nat) (ls : Array Slot), CR (yW x) n α K H → va_S (kA (yW x)) x.2.2.2.2.1.heap H locs → ls.size = nL → cells + mc ≤ x.2.2.2.1.cells ∧ slots + ms ≤ x.2.2.2.1.slots →
      vx_Run x.1 x.2.1 x.2.2.1 x.2.2.2.1 x.2.2.2.2.1 x.2.2.2.2.2.1 x.2.2.2.2.2.2.1 x.2.2.2.2.2.2.2.1 x.2.2.2.2.2.2.2.2.1 x.2.2.2.2.2.2.2.2.2.1 H locs cells slots mc ms (F0 x.2.2.2.2.2.1 pc ls st) rest (kQ (yW x) n α rt post a) (kX (yW x) n α postX) (kA (yW x)))
    {bc' bs' : Nat} (hb : bc' + mc ≤ bc) (hb2 : bs' + ms ≤ bs)
    (hx : ∀ (E : String) (n' : KN) (α' : KA) (K' : KS), Ext n α n' α' → postX E n' α' K' → postX0 E n' α' K')
    (k : ∀ (r : Int) (n' : KN) (α' : KA) (K' : KS), Ext n α n' α' → post r n' α' K' → Y x n' α' K' bc' bs' (pc + 3) lv ((retV α' rt r).toList ++ rest)) : Y x n α K bc bs pc lv st := by
  intro H locs ls cells slots hR hS hl hc hs T hT X
  have hlk := hE.2.2.2.2.2.2.2.1
  rcases hr H locs cells slots ls hR hS (by rw [hl.1]; exact hE.2.2.2.2.2.2.2.2.2.1) ⟨by omega, by omega⟩ T hT X with ⟨v, st₀, t, T', L, h0, X', hL, e1, e2, ⟨⟨r, n', α', K', hv, hcr, hx9, hp⟩, hz, hk⟩, stp⟩ | ⟨q, st₀, t, T', L, E, ce, h0, X', hL, e1, e2, ⟨⟨n', α', K', hcr, hx9, hp⟩, hz, hk⟩, hq, hce, hcl, stp⟩
  · cases hv
    rw [h0] at hz hk
    obtain ⟨t2, a1, b1⟩ := k r n' α' K' hx9 hp T'.heap (locs ++ L) ls (cells + mc) (slots + ms) (by rw [e1]; exact hcr)
      ⟨Nat.le_trans hS.1 (by rw [e1]; exact hz), fun q h1 h2 => by rw [e1, hk q (Nat.lt_of_lt_of_le h1 hS.1) h2]; exact hS.2.1 q h1 h2, fun q hq => by
        rcases List.mem_append.mp hq with h | h
        · exact hS.2.2 q h
        · exact hL q h⟩ hl (by omega) (by omega) T' rfl X'
    exact ⟨t2, stp t2 a1, b1⟩
  · rw [h0] at hz hk
    obtain ⟨hQ, rfl⟩ := hQ
    have hS' : va_S (kA (yW x)) x.2.2.2.2.1.heap T'.heap (locs ++ L) := ⟨Nat.le_trans hS.1 (by rw [e1]; exact hz), fun q h1 h2 => by rw [e1, hk q (Nat.lt_of_lt_of_le h1 hS.1) h2]; exact hS.2.1 q h1 h2, fun q hq => by
        rcases List.mem_append.mp hq with h | h
        · exact hS.2.2 q h
        · exact hL q h⟩
    have hout := vx_out (p := x.1) (l := x.2.1) (e := x.2.2.1) (R := x.2.2.2.1) (s := x.2.2.2.2.1) (m := x.2.2.2.2.2.1) (args := x.2.2.2.2.2.2.1) (below := x.2.2.2.2.2.2.2.1) (meth := x.2.2.2.2.2.2.2.2.1) (c := x.2.2.2.2.2.2.2.2.2.1) (H := T'.heap) (locs := locs ++ L) (cells := cells + mc) (slots := slots + ms) (pc := pc) (ls := ls) (rest := rest) (Qc := kQ (yW x) n0 α0 rt0 post0) (XC := kX (yW x) n0 α0 postX0) (free := kA (yW x)) (mc := x.2.2.2.1.cells) (ms := x.2.2.2.1.slots)
      (fun z hz => (hN z hz).elim) hlk (by rw [e1]; exact hq) hce hcl (fun t9 ht9 _ => ⟨⟨n', α', K', by rw [ht9, e1]; exact hcr, hX0.tr hx9, hx E n' α' K' hx9 hp⟩, hS'.F ht9⟩) hS'.2.2 (by omega) (by omega)
    rw [hQ]
    obtain ⟨t2, a1, b1⟩ := hout T' rfl X'
    exact ⟨t2, stp.trans a1, b1⟩
section Calls
variable {y : MethodName} {b : ByteArray} {L index nA : Nat} {r0 : Option FieldType} {rm : Room} {rt : Nat × Nat} {As rest : List Value} {post : Int → KN → KA → KS → Prop} {postX : String → KN → KA → KS → Prop} {bc' bs' : Nat} {w : KW} {n0 : KN} {α0 : KA} {rt0 : Nat × Nat} {post0 : Int → KN → KA → KS → Prop} {postX0 : String → KN → KA → KS → Prop}
theorem y_callSX (hE : YE x cc own ret nm nL RM) (hQ : YQX x w n0 α0 rt0 post0 postX0) (hN : YNH x) (hX0 : Ext n0 α0 n α) (hM : KMX (yW x) y b L r0 rm rt As n α K post postX) (hT : GoodIn lw_all (va_wsS own index y (ws_ y b L r0))) (hd : y.cls ≠ "java/lang/invoke/MethodHandle" ∧ y.cls ≠ "java/lang/invoke/VarHandle" ∧ (parseMethodDescriptor y.desc).map (fun d => d.parameters.length) = some nA) (hn : As.length = nA) (hrm : rm.frames + 1 ≤ RM.frames ∧ 8 + (L + 11) + rm.locals ≤ RM.locals)
    (hst : st = As.reverse ++ rest) (hW : (rest.map fun v => v.category).sum ≤ 8) (d : decode cc pc = .ok (.invokestatic index, 3)) (hb : bc' + rm.cells ≤ bc) (hb2 : bs' + rm.slots ≤ bs)
    (hx : ∀ (E : String) (n' : KN) (α' : KA) (K' : KS), Ext n α n' α' → postX E n' α' K' → postX0 E n' α' K')
    (k : ∀ (r : Int) (n' : KN) (α' : KA) (K' : KS), Ext n α n' α' → post r n' α' K' → Y x n' α' K' bc' bs' (pc + 3) lv ((retV α' rt r).toList ++ rest)) : Y x n α K bc bs pc lv st := by
  obtain ⟨hx1, hcb, hml, hown, hts, -, -, -, hRM, hnL, hl, -⟩ := id hE
  refine y_runX hE hQ hN hX0 (a := As.toArray) (fun H locs cells slots ls hR hS hsz hf => ?_) hb hb2 hx k
  subst hst
  rw [hRM] at hf ⊢
  have hM' : vx_Met x.2.1 y (ws_ y b L r0) rm (kP (yW x) n α K As) (kQ (yW x) n α rt post) (kX (yW x) n α postX) rm.cells rm.slots (kA (yW x)) := by rw [hl]; exact hM
  exact vx_runS ⟨hx1, hcb, hml, hown, hts⟩ hM' (va_cwS nA hts hT rfl rfl rfl hd hrm) ⟨kP_blind, kP_at hE hR hS⟩ rfl hn hsz rfl (lv_room hW) d hf
theorem y_callVX (hE : YE x cc own ret nm nL RM) (hQ : YQX x w n0 α0 rt0 post0 postX0) (hN : YNH x) (hX0 : Ext n0 α0 n α) {kd : Nat} {i : Int} (hM : KMX (yW x) y b L r0 rm rt (.ref (α kd i) :: As) n α K post postX) {C : String} (hT : GoodIn lw_all (wsV own index C y (ws_ y b L r0))) (hd : y.cls = C ∧ y.cls ≠ "java/lang/invoke/MethodHandle" ∧ y.cls ≠ "java/lang/invoke/VarHandle" ∧ (parseMethodDescriptor y.desc).map (fun d => d.parameters.length) = some nA) (hn : As.length = nA) (hrm : rm.frames + 1 ≤ RM.frames ∧ 8 + (L + 11) + rm.locals ≤ RM.locals)
    {ci : Nat} {codes : List (Nat × Nat)} {q : vw_C} (hdd : kD K kd i = .inl (ci, codes)) (hcc : kCl[ci]? = some q) (hq : q.1 = C) (hi : 0 ≤ i ∧ i < n kd)
    (hst : st = As.reverse ++ .ref (α kd i) :: rest) (hW : (rest.map fun v => v.category).sum ≤ 8) (d : decode cc pc = .ok (.invokevirtual index, 3)) (hb : bc' + rm.cells ≤ bc) (hb2 : bs' + rm.slots ≤ bs)
    (hx : ∀ (E : String) (n' : KN) (α' : KA) (K' : KS), Ext n α n' α' → postX E n' α' K' → postX0 E n' α' K')
    (k : ∀ (r : Int) (n' : KN) (α' : KA) (K' : KS), Ext n α n' α' → post r n' α' K' → Y x n' α' K' bc' bs' (pc + 3) lv ((retV α' rt r).toList ++ rest)) : Y x n α K bc bs pc lv st := by
  obtain ⟨hx1, hcb, hml, hown, hts, -, -, -, hRM, hnL, hl, -⟩ := id hE
  refine y_runX hE hQ hN hX0 (a := (Value.ref (α kd i) :: As).toArray) (fun H locs cells slots ls hR hS hsz hf => ?_) hb hb2 hx k
  subst hst
  subst hq
  have hrec := cr_recv hE hR hS hi hdd hcc
  rw [hRM] at hf ⊢
  have hM' : vx_Met x.2.1 y (ws_ y b L r0) rm (kP (yW x) n α K (.ref (α kd i) :: As)) (kQ (yW x) n α rt post) (kX (yW x) n α postX) rm.cells rm.slots (kA (yW x)) := by rw [hl]; exact hM
  exact vx_runV ⟨hx1, hcb, hml, hown, hts⟩ hM' (cwV nA hts hT rfl rfl rfl hd hrm) ⟨kP_blind, hrec, kP_at hE hR hS⟩ rfl hn hsz rfl (lv_room hW) d hf
end Calls
theorem y_iretX (hE : YE x cc own ret nm nL RM) {w : KW} {n0 : KN} {α0 : KA} {r : Int} {post : Int → KN → KA → KS → Prop} {postX : String → KN → KA → KS → Prop} {ty : FieldType} (hr : ret = some ty) (hn : narrow ty (.int (iI r)) = .int (iI r)) (hQ : YQX x w n0 α0 (0, 0) post postX) (d : decode cc pc = .ok (.ireturn, 1)) (hX : Ext n0 α0 n α) (hp : post r n α K) : Y x n α K bc bs pc lv [.int (iI r)] := by
  intro H locs ls cells slots hR hS hl hc hs
  obtain ⟨hQ, rfl⟩ := hQ
  rw [hQ]
  refine vx_ret ?_
  refine W.widen (k := x.2.2.2.1.cells) (n := x.2.2.2.1.slots) (by omega) (by omega) ?_
  exact W.zret (v := iI r) hE.1 hE.2.1 (hE.2.2.2.2.2.1.trans hr) hn (fun t ht hW => ⟨⟨r, n, α, K, rfl, by rw [ht]; exact hR, hX, hp⟩, hS.F ht⟩) hS.2.2 d hE.2.2.2.2.2.2.2.1
theorem y_lretX (hE : YE x cc own ret nm nL RM) {w : KW} {n0 : KN} {α0 : KA} {r : Int} {post : Int → KN → KA → KS → Prop} {postX : String → KN → KA → KS → Prop} (hr : ret = some .long) (hQ : YQX x w n0 α0 (1, 0) post postX) (d : decode cc pc = .ok (.lreturn, 1)) (hX : Ext n0 α0 n α) (hp : post r n α K) : Y x n α K bc bs pc lv [.long (iL r)] := by
  intro H locs ls cells slots hR hS hl hc hs
  obtain ⟨hQ, rfl⟩ := hQ
  rw [hQ]
  refine vx_ret ?_
  refine W.widen (k := x.2.2.2.1.cells) (n := x.2.2.2.1.slots) (by omega) (by omega) ?_
  exact W.lret (v := iL r) hE.1 hE.2.1 (hE.2.2.2.2.2.1.trans hr) (fun t ht hW => ⟨⟨r, n, α, K, rfl, by rw [ht]; exact hR, hX, hp⟩, hS.F ht⟩) hS.2.2 d hE.2.2.2.2.2.2.2.1
theorem y_vretX (hE : YE x cc own ret nm nL RM) {w : KW} {n0 : KN} {α0 : KA} {r : Int} {post : Int → KN → KA → KS → Prop} {postX : String → KN → KA → KS → Prop} (hr : ret = none) (hQ : YQX x w n0 α0 (3, 0) post postX) (d : decode cc pc = .ok (.return_, 1)) (hX : Ext n0 α0 n α) (hp : post r n α K) : Y x n α K bc bs pc lv [] := by
  intro H locs ls cells slots hR hS hl hc hs
  obtain ⟨hQ, rfl⟩ := hQ
  rw [hQ]
  refine vx_ret ?_
  refine W.widen (k := x.2.2.2.1.cells) (n := x.2.2.2.1.slots) (by omega) (by omega) ?_
  exact W.vret hE.1 hE.2.1 (hE.2.2.2.2.2.1.trans hr) (fun t ht hW => ⟨⟨r, n, α, K, rfl, by rw [ht]; exact hR, hX, hp⟩, hS.F ht⟩) hS.2.2 d hE.2.2.2.2.2.2.2.1
theorem y_aretX (hE : YE x cc own ret nm nL RM) {w : KW} {n0 : KN} {α0 : KA} {r : Int} {post : Int → KN → KA → KS → Prop} {postX : String → KN → KA → KS → Prop} {kd : Nat} {rt : FieldType} (hr : ret = some rt) (hrt : (∃ n, rt = .object n) ∨ ∃ t, rt = .array t) (hQ : YQX x w n0 α0 (2, kd) post postX) (d : decode cc pc = .ok (.areturn, 1)) (hX : Ext n0 α0 n α) (hp : post r n α K) : Y x n α K bc bs pc lv [refV α kd r] := by
  intro H locs ls cells slots hR hS hl hc hs
  obtain ⟨hQ, rfl⟩ := hQ
  rw [hQ]
  refine vx_ret ?_
  refine W.widen (k := x.2.2.2.1.cells) (n := x.2.2.2.1.slots) (by omega) (by omega) ?_
  exact W.aret (v := refV α kd r) hE.1 hE.2.1 (hE.2.2.2.2.2.1.trans hr) hrt (va_rf_or _) (fun t ht hW => ⟨⟨r, n, α, K, rfl, by rw [ht]; exact hR, hX, hp⟩, hS.F ht⟩) hS.2.2 d hE.2.2.2.2.2.2.2.1
end KTHROW
