set_option linter.unusedVariables false
/-! ===== calls, arrays, new objects ===== -/
section KCALL
variable {x : YX} {cc : ByteArray} {own nm : String} {ret : Option FieldType} {nL : Nat} {RM : Room} {n : KN} {α : KA} {K : KS} {bc bs pc : Nat} {lv : List (Nat × Value)} {st : List Value}
theorem kP_blind {w : KW} {av : List Value} : FrameBlind (kP w n α K av) := fun _ _ _ _ h => h
theorem kP_at (hE : YE x cc own ret nm nL RM) {H : Heap} {locs : List Loc} (hR : CR (yW x) n α K H) (hS : va_S (kA (yW x)) x.2.2.2.2.1.heap H locs) {av : List Value} : ∀ U : State, U.heap = H → x.2.2.2.2.1.WarmedH U.vm → kP (yW x) n α K av av.toArray U :=
  fun U hU hW => ⟨rfl, hE.2.2.2.2.2.2.2.2.2.2.2.1, kI.vm hE.2.2.2.2.2.2.2.2.2.2.2.2 hW (by rw [hU]; exact hS), by rw [hU]; exact hR⟩
/-- behind any call -/
theorem y_run (hE : YE x cc own ret nm nL RM) {rt : Nat × Nat} {post : Int → KN → KA → KS → Prop} {mc ms : Nat} {rest : List Value} {a : Array Value}
    (hr : ∀ (H : Heap) (locs : List Loc) (cells slots : Nat) (ls : Array Slot), CR (yW x) n α K H → va_S (kA (yW x)) x.2.2.2.2.1.heap H locs → ls.size = nL → cells + mc ≤ x.2.2.2.1.cells ∧ slots + ms ≤ x.2.2.2.1.slots →
      va_Run x.1 x.2.1 x.2.2.1 x.2.2.2.1 x.2.2.2.2.1 x.2.2.2.2.2.1 x.2.2.2.2.2.2.1 x.2.2.2.2.2.2.2.1 x.2.2.2.2.2.2.2.2.1 x.2.2.2.2.2.2.2.2.2.1 H locs cells slots mc ms (F0 x.2.2.2.2.2.1 pc ls st) rest (kQ (yW x) n α rt post a) (kA (yW x)))
    {bc' bs' : Nat} (hb : bc' + mc ≤ bc) (hb2 : bs' + ms ≤ bs)
    (k : ∀ (r : Int) (n' : KN) (α' : KA) (K' : KS), Ext n α n' α' → post r n' α' K' → Y x n' α' K' bc' bs' (pc + 3) lv ((retV α' rt r).toList ++ rest)) : Y x n α K bc bs pc lv st := by
  intro H locs ls cells slots hR hS hl hc hs T hT X
  obtain ⟨v, st₀, t, T', L, h0, X', hL, e1, e2, ⟨⟨r, n', α', K', hv, hcr, hx, hp⟩, hz, hk⟩, stp⟩ := hr H locs cells slots ls hR hS (by rw [hl.1]; exact hE.2.2.2.2.2.2.2.2.2.1) ⟨by omega, by omega⟩ T hT X
  cases hv
  rw [h0] at hz hk
  obtain ⟨t2, a1, b1⟩ := k r n' α' K' hx hp T'.heap (locs ++ L) ls (cells + mc) (slots + ms) (by rw [e1]; exact hcr)
    ⟨Nat.le_trans hS.1 (by rw [e1]; exact hz), fun q h1 h2 => by rw [e1, hk q (Nat.lt_of_lt_of_le h1 hS.1) h2]; exact hS.2.1 q h1 h2, fun q hq => by
      rcases List.mem_append.mp hq with h | h
      · exact hS.2.2 q h
      · exact hL q h⟩ hl (by omega) (by omega) T' rfl X'
  exact ⟨t2, stp t2 a1, b1⟩
section Calls
variable {y : MethodName} {b : ByteArray} {L index nA : Nat} {r0 : Option FieldType} {rm : Room} {rt : Nat × Nat} {As rest : List Value} {post : Int → KN → KA → KS → Prop} {bc' bs' : Nat}
theorem y_callS (hE : YE x cc own ret nm nL RM) (hM : KM (yW x) y b L r0 rm rt As n α K post) (hT : GoodIn lw_all (va_wsS own index y (ws_ y b L r0))) (hd : y.cls ≠ "java/lang/invoke/MethodHandle" ∧ y.cls ≠ "java/lang/invoke/VarHandle" ∧ (parseMethodDescriptor y.desc).map (fun d => d.parameters.length) = some nA) (hn : As.length = nA) (hrm : rm.frames + 1 ≤ RM.frames ∧ 8 + (L + 11) + rm.locals ≤ RM.locals)
    (hst : st = As.reverse ++ rest) (hW : (rest.map fun v => v.category).sum ≤ 8) (d : decode cc pc = .ok (.invokestatic index, 3)) (hb : bc' + rm.cells ≤ bc) (hb2 : bs' + rm.slots ≤ bs)
    (k : ∀ (r : Int) (n' : KN) (α' : KA) (K' : KS), Ext n α n' α' → post r n' α' K' → Y x n' α' K' bc' bs' (pc + 3) lv ((retV α' rt r).toList ++ rest)) : Y x n α K bc bs pc lv st := by
  obtain ⟨hx, hcb, hml, hown, hts, -, -, -, hRM, hnL, hl, -⟩ := id hE
  refine y_run hE (a := As.toArray) (fun H locs cells slots ls hR hS hsz hf => ?_) hb hb2 k
  subst hst
  rw [hRM] at hf ⊢
  have hM' : Met x.2.1 y (ws_ y b L r0) rm (kP (yW x) n α K As) (kQ (yW x) n α rt post) rm.cells rm.slots (kA (yW x)) := by rw [hl]; exact hM
  exact va_runS ⟨hx, hcb, hml, hown, hts⟩ hM' (va_cwS nA hts hT rfl rfl rfl hd hrm) ⟨kP_blind, kP_at hE hR hS⟩ rfl hn hsz rfl (lv_room hW) d hf
theorem y_callSN (hE : YE x cc own ret nm nL RM) (hM : KM (yW x) y b L r0 rm rt As n α K post) {host : String} (hl1 : Cond.methodLinkNest own index y host ∈ lw_tbl) (hst1 : Cond.static y ∈ lw_all) (hi1 : Cond.initialized y.cls ∈ lw_all) (hc1 : Cond.code y b L r0 ∈ lw_all) (hd : y.cls ≠ "java/lang/invoke/MethodHandle" ∧ y.cls ≠ "java/lang/invoke/VarHandle" ∧ (parseMethodDescriptor y.desc).map (fun d => d.parameters.length) = some nA) (hn : As.length = nA) (hrm : rm.frames + 1 ≤ RM.frames ∧ 8 + (L + 11) + rm.locals ≤ RM.locals)
    (hst : st = As.reverse ++ rest) (hW : (rest.map fun v => v.category).sum ≤ 8) (d : decode cc pc = .ok (.invokestatic index, 3)) (hb : bc' + rm.cells ≤ bc) (hb2 : bs' + rm.slots ≤ bs)
    (k : ∀ (r : Int) (n' : KN) (α' : KA) (K' : KS), Ext n α n' α' → post r n' α' K' → Y x n' α' K' bc' bs' (pc + 3) lv ((retV α' rt r).toList ++ rest)) : Y x n α K bc bs pc lv st := by
  obtain ⟨hx, hcb, hml, hown, hts, -, -, -, hRM, hnL, hl, -⟩ := id hE
  refine y_run hE (a := As.toArray) (fun H locs cells slots ls hR hS hsz hf => ?_) hb hb2 k
  subst hst
  rw [hRM] at hf ⊢
  have hM' : Met x.2.1 y (ws_ y b L r0) rm (kP (yW x) n α K As) (kQ (yW x) n α rt post) rm.cells rm.slots (kA (yW x)) := by rw [hl]; exact hM
  exact va_runSN ⟨hx, hcb, hml, hown, hts⟩ hM' ⟨va_cnB nA hts (lw_meth hc1) rfl rfl rfl (y_nwM hE hl1) (hts _ hi1) hd hrm, hts _ hst1, trivial⟩ ⟨kP_blind, kP_at hE hR hS⟩ rfl hn hsz rfl (lv_room hW) d hf
theorem y_callV (hE : YE x cc own ret nm nL RM) {kd : Nat} {i : Int} (hM : KM (yW x) y b L r0 rm rt (.ref (α kd i) :: As) n α K post) {C : String} (hT : GoodIn lw_all (wsV own index C y (ws_ y b L r0))) (hd : y.cls = C ∧ y.cls ≠ "java/lang/invoke/MethodHandle" ∧ y.cls ≠ "java/lang/invoke/VarHandle" ∧ (parseMethodDescriptor y.desc).map (fun d => d.parameters.length) = some nA) (hn : As.length = nA) (hrm : rm.frames + 1 ≤ RM.frames ∧ 8 + (L + 11) + rm.locals ≤ RM.locals)
    {ci : Nat} {codes : List (Nat × Nat)} {q : vw_C} (hdd : kD K kd i = .inl (ci, codes)) (hcc : kCl[ci]? = some q) (hq : q.1 = C) (hi : 0 ≤ i ∧ i < n kd)
    (hst : st = As.reverse ++ .ref (α kd i) :: rest) (hW : (rest.map fun v => v.category).sum ≤ 8) (d : decode cc pc = .ok (.invokevirtual index, 3)) (hb : bc' + rm.cells ≤ bc) (hb2 : bs' + rm.slots ≤ bs)
    (k : ∀ (r : Int) (n' : KN) (α' : KA) (K' : KS), Ext n α n' α' → post r n' α' K' → Y x n' α' K' bc' bs' (pc + 3) lv ((retV α' rt r).toList ++ rest)) : Y x n α K bc bs pc lv st := by
  obtain ⟨hx, hcb, hml, hown, hts, -, -, -, hRM, hnL, hl, -⟩ := id hE
  refine y_run hE (a := (Value.ref (α kd i) :: As).toArray) (fun H locs cells slots ls hR hS hsz hf => ?_) hb hb2 k
  subst hst
  subst hq
  have hrec := cr_recv hE hR hS hi hdd hcc
  rw [hRM] at hf ⊢
  have hM' : Met x.2.1 y (ws_ y b L r0) rm (kP (yW x) n α K (.ref (α kd i) :: As)) (kQ (yW x) n α rt post) rm.cells rm.slots (kA (yW x)) := by rw [hl]; exact hM
  exact va_runV ⟨hx, hcb, hml, hown, hts⟩ hM' (cwV nA hts hT rfl rfl rfl hd hrm) ⟨kP_blind, hrec, kP_at hE hR hS⟩ rfl hn hsz rfl (lv_room hW) d hf
theorem y_callVN (hE : YE x cc own ret nm nL RM) {kd : Nat} {i : Int} (hM : KM (yW x) y b L r0 rm rt (.ref (α kd i) :: As) n α K post) {C host : String} (hl1 : Cond.methodLinkNest own index y host ∈ lw_tbl) (hin1 : Cond.instanceMethod y ∈ lw_all) (hse1 : Cond.selects C y y ∈ lw_all) (hi1 : Cond.initialized y.cls ∈ lw_all) (hc1 : Cond.code y b L r0 ∈ lw_all) (hd : y.cls ≠ "java/lang/invoke/MethodHandle" ∧ y.cls ≠ "java/lang/invoke/VarHandle" ∧ (parseMethodDescriptor y.desc).map (fun d => d.parameters.length) = some nA) (hn : As.length = nA) (hrm : rm.frames + 1 ≤ RM.frames ∧ 8 + (L + 11) + rm.locals ≤ RM.locals)
    {ci : Nat} {codes : List (Nat × Nat)} {q : vw_C} (hdd : kD K kd i = .inl (ci, codes)) (hcc : kCl[ci]? = some q) (hq : q.1 = C) (hi : 0 ≤ i ∧ i < n kd)
    (hst : st = As.reverse ++ .ref (α kd i) :: rest) (hW : (rest.map fun v => v.category).sum ≤ 8) (d : decode cc pc = .ok (.invokevirtual index, 3)) (hb : bc' + rm.cells ≤ bc) (hb2 : bs' + rm.slots ≤ bs)
    (k : ∀ (r : Int) (n' : KN) (α' : KA) (K' : KS), Ext n α n' α' → post r n' α' K' → Y x n' α' K' bc' bs' (pc + 3) lv ((retV α' rt r).toList ++ rest)) : Y x n α K bc bs pc lv st := by
  obtain ⟨hx, hcb, hml, hown, hts, -, -, -, hRM, hnL, hl, -⟩ := id hE
  refine y_run hE (a := (Value.ref (α kd i) :: As).toArray) (fun H locs cells slots ls hR hS hsz hf => ?_) hb hb2 k
  subst hst
  subst hq
  have hrec := cr_recv hE hR hS hi hdd hcc
  rw [hRM] at hf ⊢
  have hM' : Met x.2.1 y (ws_ y b L r0) rm (kP (yW x) n α K (.ref (α kd i) :: As)) (kQ (yW x) n α rt post) rm.cells rm.slots (kA (yW x)) := by rw [hl]; exact hM
  exact va_runVN ⟨hx, hcb, hml, hown, hts⟩ hM' ⟨va_cnB nA hts (lw_meth hc1) rfl rfl rfl (y_nwM hE hl1) (hts _ hi1) hd hrm, hts _ hin1, hts _ hse1⟩ ⟨kP_blind, hrec, kP_at hE hR hS⟩ rfl hn hsz rfl (lv_room hW) d hf
theorem y_callI (hE : YE x cc own ret nm nL RM) {a : Nat} (hM : KM (yW x) y b L none rm rt (.ref a :: As) n α K post) (hc1 : Cond.code y b L none ∈ lw_all) (hi1 : Cond.initialized y.cls ∈ lw_all) (hl1 : Cond.methodLink own index y ∈ lw_all) (hin1 : Cond.instanceMethod y ∈ lw_all) (hy1 : y.name = "<init>") (hd : y.cls ≠ "java/lang/invoke/MethodHandle" ∧ y.cls ≠ "java/lang/invoke/VarHandle" ∧ (parseMethodDescriptor y.desc).map (fun d => d.parameters.length) = some nA) (hn : As.length = nA) (hrm : rm.frames + 1 ≤ RM.frames ∧ 8 + (L + 11) + rm.locals ≤ RM.locals)
    (hst : st = As.reverse ++ .ref a :: rest) (hW : (rest.map fun v => v.category).sum ≤ 8) (d : decode cc pc = .ok (.invokespecial index, 3)) (hb : bc' + rm.cells ≤ bc) (hb2 : bs' + rm.slots ≤ bs)
    (k : ∀ (r : Int) (n' : KN) (α' : KA) (K' : KS), Ext n α n' α' → post r n' α' K' → Y x n' α' K' bc' bs' (pc + 3) lv ((retV α' rt r).toList ++ rest)) : Y x n α K bc bs pc lv st := by
  obtain ⟨hx, hcb, hml, hown, hts, -, -, -, hRM, hnL, hl, -⟩ := id hE
  refine y_run hE (a := (Value.ref a :: As).toArray) (fun H locs cells slots ls hR hS hsz hf => ?_) hb hb2 k
  subst hst
  rw [hRM] at hf ⊢
  have hM' : Met x.2.1 y (ws_ y b L none) rm (kP (yW x) n α K (.ref a :: As)) (kQ (yW x) n α rt post) rm.cells rm.slots (kA (yW x)) := by rw [hl]; exact hM
  exact va_runI ⟨hx, hcb, hml, hown, hts⟩ hM' (cwI nA hts (lw_meth hc1) rfl rfl rfl (hts _ hi1) (hts _ hl1) (hts _ hin1) hy1 hd hrm) ⟨kP_blind, kP_at hE hR hS⟩ rfl hn hsz rfl (lv_room hW) d hf
theorem y_callIN (hE : YE x cc own ret nm nL RM) {a : Nat} (hM : KM (yW x) y b L none rm rt (.ref a :: As) n α K post) {host : String} (hc1 : Cond.code y b L none ∈ lw_all) (hi1 : Cond.initialized y.cls ∈ lw_all) (hl1 : Cond.methodLinkNest own index y host ∈ lw_tbl) (hin1 : Cond.instanceMethod y ∈ lw_all) (hy1 : y.name = "<init>") (hd : y.cls ≠ "java/lang/invoke/MethodHandle" ∧ y.cls ≠ "java/lang/invoke/VarHandle" ∧ (parseMethodDescriptor y.desc).map (fun d => d.parameters.length) = some nA) (hn : As.length = nA) (hrm : rm.frames + 1 ≤ RM.frames ∧ 8 + (L + 11) + rm.locals ≤ RM.locals)
    (hst : st = As.reverse ++ .ref a :: rest) (hW : (rest.map fun v => v.category).sum ≤ 8) (d : decode cc pc = .ok (.invokespecial index, 3)) (hb : bc' + rm.cells ≤ bc) (hb2 : bs' + rm.slots ≤ bs)
    (k : ∀ (r : Int) (n' : KN) (α' : KA) (K' : KS), Ext n α n' α' → post r n' α' K' → Y x n' α' K' bc' bs' (pc + 3) lv ((retV α' rt r).toList ++ rest)) : Y x n α K bc bs pc lv st := by
  obtain ⟨hx, hcb, hml, hown, hts, -, -, -, hRM, hnL, hl, -⟩ := id hE
  refine y_run hE (a := (Value.ref a :: As).toArray) (fun H locs cells slots ls hR hS hsz hf => ?_) hb hb2 k
  subst hst
  rw [hRM] at hf ⊢
  have hM' : Met x.2.1 y (ws_ y b L none) rm (kP (yW x) n α K (.ref a :: As)) (kQ (yW x) n α rt post) rm.cells rm.slots (kA (yW x)) := by rw [hl]; exact hM
  exact va_runIN ⟨hx, hcb, hml, hown, hts⟩ hM' ⟨va_cnB nA hts (lw_meth hc1) rfl rfl rfl (y_nwM hE hl1) (hts _ hi1) hd hrm, hy1, hts _ hin1⟩ ⟨kP_blind, kP_at hE hR hS⟩ rfl hn hsz rfl (lv_room hW) d hf
/-- a call of what the receiver's class inherits or overrides -/
theorem y_callU (hE : YE x cc own ret nm nL RM) {yx : MethodName} {kd : Nat} {i : Int} (hM : KM (yW x) y b L r0 rm rt (.ref (α kd i) :: As) n α K post) {C owner : String} (hT : GoodIn lw_all (va_wsU own index C owner yx y (ws_ y b L r0))) (hy : y = ⟨owner, yx.name, yx.desc⟩) (hd : owner ≠ "java/lang/invoke/MethodHandle" ∧ owner ≠ "java/lang/invoke/VarHandle" ∧ (parseMethodDescriptor yx.desc).map (fun d => d.parameters.length) = some nA) (hn : As.length = nA) (hrm : rm.frames + 1 ≤ RM.frames ∧ 8 + (L + 11) + rm.locals ≤ RM.locals)
    {ci : Nat} {codes : List (Nat × Nat)} {q : vw_C} (hdd : kD K kd i = .inl (ci, codes)) (hcc : kCl[ci]? = some q) (hq : q.1 = C) (hi : 0 ≤ i ∧ i < n kd)
    (hst : st = As.reverse ++ .ref (α kd i) :: rest) (hW : (rest.map fun v => v.category).sum ≤ 8) (d : decode cc pc = .ok (.invokevirtual index, 3)) (hb : bc' + rm.cells ≤ bc) (hb2 : bs' + rm.slots ≤ bs)
    (k : ∀ (r : Int) (n' : KN) (α' : KA) (K' : KS), Ext n α n' α' → post r n' α' K' → Y x n' α' K' bc' bs' (pc + 3) lv ((retV α' rt r).toList ++ rest)) : Y x n α K bc bs pc lv st := by
  obtain ⟨hx, hcb, hml, hown, hts, -, -, -, hRM, hnL, hl, -⟩ := id hE
  refine y_run hE (a := (Value.ref (α kd i) :: As).toArray) (fun H locs cells slots ls hR hS hsz hf => ?_) hb hb2 k
  subst hst
  subst hq
  have hrec := cr_recv hE hR hS hi hdd hcc
  rw [hRM] at hf ⊢
  have hM' : Met x.2.1 y (ws_ y b L r0) rm (kP (yW x) n α K (.ref (α kd i) :: As)) (kQ (yW x) n α rt post) rm.cells rm.slots (kA (yW x)) := by rw [hl]; exact hM
  exact va_runU ⟨hx, hcb, hml, hown, hts⟩ hM' (va_cwU nA hts hT rfl rfl rfl hy hd hrm) ⟨kP_blind, hrec, kP_at hE hR hS⟩ rfl hn hsz rfl (lv_room hW) d hf
end Calls
end KCALL
