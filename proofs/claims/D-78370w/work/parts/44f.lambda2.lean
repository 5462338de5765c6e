set_option linter.unusedVariables false
section WENTER
variable {p : Program} {l : Launch} {e : Env} {R R' : Room} {s : State} {m : MethodId} {args : Array Value} {below : List Frame} {meth : Method} {c : Code} {T : State} {locs : List Loc} {cells slots : Nat}
/-- a method that writes and makes nothing is entered, walked, left -/
theorem w_enter (X : Stand p l e R s m args below meth c T locs cells slots) {g : JFrame} (hg : g.method = m) (hsize : g.locals.size = c.maxLocals) {ig : Instr} {len : Nat} (hdg : decode c.code g.pc = .ok (ig, len))
    {mk : MethodId} {methk : Method} {ck : Code} {a : Array Value} (hmk : T.vm.method? mk = some methk) (hck : methk.code = some ck) (hlk : methk.locks = false) (hpk : T.plainMethod mk)
    (hframes : R'.frames + 1 ≤ R.frames) (hlocals : 2 * g.monitorRoom + (g.stack.map fun v => v.category).sum + (ck.maxLocals + 11) + R'.locals ≤ R.locals) (hcells : cells + R'.cells ≤ R.cells) (hslots : slots + R'.slots ≤ R.slots) {v : Value}
    (body : W p l e R' (T.calling g mk a) mk a (.java g :: below) methk ck T.heap [] 0 0 (MQ (.java g :: below) (fun _ st o t => o = .returned (some v) ∧ t.heap = st.heap) a (T.calling g mk a) 0 0 (fun _ => False)) (entryFrame mk a ck.maxLocals)) :
    ∃ T' : State, Stand p l e R s m args below meth c T' locs cells slots ∧ T'.heap = T.heap ∧ T.WarmedH T'.vm ∧
      ∀ acts, Steps p.tables e below (doInvoke e (T.setTop g) acts mk a).1 (T'.setTop { g with pc := g.pc + len, stack := v :: g.stack }) := by
  obtain ⟨Y₀, hin⟩ := X.into hg hsize hdg a (R' := R') hmk hck hlk hpk hframes hlocals hcells hslots
  obtain ⟨t, hst, o, hrun, hend, ⟨rfl, hheap⟩, L, hF, hL⟩ := body ((T.setTop g).pushFrame (.java (entryFrame mk a ck.maxLocals))) rfl Y₀
  have hL0 : L = [] := by
    cases L with
    | nil => rfl
    | cons q L => exact (hL q List.mem_cons_self).elim
  subst hL0
  obtain ⟨T', X', hW', -, ht⟩ := X.outOf hg hdg hend hF.2.1 hF.2.2
  refine ⟨T', by simpa using X', ?_, hW', fun acts => ?_⟩
  · have h1 : t.heap = T'.heap := by rw [ht]; rfl
    rw [← h1, hheap]
    rfl
  · rw [hin acts]
    have h2 : t = T'.setTop { g with pc := g.pc + len, stack := v :: g.stack } := ht
    rw [← h2]
    exact Steps.weaken (mid := [.java g]) hst
/-- getfield of a made class -/
theorem w_getR {H : Heap} {Q : State → Prop} {cc : ByteArray} (hexec : p.tables.exec = Jvm.exec) (hb : c.code = cc) {f1 : Field} {a : Nat} {cell : Cell} {v : Value} {index : Nat} (hf : ∀ T : State, s.WarmedH T.vm → T.vm.fieldReady m.cls index m.cls f1) (hst : f1.isStatic = false)
    (hcell : H[a]? = some cell) (hknown : cell.vm ≠ .unknown) (hslot : cell.slots[f1.slot]? = some v) {pc : Nat} {ls : Array Slot} {rest : List Value} (hdg : decode cc pc = .ok (.getfield index, 3))
    (kk : W p l e R s m args below meth c H locs cells slots Q (F0 m (pc + 3) ls (v :: rest))) : W p l e R s m args below meth c H locs cells slots Q (F0 m pc ls (.ref a :: rest)) := by
  intro T hT X
  obtain ⟨t, a1, b1⟩ := kk T hT X
  refine ⟨t, ?_, b1⟩
  jvm_step X.here [hexec, hb, hdg, getfield.wp_ready (e := e) (s := T) (c := m.cls) (field := f1) (a := a) (rest := rest) (cell := cell) (v := v) (f := F0 m pc ls (.ref a :: rest)) X.here.top (hf T X.warmed) hst rfl (by rw [hT]; exact hcell) hknown hslot]
  exact a1
end WENTER
/-- the bodies of the four -/
def lmY9 : Nat → MethodName
  | 0 => yX1_lambda_testFor_0
  | 1 => yX1_lambda_testFor_1
  | 2 => yX1_lambda_testFor_2
  | _ => yX1_lambda_testFor_3
def lmC9 : Nat → ByteArray
  | 0 => cX1_lambda_testFor_0
  | 1 => cX1_lambda_testFor_1
  | 2 => cX1_lambda_testFor_2
  | _ => cX1_lambda_testFor_3
theorem lm_w9 {o : Nat} (h : o < 4) : Cond.code (lmY9 o) (lmC9 o) 2 (some .boolean) ∈ lw_all ∧ Cond.static (lmY9 o) ∈ lw_all := lm_4 (p := fun o => Cond.code (lmY9 o) (lmC9 o) 2 (some .boolean) ∈ lw_all ∧ Cond.static (lmY9 o) ∈ lw_all) ⟨q1871, q1870⟩ ⟨q1873, q1872⟩ ⟨q1875, q1874⟩ ⟨q1877, q1876⟩ h
theorem lm_y9 {o : Nat} (h : o < 4) : lmY9 o = ⟨"AnimationController", lmNm o, "(II)Z"⟩ := lm_4 (p := fun o => lmY9 o = ⟨"AnimationController", lmNm o, "(II)Z"⟩) rfl rfl rfl rfl h
section WBODY
variable {p : Program} {l : Launch} {e : Env} {R : Room} {s : State} {m : MethodId} {args : Array Value} {below : List Frame} {meth : Method} {c : Code} {H : Heap}
theorem lm_end {cc : ByteArray} (hexec : p.tables.exec = Jvm.exec) (hb : c.code = cc) (hr : meth.sig.returnType = some .boolean) (hlk : meth.locks = false) (hs : H = s.heap) {ls : Array Slot} {pc : Nat} {r : Int} (h01 : r = 0 ∨ r = 1) (d : decode cc pc = .ok (.ireturn, 1)) :
    W p l e R s m args below meth c H [] 0 0 (MQ below (fun _ st o t => o = .returned (some (.int (iI r))) ∧ t.heap = st.heap) args s 0 0 (fun _ => False)) (F0 m pc ls [.int (iI r)]) :=
  W.zret (v := iI r) hexec hb hr (nar_b h01).1 (fun t ht _ => ⟨rfl, by rw [ht, hs]⟩) (fun q hq => by cases hq) d hlk
theorem lm_b {o : Nat} (ho : o < 4) (hexec : p.tables.exec = Jvm.exec) (hb : c.code = lmC9 o) (hr : meth.sig.returnType = some .boolean) (hlk : meth.locks = false) (hs : H = s.heap) {ls : Array Slot} {v w : Int} (hv : -2147483648 ≤ v ∧ v ≤ 2147483647) (hw : -2147483648 ≤ w ∧ w ≤ 2147483647) (h0 : ls[0]? = some (.val (.int (iI w)))) (h1 : ls[1]? = some (.val (.int (iI v)))) :
    W p l e R s m args below meth c H [] 0 0 (MQ below (fun _ st o9 t => o9 = .returned (some (.int (iI (tsI o v w)))) ∧ t.heap = st.heap) args s 0 0 (fun _ => False)) (F0 m 0 ls []) := by
  have fin : ∀ {cc : ByteArray} {pc : Nat} {r : Int}, c.code = cc → (r = 0 ∨ r = 1) → r = tsI o v w → decode cc pc = .ok (.ireturn, 1) → W p l e R s m args below meth c H [] 0 0 (MQ below (fun _ st o9 t => o9 = .returned (some (.int (iI (tsI o v w)))) ∧ t.heap = st.heap) args s 0 0 (fun _ => False)) (F0 m pc ls [.int (iI r)]) := by
    intro cc pc r hb h01 hre d
    subst hre
    exact lm_end hexec hb hr hlk hs h01 d
  rcases (by omega : o = 0 ∨ o = 1 ∨ o = 2 ∨ o = 3) with rfl | rfl | rfl | rfl
  · refine lv_iload_n hexec hb dX1_lambda_testFor_0_0 rfl h1 (lv_iload_n hexec hb dX1_lambda_testFor_0_1 rfl h0 (lv_icmp_le hexec hb dX1_lambda_testFor_0_2 (tgt := 9) (by decide) (fun h => ?_) (fun h => ?_)))
    · exact lv_iconst hexec hb dX1_lambda_testFor_0_9 (v := iI 0) rfl (fin hb (Or.inl rfl) (by have := (iI_le hv hw).mp h; unfold tsI; rw [if_pos (by decide), if_neg (by omega)]) dX1_lambda_testFor_0_10)
    · exact lv_iconst hexec hb dX1_lambda_testFor_0_5 (v := iI 1) rfl (lv_goto hexec hb dX1_lambda_testFor_0_6 (tgt := 10) (by decide) (fin hb (Or.inr rfl) (by have := mt (iI_le hv hw).mpr h; unfold tsI; rw [if_pos (by decide), if_pos (by omega)]) dX1_lambda_testFor_0_10))
  · refine lv_iload_n hexec hb dX1_lambda_testFor_1_0 rfl h1 (lv_iload_n hexec hb dX1_lambda_testFor_1_1 rfl h0 (lv_icmp_ge hexec hb dX1_lambda_testFor_1_2 (tgt := 9) (by decide) (fun h => ?_) (fun h => ?_)))
    · exact lv_iconst hexec hb dX1_lambda_testFor_1_9 (v := iI 0) rfl (fin hb (Or.inl rfl) (by have := (iI_le hw hv).mp h; unfold tsI; rw [if_neg (by decide), if_pos (by decide), if_neg (by omega)]) dX1_lambda_testFor_1_10)
    · exact lv_iconst hexec hb dX1_lambda_testFor_1_5 (v := iI 1) rfl (lv_goto hexec hb dX1_lambda_testFor_1_6 (tgt := 10) (by decide) (fin hb (Or.inr rfl) (by have := mt (iI_le hw hv).mpr h; unfold tsI; rw [if_neg (by decide), if_pos (by decide), if_pos (by omega)]) dX1_lambda_testFor_1_10))
  · refine lv_iload_n hexec hb dX1_lambda_testFor_2_0 rfl h1 (lv_iload_n hexec hb dX1_lambda_testFor_2_1 rfl h0 (lv_icmp_ne hexec hb dX1_lambda_testFor_2_2 (tgt := 9) (by decide) (fun h => ?_) (fun h => ?_)))
    · exact lv_iconst hexec hb dX1_lambda_testFor_2_9 (v := iI 0) rfl (fin hb (Or.inl rfl) (by have := mt (iI_eq hv hw).mpr h; unfold tsI; rw [if_neg (by decide), if_neg (by decide), if_pos (by decide), if_neg this]) dX1_lambda_testFor_2_10)
    · exact lv_iconst hexec hb dX1_lambda_testFor_2_5 (v := iI 1) rfl (lv_goto hexec hb dX1_lambda_testFor_2_6 (tgt := 10) (by decide) (fin hb (Or.inr rfl) (by have : v = w := (iI_eq hv hw).mp (by first | exact h | exact Classical.not_not.mp h); unfold tsI; rw [if_neg (by decide), if_neg (by decide), if_pos (by decide), if_pos this]) dX1_lambda_testFor_2_10))
  · refine lv_iload_n hexec hb dX1_lambda_testFor_3_0 rfl h1 (lv_iload_n hexec hb dX1_lambda_testFor_3_1 rfl h0 (lv_icmp_eq hexec hb dX1_lambda_testFor_3_2 (tgt := 9) (by decide) (fun h => ?_) (fun h => ?_)))
    · exact lv_iconst hexec hb dX1_lambda_testFor_3_9 (v := iI 0) rfl (fin hb (Or.inl rfl) (by have : v = w := (iI_eq hv hw).mp h; unfold tsI; rw [if_neg (by decide), if_neg (by decide), if_neg (by decide), if_neg (fun z => z this)]) dX1_lambda_testFor_3_10)
    · exact lv_iconst hexec hb dX1_lambda_testFor_3_5 (v := iI 1) rfl (lv_goto hexec hb dX1_lambda_testFor_3_6 (tgt := 10) (by decide) (fin hb (Or.inr rfl) (by have := mt (iI_eq hv hw).mpr h; unfold tsI; rw [if_neg (by decide), if_neg (by decide), if_neg (by decide), if_pos this]) dX1_lambda_testFor_3_10))
end WBODY
