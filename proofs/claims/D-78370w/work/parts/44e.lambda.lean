set_option linter.unusedVariables false
/-! ===== the lambdas ===== -/
/-- what a test answers: the operator, the value, what it's compared with -/
def tsI (op v w : Int) : Int := if op = 0 then (if v > w then 1 else 0) else if op = 1 then (if v < w then 1 else 0) else if op = 2 then (if v = w then 1 else 0) else (if v ≠ w then 1 else 0)
theorem tsI_01 (op v w : Int) : tsI op v w = 0 ∨ tsI op v w = 1 := by unfold tsI; (repeat' split) <;> omega
def lmD (o : Nat) : ClassFile := ((lmSh o).file "AnimationController").getD { minorVersion := 0, majorVersion := 0, constantPool := #[], accessFlags := 0, thisClass := 0, superClass := 0, interfaces := #[], fields := #[], methods := #[], attributes := #[] }
def lmF (o : Nat) : Method := ((layoutMethods (lmD o)).bind (fun ms => ms[1]?)).getD default
def lmY (o : Nat) : Array Field × Array FieldType × Array FieldType := (layoutFields (lmD o) 0).getD (#[], #[], #[])
def lmCo : ByteArray := ⟨#[0x2a, 0xb4, 0x00, 0x0f, 0x1b, 0xb8, 0x00, 0x17, 0xac]⟩
theorem lm_d0 : decode lmCo 0 = .ok (.aload_n 0, 1) := by decide +kernel
theorem lm_d1 : decode lmCo 1 = .ok (.getfield 15, 3) := by decide +kernel
theorem lm_d4 : decode lmCo 4 = .ok (.iload_n 1, 1) := by decide +kernel
theorem lm_d5 : decode lmCo 5 = .ok (.invokestatic 23, 3) := by decide +kernel
theorem lm_d8 : decode lmCo 8 = .ok (.ireturn, 1) := by decide +kernel
theorem lm_4 {p : Nat → Prop} (h0 : p 0) (h1 : p 1) (h2 : p 2) (h3 : p 3) {o : Nat} (h : o < 4) : p o := by
  rcases (by omega : o = 0 ∨ o = 1 ∨ o = 2 ∨ o = 3) with rfl | rfl | rfl | rfl <;> assumption
theorem lm_file {o : Nat} (h : o < 4) : (lmSh o).file "AnimationController" = some (lmD o) := by
  have h1 : ((lmSh o).file "AnimationController").isSome = true := lm_4 (p := fun o => ((lmSh o).file "AnimationController").isSome = true) (by decide +kernel) (by decide +kernel) (by decide +kernel) (by decide +kernel) h
  obtain ⟨x, hx⟩ := Option.isSome_iff_exists.mp h1
  simp [lmD, hx]
theorem lm_second {o : Nat} (h : o < 4) : ∀ ms, layoutMethods (lmD o) = some ms → ms[1]? = some (lmF o) := by
  intro ms hms
  have h1 : ((layoutMethods (lmD o)).bind (fun ms => ms[1]?)).isSome = true := lm_4 (p := fun o => ((layoutMethods (lmD o)).bind (fun ms => ms[1]?)).isSome = true) (by decide +kernel) (by decide +kernel) (by decide +kernel) (by decide +kernel) h
  obtain ⟨x, hx⟩ := Option.isSome_iff_exists.mp h1
  have hf : lmF o = x := by simp [lmF, hx]
  rw [hms] at hx
  rw [hf]
  exact hx
theorem lm_laid {o : Nat} (h : o < 4) : layoutFields (lmD o) 0 = some (lmY o) := by
  have h1 : (layoutFields (lmD o) 0).isSome = true := lm_4 (p := fun o => (layoutFields (lmD o) 0).isSome = true) (by decide +kernel) (by decide +kernel) (by decide +kernel) (by decide +kernel) h
  obtain ⟨x, hx⟩ := Option.isSome_iff_exists.mp h1
  simp [lmY, hx]
theorem lm_code {o : Nat} (h : o < 4) : ((lmF o).code.map fun c => (c.code.data, c.maxLocals)) = some (lmCo.data, 2) := lm_4 (p := fun o => ((lmF o).code.map fun c => (c.code.data, c.maxLocals)) = some (lmCo.data, 2)) (by decide +kernel) (by decide +kernel) (by decide +kernel) (by decide +kernel) h
theorem lm_flags {o : Nat} (h : o < 4) : ((lmF o).accessFlags, (lmF o).sig.returnType) = (0x0001, some FieldType.boolean) := lm_4 (p := fun o => ((lmF o).accessFlags, (lmF o).sig.returnType) = (0x0001, some FieldType.boolean)) (by decide +kernel) (by decide +kernel) (by decide +kernel) (by decide +kernel) h
theorem lm_eM {o : Nat} (h : o < 4) : (lmD o).constantPool[23]? = some (.methodref 19 22) ∧ (lmD o).constantPool.className? 19 = some "AnimationController" ∧ (lmD o).constantPool.nameAndType? 22 = some (lmNm o, "(II)Z") := lm_4 (p := fun o => (lmD o).constantPool[23]? = some (.methodref 19 22) ∧ (lmD o).constantPool.className? 19 = some "AnimationController" ∧ (lmD o).constantPool.nameAndType? 22 = some (lmNm o, "(II)Z")) (by decide +kernel) (by decide +kernel) (by decide +kernel) (by decide +kernel) h
theorem lm_eC {o : Nat} (h : o < 4) : (lmD o).constantPool[19]? = some (.class_ 18) ∧ (lmD o).constantPool.string? 18 = some "AnimationController" ∧ 19 ≠ (lmD o).thisClass := lm_4 (p := fun o => (lmD o).constantPool[19]? = some (.class_ 18) ∧ (lmD o).constantPool.string? 18 = some "AnimationController" ∧ 19 ≠ (lmD o).thisClass) (by decide +kernel) (by decide +kernel) (by decide +kernel) (by decide +kernel) h
theorem lm_eF {o : Nat} (h : o < 4) : (lmD o).constantPool[15]? = some (.fieldref 2 14) ∧ (lmD o).constantPool.nameAndType? 14 = some ("arg$1", "I") ∧ (lmY o).1.findIdx? (fun f => f.name == "arg$1") = some 0 ∧ ((lmY o).1[0]?).map (fun f => (f.isStatic, f.slot)) = some (false, 0) ∧ (lmY o).2.1 = #[FieldType.int] := lm_4 (p := fun o => (lmD o).constantPool[15]? = some (.fieldref 2 14) ∧ (lmD o).constantPool.nameAndType? 14 = some ("arg$1", "I") ∧ (lmY o).1.findIdx? (fun f => f.name == "arg$1") = some 0 ∧ ((lmY o).1[0]?).map (fun f => (f.isStatic, f.slot)) = some (false, 0) ∧ (lmY o).2.1 = #[FieldType.int]) (by decide +kernel) (by decide +kernel) (by decide +kernel) (by decide +kernel) h
/-- what a made class is -/
theorem lm_made {vm : Vm} {d c : ClassId} {dk : Class} {o : Nat} (ho : o < 4) (hd : vm.classes[d]? = some dk) (hname : dk.name = "AnimationController") (h : Lambda.isMade { classPath := fun _ => none } vm d (lmSh o) c = true)
    (hO : ∀ q ok, vm.findClass "java/lang/Object" = some q → vm.classes[q]? = some ok → ok.instanceTypes.size = 0) :
    ∃ (k tk : Class) (file : ClassFile) (methk : Method) (ck : Code) (toy : ClassId) (t : MethodId) (found : MethodId) (iface : ClassId), vm.classes[c]? = some k ∧ k.name = "AnimationController$$Lambda" ∧ k.cf = some file ∧ file.constantPool = (lmD o).constantPool ∧
      (vm.method? ⟨c, 1⟩ = some methk ∧ methk.code = some ck ∧ ck.code = lmCo ∧ ck.maxLocals = 2 ∧ methk.locks = false ∧ methk.accessFlags = 0x0001 ∧ methk.sig.returnType = some .boolean) ∧
      (vm.findClass "AnimationController" = some toy ∧ vm.classes[toy]? = some tk ∧ ((methodIn toy (lmNm o) "(II)Z" tk.isInterface none).ask { classPath := fun _ => none } vm).1 = .ok t) ∧
      vm.methodReady c 23 t ∧ vm.classReady c 19 toy ∧ (∀ f0, (lmY o).1[0]? = some f0 → vm.fieldReady c 15 c f0) ∧ (k.kind = .ordinary ∧ k.instanceTypes = #[FieldType.int]) ∧
      vm.findClass "AnimationController$Test" = some iface ∧ ((methodIn iface "holds" "(I)Z" true none).ask { classPath := fun _ => none } vm).1 = .ok found ∧ selectMethod {} vm c found = .method ⟨c, 1⟩ := by
  obtain ⟨dk', k, ok, tk, file, cf, object, iface, toy, lay, methods, target, found, hd', hk, hfile, hcf, hobj, hif, hok, hlay, hms, ht, htk, hg, hfo, hrec, -, -, -, hitf, hpool, hmeth, hfields, hinst, hres, hsel⟩ := Lambda.isMade_spec h
  cases hd.symm.trans hd'
  rw [hname, lm_file ho] at hcf
  cases hcf
  rw [hO object ok hobj hok, lm_laid ho] at hlay
  cases hlay
  obtain ⟨b, hb, hsame⟩ := hmeth 1 (lmF o) (lm_second ho methods hms)
  obtain ⟨-, -, hsig, hfl, cx, cy, hcx, hcy, -, hml, hco, -⟩ := Lambda.sameMethod_spec hsame
  have fc := lm_code ho
  have ff := lm_flags ho
  simp only [Prod.mk.injEq] at ff
  rw [hcx] at fc
  simp only [Option.map_some, Option.some.injEq, Prod.mk.injEq] at fc
  have e1 : (lmSh o).implDesc.toString = "(II)Z" := by show MethodDescriptor.toString { parameters := [.int, .int], returnType := some .boolean } = "(II)Z"; decide +kernel
  have e2 : (lmSh o).sam.toString = "(I)Z" := by show MethodDescriptor.toString { parameters := [.int], returnType := some .boolean } = "(I)Z"; decide +kernel
  rw [e1] at hg
  rw [e2] at hfo
  have eM := lm_eM ho
  have eC := lm_eC ho
  have eF := lm_eF ho
  have hti : k.instanceTypes = #[FieldType.int] := by
    have h0 := hO object ok hobj hok
    have h1 : ok.instanceTypes = #[] := Array.eq_empty_of_size_eq_zero h0
    rw [hinst.1, h1, eF.2.2.2.2]
    rfl
  refine ⟨k, tk, file, b, cy, toy, target, found, iface, hk, by rw [hrec.1, hname]; rfl, hfile, hpool.2.1, ⟨by simp [Vm.method?, hk, hb], hcy, ?_, by rw [hml]; exact fc.2, ?_, by rw [hfl]; exact ff.1, by rw [hsig]; exact ff.2⟩, ⟨ht, htk, hg⟩,
    ⟨k, hk, hres 23 _ (Lambda.resolvedOf_method eM.1 eM.2.1 ht htk eM.2.2 hg)⟩, ⟨k, hk, hres 19 _ (Lambda.resolvedOf_class eC.1 eC.2.2 eC.2.1 ht)⟩,
    fun f0 hf0 => ⟨k, 0, k, hk, hres 15 _ (Lambda.resolvedOf_field eF.1 eF.2.1 eF.2.2.1), hk, hfields 0 _ hf0⟩, ⟨hrec.2.1, hti⟩, hif, hfo, hsel⟩
  · rw [hco]
    exact ByteArray.ext fc.1
  · simp [Method.locks, Method.isSynchronized, hfl, ff.1, hasFlag, Acc.synchronized]
