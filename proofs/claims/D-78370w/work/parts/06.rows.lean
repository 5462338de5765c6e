set_option linter.unusedVariables false
section KROWS
variable {x : YX} {cc : ByteArray} {own nm : String} {ret : Option FieldType} {nL : Nat} {RM : Room} {n : KN} {α : KA} {K : KS} {bc bs pc : Nat} {lv : List (Nat × Value)} {st : List Value}
theorem y_ldi (hE : YE x cc own ret nm nL RM) {z : Int} {v : Int} (hv : iI v = iI z) (d : decode cc pc = .ok (.iconst v, 1)) (k : Y x n α K bc bs (pc + 1) lv (.int (iI z) :: st)) : Y x n α K bc bs pc lv st := by
  intro H locs ls cells slots hR hS hl hc hs
  refine lv_iconst hE.1 hE.2.1 d hv ?_
  exact k H locs ls cells slots hR hS hl hc hs
theorem y_iconst (hE : YE x cc own ret nm nL RM) {v : Int} (d : decode cc pc = .ok (.iconst v, 1)) (k : Y x n α K bc bs (pc + 1) lv (.int (iI v) :: st)) : Y x n α K bc bs pc lv st := by
  intro H locs ls cells slots hR hS hl hc hs
  refine lv_iconst hE.1 hE.2.1 d rfl ?_
  exact k H locs ls cells slots hR hS hl hc hs
theorem y_bipush (hE : YE x cc own ret nm nL RM) {v : Int} (hv : (Int8.ofInt v).toInt32 = iI v) (d : decode cc pc = .ok (.bipush v, 2)) (k : Y x n α K bc bs (pc + 2) lv (.int (iI v) :: st)) : Y x n α K bc bs pc lv st := by
  intro H locs ls cells slots hR hS hl hc hs
  refine lv_bipush hE.1 hE.2.1 d hv ?_
  exact k H locs ls cells slots hR hS hl hc hs
theorem y_sipush (hE : YE x cc own ret nm nL RM) {v : Int} (hv : (Int16.ofInt v).toInt32 = iI v) (d : decode cc pc = .ok (.sipush v, 3)) (k : Y x n α K bc bs (pc + 3) lv (.int (iI v) :: st)) : Y x n α K bc bs pc lv st := by
  intro H locs ls cells slots hR hS hl hc hs
  refine lv_sipush hE.1 hE.2.1 d hv ?_
  exact k H locs ls cells slots hR hS hl hc hs
theorem y_lconst (hE : YE x cc own ret nm nL RM) {v : Fin 2} (z : Int) (hv : Int64.ofNat (v : Nat) = iL z) (d : decode cc pc = .ok (.lconst v, 1)) (k : Y x n α K bc bs (pc + 1) lv (.long (iL z) :: st)) : Y x n α K bc bs pc lv st := by
  intro H locs ls cells slots hR hS hl hc hs
  refine lv_lconst hE.1 hE.2.1 d hv ?_
  exact k H locs ls cells slots hR hS hl hc hs
theorem y_ldc (hE : YE x cc own ret nm nL RM) {index : Nat} {v : Int32} (z : Int) (hv : iI z = v) (hq : Cond.constant own index v ∈ lw_all) (d : decode cc pc = .ok (.ldc index, 2)) (k : Y x n α K bc bs (pc + 2) lv (.int (iI z) :: st)) : Y x n α K bc bs pc lv st := by
  intro H locs ls cells slots hR hS hl hc hs
  refine lv_ldc hE.1 hE.2.1 hE.2.2.2.1 (hE.2.2.2.2.1 _ hq) d ?_
  rw [← hv]
  exact k H locs ls cells slots hR hS hl hc hs
theorem y_ldc2 (hE : YE x cc own ret nm nL RM) {index : Nat} {v : Int64} (z : Int) (hv : iL z = v) (hq : Cond.constantLong own index v ∈ lw_all) (d : decode cc pc = .ok (.ldc2_w index, 3)) (k : Y x n α K bc bs (pc + 3) lv (.long (iL z) :: st)) : Y x n α K bc bs pc lv st := by
  intro H locs ls cells slots hR hS hl hc hs
  refine lv_ldc2 hE.1 hE.2.1 hE.2.2.2.1 (hE.2.2.2.2.1 _ hq) d ?_
  rw [← hv]
  exact k H locs ls cells slots hR hS hl hc hs
theorem y_ldcw (hE : YE x cc own ret nm nL RM) {index : Nat} {v : Int32} (z : Int) (hv : iI z = v) (hq : Cond.constant own index v ∈ lw_all) (d : decode cc pc = .ok (.ldc_w index, 3)) (k : Y x n α K bc bs (pc + 3) lv (.int (iI z) :: st)) : Y x n α K bc bs pc lv st := by
  intro H locs ls cells slots hR hS hl hc hs
  refine lv_ldcw hE.1 hE.2.1 hE.2.2.2.1 (hE.2.2.2.2.1 _ hq) d ?_
  rw [← hv]
  exact k H locs ls cells slots hR hS hl hc hs
theorem y_null (hE : YE x cc own ret nm nL RM)  (d : decode cc pc = .ok (.aconst_null, 1)) (k : Y x n α K bc bs (pc + 1) lv (.null :: st)) : Y x n α K bc bs pc lv st := by
  intro H locs ls cells slots hR hS hl hc hs
  refine lv_null hE.1 hE.2.1 d ?_
  exact k H locs ls cells slots hR hS hl hc hs
theorem y_iload_n (hE : YE x cc own ret nm nL RM) {q : Fin 4} {i : Nat} {z : Int} (hi : (q : Nat) = i) (j : Nat) (hj : lv[j]? = some (i, .int (iI z))) (d : decode cc pc = .ok (.iload_n q, 1)) (k : Y x n α K bc bs (pc + 1) lv (.int (iI z) :: st)) : Y x n α K bc bs pc lv st := by
  intro H locs ls cells slots hR hS hl hc hs
  refine lv_iload_n hE.1 hE.2.1 d hi (lv_at hl j hj) ?_
  exact k H locs ls cells slots hR hS hl hc hs
theorem y_iload (hE : YE x cc own ret nm nL RM) {i : Nat} {z : Int} (j : Nat) (hj : lv[j]? = some (i, .int (iI z))) (d : decode cc pc = .ok (.iload i, 2)) (k : Y x n α K bc bs (pc + 2) lv (.int (iI z) :: st)) : Y x n α K bc bs pc lv st := by
  intro H locs ls cells slots hR hS hl hc hs
  refine lv_iload hE.1 hE.2.1 d (lv_at hl j hj) ?_
  exact k H locs ls cells slots hR hS hl hc hs
theorem y_lload_n (hE : YE x cc own ret nm nL RM) {q : Fin 4} {i : Nat} {z : Int} (hi : (q : Nat) = i) (j : Nat) (hj : lv[j]? = some (i, .long (iL z))) (d : decode cc pc = .ok (.lload_n q, 1)) (k : Y x n α K bc bs (pc + 1) lv (.long (iL z) :: st)) : Y x n α K bc bs pc lv st := by
  intro H locs ls cells slots hR hS hl hc hs
  refine lv_lload_n hE.1 hE.2.1 d hi (lv_at hl j hj) ?_
  exact k H locs ls cells slots hR hS hl hc hs
theorem y_lload (hE : YE x cc own ret nm nL RM) {i : Nat} {z : Int} (j : Nat) (hj : lv[j]? = some (i, .long (iL z))) (d : decode cc pc = .ok (.lload i, 2)) (k : Y x n α K bc bs (pc + 2) lv (.long (iL z) :: st)) : Y x n α K bc bs pc lv st := by
  intro H locs ls cells slots hR hS hl hc hs
  refine lv_lload hE.1 hE.2.1 d (lv_at hl j hj) ?_
  exact k H locs ls cells slots hR hS hl hc hs
theorem y_aload_n (hE : YE x cc own ret nm nL RM) {q : Fin 4} {i a : Nat} (hi : (q : Nat) = i) (j : Nat) (hj : lv[j]? = some (i, .ref a)) (d : decode cc pc = .ok (.aload_n q, 1)) (k : Y x n α K bc bs (pc + 1) lv (.ref a :: st)) : Y x n α K bc bs pc lv st := by
  intro H locs ls cells slots hR hS hl hc hs
  refine lv_aload_n hE.1 hE.2.1 d hi (lv_at hl j hj) ?_
  exact k H locs ls cells slots hR hS hl hc hs
theorem y_aload (hE : YE x cc own ret nm nL RM) {i a : Nat} (j : Nat) (hj : lv[j]? = some (i, .ref a)) (d : decode cc pc = .ok (.aload i, 2)) (k : Y x n α K bc bs (pc + 2) lv (.ref a :: st)) : Y x n α K bc bs pc lv st := by
  intro H locs ls cells slots hR hS hl hc hs
  refine lv_aload hE.1 hE.2.1 d (lv_at hl j hj) ?_
  exact k H locs ls cells slots hR hS hl hc hs
theorem y_aload_nN (hE : YE x cc own ret nm nL RM) {q : Fin 4} {i : Nat} (hi : (q : Nat) = i) (j : Nat) (hj : lv[j]? = some (i, .null)) (d : decode cc pc = .ok (.aload_n q, 1)) (k : Y x n α K bc bs (pc + 1) lv (.null :: st)) : Y x n α K bc bs pc lv st := by
  intro H locs ls cells slots hR hS hl hc hs
  refine lv_aload_nN hE.1 hE.2.1 d hi (lv_at hl j hj) ?_
  exact k H locs ls cells slots hR hS hl hc hs
theorem y_aloadN (hE : YE x cc own ret nm nL RM) {i : Nat} (j : Nat) (hj : lv[j]? = some (i, .null)) (d : decode cc pc = .ok (.aload i, 2)) (k : Y x n α K bc bs (pc + 2) lv (.null :: st)) : Y x n α K bc bs pc lv st := by
  intro H locs ls cells slots hR hS hl hc hs
  refine lv_aloadN hE.1 hE.2.1 d (lv_at hl j hj) ?_
  exact k H locs ls cells slots hR hS hl hc hs
theorem y_aload_nV (hE : YE x cc own ret nm nL RM) {kd i : Nat} {z : Int} {q : Fin 4} (hi : (q : Nat) = i) (j : Nat) (hj : lv[j]? = some (i, refV α kd z)) (d : decode cc pc = .ok (.aload_n q, 1)) (k : Y x n α K bc bs (pc + 1) lv (refV α kd z :: st)) : Y x n α K bc bs pc lv st := by
  intro H locs ls cells slots hR hS hl hc hs
  by_cases h : z < 0
  · rw [refV_n h] at hj k
    refine lv_aload_nN hE.1 hE.2.1 d hi (lv_at hl j hj) ?_
    exact k H locs ls cells slots hR hS hl hc hs
  · rw [refV_s (by omega)] at hj k
    refine lv_aload_n hE.1 hE.2.1 d hi (lv_at hl j hj) ?_
    exact k H locs ls cells slots hR hS hl hc hs
theorem y_aloadV (hE : YE x cc own ret nm nL RM) {kd i : Nat} {z : Int}  (j : Nat) (hj : lv[j]? = some (i, refV α kd z)) (d : decode cc pc = .ok (.aload i, 2)) (k : Y x n α K bc bs (pc + 2) lv (refV α kd z :: st)) : Y x n α K bc bs pc lv st := by
  intro H locs ls cells slots hR hS hl hc hs
  by_cases h : z < 0
  · rw [refV_n h] at hj k
    refine lv_aloadN hE.1 hE.2.1 d (lv_at hl j hj) ?_
    exact k H locs ls cells slots hR hS hl hc hs
  · rw [refV_s (by omega)] at hj k
    refine lv_aload hE.1 hE.2.1 d (lv_at hl j hj) ?_
    exact k H locs ls cells slots hR hS hl hc hs
theorem y_istore_n (hE : YE x cc own ret nm nL RM) {q : Fin 4} {i : Nat} {z : Int} (hi : (q : Nat) = i) (lv' : List (Nat × Value)) (hn : i < nL) (hlv : (i, Value.int (iI z)) :: lv.filter (fun q => !(q.1 == i) && !(q.1 + 1 == i && q.2.category == 2)) = lv') (d : decode cc pc = .ok (.istore_n q, 1)) (k : Y x n α K bc bs (pc + 1) lv' st) : Y x n α K bc bs pc lv (Value.int (iI z) :: st) := by
  intro H locs ls cells slots hR hS hl hc hs
  refine lv_istore_n hE.1 hE.2.1 d hi hl (by rw [hE.2.2.2.2.2.2.2.2.2.1]; exact hn) hlv (fun ls hl => ?_)
  exact k H locs ls cells slots hR hS hl hc hs
theorem y_istore (hE : YE x cc own ret nm nL RM) {i : Nat} {z : Int} (lv' : List (Nat × Value)) (hn : i < nL) (hlv : (i, Value.int (iI z)) :: lv.filter (fun q => !(q.1 == i) && !(q.1 + 1 == i && q.2.category == 2)) = lv') (d : decode cc pc = .ok (.istore i, 2)) (k : Y x n α K bc bs (pc + 2) lv' st) : Y x n α K bc bs pc lv (Value.int (iI z) :: st) := by
  intro H locs ls cells slots hR hS hl hc hs
  refine lv_istore hE.1 hE.2.1 d hl (by rw [hE.2.2.2.2.2.2.2.2.2.1]; exact hn) hlv (fun ls hl => ?_)
  exact k H locs ls cells slots hR hS hl hc hs
theorem y_lstore_n (hE : YE x cc own ret nm nL RM) {q : Fin 4} {i : Nat} {z : Int} (hi : (q : Nat) = i) (lv' : List (Nat × Value)) (hn : i + 1 < nL) (hlv : (i, Value.long (iL z)) :: lv.filter (fun q => !(q.1 == i) && (!(q.1 == i + 1) && !(q.1 + 1 == i && q.2.category == 2))) = lv') (d : decode cc pc = .ok (.lstore_n q, 1)) (k : Y x n α K bc bs (pc + 1) lv' st) : Y x n α K bc bs pc lv (Value.long (iL z) :: st) := by
  intro H locs ls cells slots hR hS hl hc hs
  refine lv_lstore_n hE.1 hE.2.1 d hi hl (by rw [hE.2.2.2.2.2.2.2.2.2.1]; exact hn) hlv (fun ls hl => ?_)
  exact k H locs ls cells slots hR hS hl hc hs
theorem y_lstore (hE : YE x cc own ret nm nL RM) {i : Nat} {z : Int} (lv' : List (Nat × Value)) (hn : i + 1 < nL) (hlv : (i, Value.long (iL z)) :: lv.filter (fun q => !(q.1 == i) && (!(q.1 == i + 1) && !(q.1 + 1 == i && q.2.category == 2))) = lv') (d : decode cc pc = .ok (.lstore i, 2)) (k : Y x n α K bc bs (pc + 2) lv' st) : Y x n α K bc bs pc lv (Value.long (iL z) :: st) := by
  intro H locs ls cells slots hR hS hl hc hs
  refine lv_lstore hE.1 hE.2.1 d hl (by rw [hE.2.2.2.2.2.2.2.2.2.1]; exact hn) hlv (fun ls hl => ?_)
  exact k H locs ls cells slots hR hS hl hc hs
theorem y_astore_n (hE : YE x cc own ret nm nL RM) {q : Fin 4} {i a : Nat} (hi : (q : Nat) = i) (lv' : List (Nat × Value)) (hn : i < nL) (hlv : (i, Value.ref a) :: lv.filter (fun q => !(q.1 == i) && !(q.1 + 1 == i && q.2.category == 2)) = lv') (d : decode cc pc = .ok (.astore_n q, 1)) (k : Y x n α K bc bs (pc + 1) lv' st) : Y x n α K bc bs pc lv (Value.ref a :: st) := by
  intro H locs ls cells slots hR hS hl hc hs
  refine lv_astore_n hE.1 hE.2.1 d hi hl (by rw [hE.2.2.2.2.2.2.2.2.2.1]; exact hn) hlv (fun ls hl => ?_)
  exact k H locs ls cells slots hR hS hl hc hs
theorem y_astore (hE : YE x cc own ret nm nL RM) {i a : Nat} (lv' : List (Nat × Value)) (hn : i < nL) (hlv : (i, Value.ref a) :: lv.filter (fun q => !(q.1 == i) && !(q.1 + 1 == i && q.2.category == 2)) = lv') (d : decode cc pc = .ok (.astore i, 2)) (k : Y x n α K bc bs (pc + 2) lv' st) : Y x n α K bc bs pc lv (Value.ref a :: st) := by
  intro H locs ls cells slots hR hS hl hc hs
  refine lv_astore hE.1 hE.2.1 d hl (by rw [hE.2.2.2.2.2.2.2.2.2.1]; exact hn) hlv (fun ls hl => ?_)
  exact k H locs ls cells slots hR hS hl hc hs
theorem y_astore_nN (hE : YE x cc own ret nm nL RM) {q : Fin 4} {i : Nat} (hi : (q : Nat) = i) (lv' : List (Nat × Value)) (hn : i < nL) (hlv : (i, Value.null) :: lv.filter (fun q => !(q.1 == i) && !(q.1 + 1 == i && q.2.category == 2)) = lv') (d : decode cc pc = .ok (.astore_n q, 1)) (k : Y x n α K bc bs (pc + 1) lv' st) : Y x n α K bc bs pc lv (Value.null :: st) := by
  intro H locs ls cells slots hR hS hl hc hs
  refine lv_astore_nN hE.1 hE.2.1 d hi hl (by rw [hE.2.2.2.2.2.2.2.2.2.1]; exact hn) hlv (fun ls hl => ?_)
  exact k H locs ls cells slots hR hS hl hc hs
theorem y_astoreN (hE : YE x cc own ret nm nL RM) {i : Nat} (lv' : List (Nat × Value)) (hn : i < nL) (hlv : (i, Value.null) :: lv.filter (fun q => !(q.1 == i) && !(q.1 + 1 == i && q.2.category == 2)) = lv') (d : decode cc pc = .ok (.astore i, 2)) (k : Y x n α K bc bs (pc + 2) lv' st) : Y x n α K bc bs pc lv (Value.null :: st) := by
  intro H locs ls cells slots hR hS hl hc hs
  refine lv_astoreN hE.1 hE.2.1 d hl (by rw [hE.2.2.2.2.2.2.2.2.2.1]; exact hn) hlv (fun ls hl => ?_)
  exact k H locs ls cells slots hR hS hl hc hs
theorem y_astore_nV (hE : YE x cc own ret nm nL RM) {kd i : Nat} {z : Int} {q : Fin 4} (hi : (q : Nat) = i) (lv' : List (Nat × Value)) (hn : i < nL) (hlv : (i, refV α kd z) :: lv.filter (fun q => !(q.1 == i) && !(q.1 + 1 == i && q.2.category == 2)) = lv') (d : decode cc pc = .ok (.astore_n q, 1)) (k : Y x n α K bc bs (pc + 1) lv' st) : Y x n α K bc bs pc lv (refV α kd z :: st) := by
  intro H locs ls cells slots hR hS hl hc hs
  by_cases h : z < 0
  · rw [refV_n h] at hlv ⊢
    refine lv_astore_nN hE.1 hE.2.1 d hi hl (by rw [hE.2.2.2.2.2.2.2.2.2.1]; exact hn) hlv (fun ls hl => ?_)
    exact k H locs ls cells slots hR hS hl hc hs
  · rw [refV_s (by omega)] at hlv ⊢
    refine lv_astore_n hE.1 hE.2.1 d hi hl (by rw [hE.2.2.2.2.2.2.2.2.2.1]; exact hn) hlv (fun ls hl => ?_)
    exact k H locs ls cells slots hR hS hl hc hs
theorem y_astoreV (hE : YE x cc own ret nm nL RM) {kd i : Nat} {z : Int}  (lv' : List (Nat × Value)) (hn : i < nL) (hlv : (i, refV α kd z) :: lv.filter (fun q => !(q.1 == i) && !(q.1 + 1 == i && q.2.category == 2)) = lv') (d : decode cc pc = .ok (.astore i, 2)) (k : Y x n α K bc bs (pc + 2) lv' st) : Y x n α K bc bs pc lv (refV α kd z :: st) := by
  intro H locs ls cells slots hR hS hl hc hs
  by_cases h : z < 0
  · rw [refV_n h] at hlv ⊢
    refine lv_astoreN hE.1 hE.2.1 d hl (by rw [hE.2.2.2.2.2.2.2.2.2.1]; exact hn) hlv (fun ls hl => ?_)
    exact k H locs ls cells slots hR hS hl hc hs
  · rw [refV_s (by omega)] at hlv ⊢
    refine lv_astore hE.1 hE.2.1 d hl (by rw [hE.2.2.2.2.2.2.2.2.2.1]; exact hn) hlv (fun ls hl => ?_)
    exact k H locs ls cells slots hR hS hl hc hs
theorem y_iinc (hE : YE x cc own ret nm nL RM) {i : Nat} {z dv : Int} (j : Nat) (hj : lv[j]? = some (i, .int (iI z))) (lv' : List (Nat × Value)) (hn : i < nL) (hlv : (i, Value.int (iI (z + dv))) :: lv.filter (fun q => !(q.1 == i) && !(q.1 + 1 == i && q.2.category == 2)) = lv') (d : decode cc pc = .ok (.iinc i dv, 3)) (k : Y x n α K bc bs (pc + 3) lv' st) : Y x n α K bc bs pc lv st := by
  intro H locs ls cells slots hR hS hl hc hs
  refine lv_iinc (v := iI (z + dv)) hE.1 hE.2.1 d hl hj (iI_add z dv) (by rw [hE.2.2.2.2.2.2.2.2.2.1]; exact hn) hlv (fun ls hl => ?_)
  exact k H locs ls cells slots hR hS hl hc hs
theorem y_iadd (hE : YE x cc own ret nm nL RM) {a b : Int} (d : decode cc pc = .ok (.iadd, 1)) (k : Y x n α K bc bs (pc + 1) lv (.int (iI (a + b)) :: st)) : Y x n α K bc bs pc lv (.int (iI b) :: .int (iI a) :: st) := by
  intro H locs ls cells slots hR hS hl hc hs
  refine lv_iadd hE.1 hE.2.1 d ?_
  rw [iI_add]
  exact k H locs ls cells slots hR hS hl hc hs
theorem y_ladd (hE : YE x cc own ret nm nL RM) {a b : Int} (d : decode cc pc = .ok (.ladd, 1)) (k : Y x n α K bc bs (pc + 1) lv (.long (iL (a + b)) :: st)) : Y x n α K bc bs pc lv (.long (iL b) :: .long (iL a) :: st) := by
  intro H locs ls cells slots hR hS hl hc hs
  refine lv_ladd hE.1 hE.2.1 d ?_
  rw [iL_add]
  exact k H locs ls cells slots hR hS hl hc hs
theorem y_isub (hE : YE x cc own ret nm nL RM) {a b : Int} (d : decode cc pc = .ok (.isub, 1)) (k : Y x n α K bc bs (pc + 1) lv (.int (iI (a - b)) :: st)) : Y x n α K bc bs pc lv (.int (iI b) :: .int (iI a) :: st) := by
  intro H locs ls cells slots hR hS hl hc hs
  refine lv_isub hE.1 hE.2.1 d ?_
  rw [iI_sub]
  exact k H locs ls cells slots hR hS hl hc hs
theorem y_lsub (hE : YE x cc own ret nm nL RM) {a b : Int} (d : decode cc pc = .ok (.lsub, 1)) (k : Y x n α K bc bs (pc + 1) lv (.long (iL (a - b)) :: st)) : Y x n α K bc bs pc lv (.long (iL b) :: .long (iL a) :: st) := by
  intro H locs ls cells slots hR hS hl hc hs
  refine lv_lsub hE.1 hE.2.1 d ?_
  rw [iL_sub]
  exact k H locs ls cells slots hR hS hl hc hs
theorem y_imul (hE : YE x cc own ret nm nL RM) {a b : Int} (d : decode cc pc = .ok (.imul, 1)) (k : Y x n α K bc bs (pc + 1) lv (.int (iI (a * b)) :: st)) : Y x n α K bc bs pc lv (.int (iI b) :: .int (iI a) :: st) := by
  intro H locs ls cells slots hR hS hl hc hs
  refine lv_imul hE.1 hE.2.1 d ?_
  rw [iI_mul]
  exact k H locs ls cells slots hR hS hl hc hs
theorem y_lmul (hE : YE x cc own ret nm nL RM) {a b : Int} (d : decode cc pc = .ok (.lmul, 1)) (k : Y x n α K bc bs (pc + 1) lv (.long (iL (a * b)) :: st)) : Y x n α K bc bs pc lv (.long (iL b) :: .long (iL a) :: st) := by
  intro H locs ls cells slots hR hS hl hc hs
  refine lv_lmul hE.1 hE.2.1 d ?_
  rw [iL_mul]
  exact k H locs ls cells slots hR hS hl hc hs
theorem y_ineg (hE : YE x cc own ret nm nL RM) {a : Int} (d : decode cc pc = .ok (.ineg, 1)) (k : Y x n α K bc bs (pc + 1) lv (.int (iI (-a)) :: st)) : Y x n α K bc bs pc lv (.int (iI a) :: st) := by
  intro H locs ls cells slots hR hS hl hc hs
  refine lv_ineg hE.1 hE.2.1 d ?_
  rw [iI_neg]
  exact k H locs ls cells slots hR hS hl hc hs
theorem y_idiv (hE : YE x cc own ret nm nL RM) {a b : Int} (ha : 0 ≤ a ∧ a ≤ 2147483647) (hb : 0 < b ∧ b ≤ 2147483647) (d : decode cc pc = .ok (.idiv, 1)) (k : Y x n α K bc bs (pc + 1) lv (.int (iI (a / b)) :: st)) : Y x n α K bc bs pc lv (.int (iI b) :: .int (iI a) :: st) := by
  intro H locs ls cells slots hR hS hl hc hs
  refine lv_idiv hE.1 hE.2.1 d (iI_ne0 hb) ?_
  rw [iI_div (by omega) hb, Int.tdiv_eq_ediv_of_nonneg ha.1]
  exact k H locs ls cells slots hR hS hl hc hs
theorem y_ldiv (hE : YE x cc own ret nm nL RM) {a b : Int} (ha : 0 ≤ a ∧ a ≤ 9223372036854775807) (hb : 0 < b ∧ b ≤ 9223372036854775807) (d : decode cc pc = .ok (.ldiv, 1)) (k : Y x n α K bc bs (pc + 1) lv (.long (iL (a / b)) :: st)) : Y x n α K bc bs pc lv (.long (iL b) :: .long (iL a) :: st) := by
  intro H locs ls cells slots hR hS hl hc hs
  refine lv_ldiv hE.1 hE.2.1 d (iL_ne0 hb) ?_
  rw [iL_div (by omega) hb, Int.tdiv_eq_ediv_of_nonneg ha.1]
  exact k H locs ls cells slots hR hS hl hc hs
theorem y_irem (hE : YE x cc own ret nm nL RM) {a b : Int} (ha : 0 ≤ a ∧ a ≤ 2147483647) (hb : 0 < b ∧ b ≤ 2147483647) (d : decode cc pc = .ok (.irem, 1)) (k : Y x n α K bc bs (pc + 1) lv (.int (iI (a % b)) :: st)) : Y x n α K bc bs pc lv (.int (iI b) :: .int (iI a) :: st) := by
  intro H locs ls cells slots hR hS hl hc hs
  refine lv_irem hE.1 hE.2.1 d (iI_ne0 hb) ?_
  rw [iI_div (by omega) hb, iI_mul, iI_sub, Int.tdiv_eq_ediv_of_nonneg ha.1, show a - a / b * b = a % b by have := Int.emod_add_mul_ediv a b; rw [Int.mul_comm]; omega]
  exact k H locs ls cells slots hR hS hl hc hs
theorem y_lrem (hE : YE x cc own ret nm nL RM) {a b : Int} (ha : 0 ≤ a ∧ a ≤ 9223372036854775807) (hb : 0 < b ∧ b ≤ 9223372036854775807) (d : decode cc pc = .ok (.lrem, 1)) (k : Y x n α K bc bs (pc + 1) lv (.long (iL (a % b)) :: st)) : Y x n α K bc bs pc lv (.long (iL b) :: .long (iL a) :: st) := by
  intro H locs ls cells slots hR hS hl hc hs
  refine lv_lrem hE.1 hE.2.1 d (iL_ne0 hb) ?_
  rw [iL_div (by omega) hb, iL_mul, iL_sub, Int.tdiv_eq_ediv_of_nonneg ha.1, show a - a / b * b = a % b by have := Int.emod_add_mul_ediv a b; rw [Int.mul_comm]; omega]
  exact k H locs ls cells slots hR hS hl hc hs
theorem y_iand (hE : YE x cc own ret nm nL RM) {a b : Int} (z : Int) (hz : iI a &&& iI b = iI z) (d : decode cc pc = .ok (.iand, 1)) (k : Y x n α K bc bs (pc + 1) lv (.int (iI z) :: st)) : Y x n α K bc bs pc lv (.int (iI b) :: .int (iI a) :: st) := by
  intro H locs ls cells slots hR hS hl hc hs
  refine lv_iand hE.1 hE.2.1 d ?_
  rw [hz]
  exact k H locs ls cells slots hR hS hl hc hs
theorem y_ior (hE : YE x cc own ret nm nL RM) {a b : Int} (z : Int) (hz : iI a ||| iI b = iI z) (d : decode cc pc = .ok (.ior, 1)) (k : Y x n α K bc bs (pc + 1) lv (.int (iI z) :: st)) : Y x n α K bc bs pc lv (.int (iI b) :: .int (iI a) :: st) := by
  intro H locs ls cells slots hR hS hl hc hs
  refine lv_ior hE.1 hE.2.1 d ?_
  rw [hz]
  exact k H locs ls cells slots hR hS hl hc hs
theorem y_ixor (hE : YE x cc own ret nm nL RM) {a b : Int} (z : Int) (hz : iI a ^^^ iI b = iI z) (d : decode cc pc = .ok (.ixor, 1)) (k : Y x n α K bc bs (pc + 1) lv (.int (iI z) :: st)) : Y x n α K bc bs pc lv (.int (iI b) :: .int (iI a) :: st) := by
  intro H locs ls cells slots hR hS hl hc hs
  refine lv_ixor hE.1 hE.2.1 d ?_
  rw [hz]
  exact k H locs ls cells slots hR hS hl hc hs
theorem y_ishl (hE : YE x cc own ret nm nL RM) {a b : Int} (z : Int) (hz : iI a <<< (iI b &&& 31) = iI z) (d : decode cc pc = .ok (.ishl, 1)) (k : Y x n α K bc bs (pc + 1) lv (.int (iI z) :: st)) : Y x n α K bc bs pc lv (.int (iI b) :: .int (iI a) :: st) := by
  intro H locs ls cells slots hR hS hl hc hs
  refine lv_ishl hE.1 hE.2.1 d ?_
  rw [hz]
  exact k H locs ls cells slots hR hS hl hc hs
theorem y_ishr (hE : YE x cc own ret nm nL RM) {a b : Int} (z : Int) (hz : iI a >>> (iI b &&& 31) = iI z) (d : decode cc pc = .ok (.ishr, 1)) (k : Y x n α K bc bs (pc + 1) lv (.int (iI z) :: st)) : Y x n α K bc bs pc lv (.int (iI b) :: .int (iI a) :: st) := by
  intro H locs ls cells slots hR hS hl hc hs
  refine lv_ishr hE.1 hE.2.1 d ?_
  rw [hz]
  exact k H locs ls cells slots hR hS hl hc hs
theorem y_iushr (hE : YE x cc own ret nm nL RM) {a b : Int} (z : Int) (hz : ((iI a).toUInt32 >>> ((iI b).toUInt32 &&& Int32.toUInt32 31)).toInt32 = iI z) (d : decode cc pc = .ok (.iushr, 1)) (k : Y x n α K bc bs (pc + 1) lv (.int (iI z) :: st)) : Y x n α K bc bs pc lv (.int (iI b) :: .int (iI a) :: st) := by
  intro H locs ls cells slots hR hS hl hc hs
  refine lv_iushr hE.1 hE.2.1 d hz ?_
  exact k H locs ls cells slots hR hS hl hc hs
theorem y_i2l (hE : YE x cc own ret nm nL RM) {a : Int} (ha : -2147483648 ≤ a ∧ a ≤ 2147483647) (d : decode cc pc = .ok (.i2l, 1)) (k : Y x n α K bc bs (pc + 1) lv (.long (iL a) :: st)) : Y x n α K bc bs pc lv (.int (iI a) :: st) := by
  intro H locs ls cells slots hR hS hl hc hs
  refine lv_i2l hE.1 hE.2.1 d (iI_i2l ha) ?_
  exact k H locs ls cells slots hR hS hl hc hs
theorem y_l2i (hE : YE x cc own ret nm nL RM) {a : Int} (d : decode cc pc = .ok (.l2i, 1)) (k : Y x n α K bc bs (pc + 1) lv (.int (iI a) :: st)) : Y x n α K bc bs pc lv (.long (iL a) :: st) := by
  intro H locs ls cells slots hR hS hl hc hs
  refine lv_l2i hE.1 hE.2.1 d (iL_l2i a) ?_
  exact k H locs ls cells slots hR hS hl hc hs
theorem y_i2b (hE : YE x cc own ret nm nL RM) {a : Int} (z : Int) (hz : (iI a).toInt8.toInt32 = iI z) (d : decode cc pc = .ok (.i2b, 1)) (k : Y x n α K bc bs (pc + 1) lv (.int (iI z) :: st)) : Y x n α K bc bs pc lv (.int (iI a) :: st) := by
  intro H locs ls cells slots hR hS hl hc hs
  refine lv_i2b hE.1 hE.2.1 d hz ?_
  exact k H locs ls cells slots hR hS hl hc hs
theorem y_i2c (hE : YE x cc own ret nm nL RM) {a : Int} (z : Int) (hz : ((iI a).toUInt32 % 65536).toInt32 = iI z) (d : decode cc pc = .ok (.i2c, 1)) (k : Y x n α K bc bs (pc + 1) lv (.int (iI z) :: st)) : Y x n α K bc bs pc lv (.int (iI a) :: st) := by
  intro H locs ls cells slots hR hS hl hc hs
  refine lv_i2c hE.1 hE.2.1 d hz ?_
  exact k H locs ls cells slots hR hS hl hc hs
theorem y_dup (hE : YE x cc own ret nm nL RM) {va : Value} (ha : va.category = 1) (d : decode cc pc = .ok (.dup, 1)) (k : Y x n α K bc bs (pc + 1) lv (va :: va :: st)) : Y x n α K bc bs pc lv (va :: st) := by
  intro H locs ls cells slots hR hS hl hc hs
  refine lv_dup hE.1 hE.2.1 d ha ?_
  exact k H locs ls cells slots hR hS hl hc hs
theorem y_pop (hE : YE x cc own ret nm nL RM) {va : Value} (ha : va.category = 1) (d : decode cc pc = .ok (.pop, 1)) (k : Y x n α K bc bs (pc + 1) lv st) : Y x n α K bc bs pc lv (va :: st) := by
  intro H locs ls cells slots hR hS hl hc hs
  refine lv_pop hE.1 hE.2.1 d ha ?_
  exact k H locs ls cells slots hR hS hl hc hs
theorem y_pop2 (hE : YE x cc own ret nm nL RM) {va : Value} (ha : va.category = 2) (d : decode cc pc = .ok (.pop2, 1)) (k : Y x n α K bc bs (pc + 1) lv st) : Y x n α K bc bs pc lv (va :: st) := by
  intro H locs ls cells slots hR hS hl hc hs
  refine lv_pop2_2 hE.1 hE.2.1 d ha ?_
  exact k H locs ls cells slots hR hS hl hc hs
theorem y_dup2 (hE : YE x cc own ret nm nL RM) {va vb : Value} (ha : va.category = 1) (hb : vb.category = 1) (d : decode cc pc = .ok (.dup2, 1)) (k : Y x n α K bc bs (pc + 1) lv (va :: vb :: va :: vb :: st)) : Y x n α K bc bs pc lv (va :: vb :: st) := by
  intro H locs ls cells slots hR hS hl hc hs
  refine lv_dup2_11 hE.1 hE.2.1 d ha hb ?_
  exact k H locs ls cells slots hR hS hl hc hs
theorem y_dup2L (hE : YE x cc own ret nm nL RM) {va : Value} (ha : va.category = 2) (d : decode cc pc = .ok (.dup2, 1)) (k : Y x n α K bc bs (pc + 1) lv (va :: va :: st)) : Y x n α K bc bs pc lv (va :: st) := by
  intro H locs ls cells slots hR hS hl hc hs
  refine lv_dup2_2 hE.1 hE.2.1 d ha ?_
  exact k H locs ls cells slots hR hS hl hc hs
theorem y_dup_x1 (hE : YE x cc own ret nm nL RM) {va vb : Value} (ha : va.category = 1) (hb : vb.category = 1) (d : decode cc pc = .ok (.dup_x1, 1)) (k : Y x n α K bc bs (pc + 1) lv (va :: vb :: va :: st)) : Y x n α K bc bs pc lv (va :: vb :: st) := by
  intro H locs ls cells slots hR hS hl hc hs
  refine lv_dup_x1 hE.1 hE.2.1 d ha hb ?_
  exact k H locs ls cells slots hR hS hl hc hs
theorem y_dup_x2 (hE : YE x cc own ret nm nL RM) {va vb vc : Value} (ha : va.category = 1) (hb : vb.category = 1) (hcc : vc.category = 1) (d : decode cc pc = .ok (.dup_x2, 1)) (k : Y x n α K bc bs (pc + 1) lv (va :: vb :: vc :: va :: st)) : Y x n α K bc bs pc lv (va :: vb :: vc :: st) := by
  intro H locs ls cells slots hR hS hl hc hs
  refine lv_dup_x2 hE.1 hE.2.1 d ha hb hcc ?_
  exact k H locs ls cells slots hR hS hl hc hs
theorem y_dup2_x1L (hE : YE x cc own ret nm nL RM) {va vb : Value} (ha : va.category = 2) (hb : vb.category = 1) (d : decode cc pc = .ok (.dup2_x1, 1)) (k : Y x n α K bc bs (pc + 1) lv (va :: vb :: va :: st)) : Y x n α K bc bs pc lv (va :: vb :: st) := by
  intro H locs ls cells slots hR hS hl hc hs
  refine lv_dup2_x1_2 hE.1 hE.2.1 d ha hb ?_
  exact k H locs ls cells slots hR hS hl hc hs
theorem y_icmp_eq (hE : YE x cc own ret nm nL RM) {a b : Int} {off : Int} (tgt : Nat) (ht : (pc : Int) + off = (tgt : Int)) (ha : (-2147483648 ≤ a ∧ a ≤ 2147483647)) (hb : (-2147483648 ≤ b ∧ b ≤ 2147483647)) (d : decode cc pc = .ok (.if_icmp .eq off, 3)) (kt : a = b → Y x n α K bc bs tgt lv st) (kf : a ≠ b → Y x n α K bc bs (pc + 3) lv st) : Y x n α K bc bs pc lv (.int (iI b) :: .int (iI a) :: st) := by
  intro H locs ls cells slots hR hS hl hc hs
  refine lv_icmp_eq hE.1 hE.2.1 d ht (fun h => kt ?_ H locs ls cells slots hR hS hl hc hs) (fun h => kf ?_ H locs ls cells slots hR hS hl hc hs)
  · skip
    have := (iI_eq ha hb).mp h
    omega
  · skip
    have := mt (iI_eq ha hb).mpr h
    omega
theorem y_if_eq (hE : YE x cc own ret nm nL RM) {a : Int} {off : Int} (tgt : Nat) (ht : (pc : Int) + off = (tgt : Int)) (ha : (-2147483648 ≤ a ∧ a ≤ 2147483647))  (d : decode cc pc = .ok (.ifCond .eq off, 3)) (kt : a = 0 → Y x n α K bc bs tgt lv st) (kf : a ≠ 0 → Y x n α K bc bs (pc + 3) lv st) : Y x n α K bc bs pc lv (.int (iI a) :: st) := by
  intro H locs ls cells slots hR hS hl hc hs
  refine lv_if_eq hE.1 hE.2.1 d ht (fun h => kt ?_ H locs ls cells slots hR hS hl hc hs) (fun h => kf ?_ H locs ls cells slots hR hS hl hc hs)
  · skip
    have h0 : -2147483648 ≤ (0 : Int) ∧ (0 : Int) ≤ 2147483647 := by omega
    rw [show (0 : Int32) = iI 0 from rfl] at h
    have := (iI_eq ha h0).mp h
    omega
  · skip
    have h0 : -2147483648 ≤ (0 : Int) ∧ (0 : Int) ≤ 2147483647 := by omega
    rw [show (0 : Int32) = iI 0 from rfl] at h
    have := mt (iI_eq ha h0).mpr h
    omega
theorem y_lcmp_eq (hE : YE x cc own ret nm nL RM) {a b : Int} {off : Int} (tgt : Nat) (ht : ((pc + 1 : Nat) : Int) + off = (tgt : Int)) (ha : (-9223372036854775808 ≤ a ∧ a ≤ 9223372036854775807)) (hb : (-9223372036854775808 ≤ b ∧ b ≤ 9223372036854775807)) (d : decode cc pc = .ok (.lcmp, 1)) (d2 : decode cc (pc + 1) = .ok (.ifCond .eq off, 3)) (kt : a = b → Y x n α K bc bs tgt lv st) (kf : a ≠ b → Y x n α K bc bs (pc + 1 + 3) lv st) : Y x n α K bc bs pc lv (.long (iL b) :: .long (iL a) :: st) := by
  intro H locs ls cells slots hR hS hl hc hs
  refine W.lcmp hE.1 hE.2.1 d ?_
  refine lv_if_eq hE.1 hE.2.1 d2 ht (fun h => kt ?_ H locs ls cells slots hR hS hl hc hs) (fun h => kf ?_ H locs ls cells slots hR hS hl hc hs)
  · skip
    have := (iL_eq ha hb).mp ((lg_cmp_eq _ _).mp h)
    omega
  · skip
    have := mt (iL_eq ha hb).mpr (mt (lg_cmp_eq _ _).mpr h)
    omega
theorem y_icmp_ne (hE : YE x cc own ret nm nL RM) {a b : Int} {off : Int} (tgt : Nat) (ht : (pc : Int) + off = (tgt : Int)) (ha : (-2147483648 ≤ a ∧ a ≤ 2147483647)) (hb : (-2147483648 ≤ b ∧ b ≤ 2147483647)) (d : decode cc pc = .ok (.if_icmp .ne off, 3)) (kt : a ≠ b → Y x n α K bc bs tgt lv st) (kf : a = b → Y x n α K bc bs (pc + 3) lv st) : Y x n α K bc bs pc lv (.int (iI b) :: .int (iI a) :: st) := by
  intro H locs ls cells slots hR hS hl hc hs
  refine lv_icmp_ne hE.1 hE.2.1 d ht (fun h => kt ?_ H locs ls cells slots hR hS hl hc hs) (fun h => kf ?_ H locs ls cells slots hR hS hl hc hs)
  · skip
    have := mt (iI_eq ha hb).mpr h
    omega
  · skip
    have := (iI_eq ha hb).mp h
    omega
theorem y_if_ne (hE : YE x cc own ret nm nL RM) {a : Int} {off : Int} (tgt : Nat) (ht : (pc : Int) + off = (tgt : Int)) (ha : (-2147483648 ≤ a ∧ a ≤ 2147483647))  (d : decode cc pc = .ok (.ifCond .ne off, 3)) (kt : a ≠ 0 → Y x n α K bc bs tgt lv st) (kf : a = 0 → Y x n α K bc bs (pc + 3) lv st) : Y x n α K bc bs pc lv (.int (iI a) :: st) := by
  intro H locs ls cells slots hR hS hl hc hs
  refine lv_if_ne hE.1 hE.2.1 d ht (fun h => kt ?_ H locs ls cells slots hR hS hl hc hs) (fun h => kf ?_ H locs ls cells slots hR hS hl hc hs)
  · skip
    have h0 : -2147483648 ≤ (0 : Int) ∧ (0 : Int) ≤ 2147483647 := by omega
    rw [show (0 : Int32) = iI 0 from rfl] at h
    have := mt (iI_eq ha h0).mpr h
    omega
  · skip
    have h0 : -2147483648 ≤ (0 : Int) ∧ (0 : Int) ≤ 2147483647 := by omega
    rw [show (0 : Int32) = iI 0 from rfl] at h
    have := (iI_eq ha h0).mp h
    omega
theorem y_lcmp_ne (hE : YE x cc own ret nm nL RM) {a b : Int} {off : Int} (tgt : Nat) (ht : ((pc + 1 : Nat) : Int) + off = (tgt : Int)) (ha : (-9223372036854775808 ≤ a ∧ a ≤ 9223372036854775807)) (hb : (-9223372036854775808 ≤ b ∧ b ≤ 9223372036854775807)) (d : decode cc pc = .ok (.lcmp, 1)) (d2 : decode cc (pc + 1) = .ok (.ifCond .ne off, 3)) (kt : a ≠ b → Y x n α K bc bs tgt lv st) (kf : a = b → Y x n α K bc bs (pc + 1 + 3) lv st) : Y x n α K bc bs pc lv (.long (iL b) :: .long (iL a) :: st) := by
  intro H locs ls cells slots hR hS hl hc hs
  refine W.lcmp hE.1 hE.2.1 d ?_
  refine lv_if_ne hE.1 hE.2.1 d2 ht (fun h => kt ?_ H locs ls cells slots hR hS hl hc hs) (fun h => kf ?_ H locs ls cells slots hR hS hl hc hs)
  · skip
    have := mt (iL_eq ha hb).mpr (mt (lg_cmp_eq _ _).mpr h)
    omega
  · skip
    have := (iL_eq ha hb).mp ((lg_cmp_eq _ _).mp h)
    omega
theorem y_icmp_lt (hE : YE x cc own ret nm nL RM) {a b : Int} {off : Int} (tgt : Nat) (ht : (pc : Int) + off = (tgt : Int)) (ha : (-2147483648 ≤ a ∧ a ≤ 2147483647)) (hb : (-2147483648 ≤ b ∧ b ≤ 2147483647)) (d : decode cc pc = .ok (.if_icmp .lt off, 3)) (kt : a < b → Y x n α K bc bs tgt lv st) (kf : b ≤ a → Y x n α K bc bs (pc + 3) lv st) : Y x n α K bc bs pc lv (.int (iI b) :: .int (iI a) :: st) := by
  intro H locs ls cells slots hR hS hl hc hs
  refine lv_icmp_lt hE.1 hE.2.1 d ht (fun h => kt ?_ H locs ls cells slots hR hS hl hc hs) (fun h => kf ?_ H locs ls cells slots hR hS hl hc hs)
  · skip
    have := (iI_lt ha hb).mp h
    omega
  · skip
    have := mt (iI_lt ha hb).mpr h
    omega
theorem y_if_lt (hE : YE x cc own ret nm nL RM) {a : Int} {off : Int} (tgt : Nat) (ht : (pc : Int) + off = (tgt : Int)) (ha : (-2147483648 ≤ a ∧ a ≤ 2147483647))  (d : decode cc pc = .ok (.ifCond .lt off, 3)) (kt : a < 0 → Y x n α K bc bs tgt lv st) (kf : 0 ≤ a → Y x n α K bc bs (pc + 3) lv st) : Y x n α K bc bs pc lv (.int (iI a) :: st) := by
  intro H locs ls cells slots hR hS hl hc hs
  refine lv_if_lt hE.1 hE.2.1 d ht (fun h => kt ?_ H locs ls cells slots hR hS hl hc hs) (fun h => kf ?_ H locs ls cells slots hR hS hl hc hs)
  · skip
    have h0 : -2147483648 ≤ (0 : Int) ∧ (0 : Int) ≤ 2147483647 := by omega
    rw [show (0 : Int32) = iI 0 from rfl] at h
    have := (iI_lt ha h0).mp h
    omega
  · skip
    have h0 : -2147483648 ≤ (0 : Int) ∧ (0 : Int) ≤ 2147483647 := by omega
    rw [show (0 : Int32) = iI 0 from rfl] at h
    have := mt (iI_lt ha h0).mpr h
    omega
theorem y_lcmp_lt (hE : YE x cc own ret nm nL RM) {a b : Int} {off : Int} (tgt : Nat) (ht : ((pc + 1 : Nat) : Int) + off = (tgt : Int)) (ha : (-9223372036854775808 ≤ a ∧ a ≤ 9223372036854775807)) (hb : (-9223372036854775808 ≤ b ∧ b ≤ 9223372036854775807)) (d : decode cc pc = .ok (.lcmp, 1)) (d2 : decode cc (pc + 1) = .ok (.ifCond .lt off, 3)) (kt : a < b → Y x n α K bc bs tgt lv st) (kf : b ≤ a → Y x n α K bc bs (pc + 1 + 3) lv st) : Y x n α K bc bs pc lv (.long (iL b) :: .long (iL a) :: st) := by
  intro H locs ls cells slots hR hS hl hc hs
  refine W.lcmp hE.1 hE.2.1 d ?_
  refine lv_if_lt hE.1 hE.2.1 d2 ht (fun h => kt ?_ H locs ls cells slots hR hS hl hc hs) (fun h => kf ?_ H locs ls cells slots hR hS hl hc hs)
  · skip
    have := (iL_lt ha hb).mp ((lg_cmp_lt _ _).mp h)
    omega
  · skip
    have := mt (iL_lt ha hb).mpr (mt (lg_cmp_lt _ _).mpr h)
    omega
theorem y_icmp_ge (hE : YE x cc own ret nm nL RM) {a b : Int} {off : Int} (tgt : Nat) (ht : (pc : Int) + off = (tgt : Int)) (ha : (-2147483648 ≤ a ∧ a ≤ 2147483647)) (hb : (-2147483648 ≤ b ∧ b ≤ 2147483647)) (d : decode cc pc = .ok (.if_icmp .ge off, 3)) (kt : b ≤ a → Y x n α K bc bs tgt lv st) (kf : a < b → Y x n α K bc bs (pc + 3) lv st) : Y x n α K bc bs pc lv (.int (iI b) :: .int (iI a) :: st) := by
  intro H locs ls cells slots hR hS hl hc hs
  refine lv_icmp_ge hE.1 hE.2.1 d ht (fun h => kt ?_ H locs ls cells slots hR hS hl hc hs) (fun h => kf ?_ H locs ls cells slots hR hS hl hc hs)
  · skip
    have := (iI_le hb ha).mp h
    omega
  · skip
    have := mt (iI_le hb ha).mpr h
    omega
theorem y_if_ge (hE : YE x cc own ret nm nL RM) {a : Int} {off : Int} (tgt : Nat) (ht : (pc : Int) + off = (tgt : Int)) (ha : (-2147483648 ≤ a ∧ a ≤ 2147483647))  (d : decode cc pc = .ok (.ifCond .ge off, 3)) (kt : 0 ≤ a → Y x n α K bc bs tgt lv st) (kf : a < 0 → Y x n α K bc bs (pc + 3) lv st) : Y x n α K bc bs pc lv (.int (iI a) :: st) := by
  intro H locs ls cells slots hR hS hl hc hs
  refine lv_if_ge hE.1 hE.2.1 d ht (fun h => kt ?_ H locs ls cells slots hR hS hl hc hs) (fun h => kf ?_ H locs ls cells slots hR hS hl hc hs)
  · skip
    have h0 : -2147483648 ≤ (0 : Int) ∧ (0 : Int) ≤ 2147483647 := by omega
    rw [show (0 : Int32) = iI 0 from rfl] at h
    have := (iI_le h0 ha).mp h
    omega
  · skip
    have h0 : -2147483648 ≤ (0 : Int) ∧ (0 : Int) ≤ 2147483647 := by omega
    rw [show (0 : Int32) = iI 0 from rfl] at h
    have := mt (iI_le h0 ha).mpr h
    omega
theorem y_lcmp_ge (hE : YE x cc own ret nm nL RM) {a b : Int} {off : Int} (tgt : Nat) (ht : ((pc + 1 : Nat) : Int) + off = (tgt : Int)) (ha : (-9223372036854775808 ≤ a ∧ a ≤ 9223372036854775807)) (hb : (-9223372036854775808 ≤ b ∧ b ≤ 9223372036854775807)) (d : decode cc pc = .ok (.lcmp, 1)) (d2 : decode cc (pc + 1) = .ok (.ifCond .ge off, 3)) (kt : b ≤ a → Y x n α K bc bs tgt lv st) (kf : a < b → Y x n α K bc bs (pc + 1 + 3) lv st) : Y x n α K bc bs pc lv (.long (iL b) :: .long (iL a) :: st) := by
  intro H locs ls cells slots hR hS hl hc hs
  refine W.lcmp hE.1 hE.2.1 d ?_
  refine lv_if_ge hE.1 hE.2.1 d2 ht (fun h => kt ?_ H locs ls cells slots hR hS hl hc hs) (fun h => kf ?_ H locs ls cells slots hR hS hl hc hs)
  · skip
    have := (iL_le hb ha).mp ((lg_cmp_ge _ _).mp h)
    omega
  · skip
    have := mt (iL_le hb ha).mpr (mt (lg_cmp_ge _ _).mpr h)
    omega
theorem y_icmp_gt (hE : YE x cc own ret nm nL RM) {a b : Int} {off : Int} (tgt : Nat) (ht : (pc : Int) + off = (tgt : Int)) (ha : (-2147483648 ≤ a ∧ a ≤ 2147483647)) (hb : (-2147483648 ≤ b ∧ b ≤ 2147483647)) (d : decode cc pc = .ok (.if_icmp .gt off, 3)) (kt : b < a → Y x n α K bc bs tgt lv st) (kf : a ≤ b → Y x n α K bc bs (pc + 3) lv st) : Y x n α K bc bs pc lv (.int (iI b) :: .int (iI a) :: st) := by
  intro H locs ls cells slots hR hS hl hc hs
  refine lv_icmp_gt hE.1 hE.2.1 d ht (fun h => kt ?_ H locs ls cells slots hR hS hl hc hs) (fun h => kf ?_ H locs ls cells slots hR hS hl hc hs)
  · skip
    have := (iI_lt hb ha).mp h
    omega
  · skip
    have := mt (iI_lt hb ha).mpr h
    omega
theorem y_if_gt (hE : YE x cc own ret nm nL RM) {a : Int} {off : Int} (tgt : Nat) (ht : (pc : Int) + off = (tgt : Int)) (ha : (-2147483648 ≤ a ∧ a ≤ 2147483647))  (d : decode cc pc = .ok (.ifCond .gt off, 3)) (kt : 0 < a → Y x n α K bc bs tgt lv st) (kf : a ≤ 0 → Y x n α K bc bs (pc + 3) lv st) : Y x n α K bc bs pc lv (.int (iI a) :: st) := by
  intro H locs ls cells slots hR hS hl hc hs
  refine lv_if_gt hE.1 hE.2.1 d ht (fun h => kt ?_ H locs ls cells slots hR hS hl hc hs) (fun h => kf ?_ H locs ls cells slots hR hS hl hc hs)
  · skip
    have h0 : -2147483648 ≤ (0 : Int) ∧ (0 : Int) ≤ 2147483647 := by omega
    rw [show (0 : Int32) = iI 0 from rfl] at h
    have := (iI_lt h0 ha).mp h
    omega
  · skip
    have h0 : -2147483648 ≤ (0 : Int) ∧ (0 : Int) ≤ 2147483647 := by omega
    rw [show (0 : Int32) = iI 0 from rfl] at h
    have := mt (iI_lt h0 ha).mpr h
    omega
theorem y_lcmp_gt (hE : YE x cc own ret nm nL RM) {a b : Int} {off : Int} (tgt : Nat) (ht : ((pc + 1 : Nat) : Int) + off = (tgt : Int)) (ha : (-9223372036854775808 ≤ a ∧ a ≤ 9223372036854775807)) (hb : (-9223372036854775808 ≤ b ∧ b ≤ 9223372036854775807)) (d : decode cc pc = .ok (.lcmp, 1)) (d2 : decode cc (pc + 1) = .ok (.ifCond .gt off, 3)) (kt : b < a → Y x n α K bc bs tgt lv st) (kf : a ≤ b → Y x n α K bc bs (pc + 1 + 3) lv st) : Y x n α K bc bs pc lv (.long (iL b) :: .long (iL a) :: st) := by
  intro H locs ls cells slots hR hS hl hc hs
  refine W.lcmp hE.1 hE.2.1 d ?_
  refine lv_if_gt hE.1 hE.2.1 d2 ht (fun h => kt ?_ H locs ls cells slots hR hS hl hc hs) (fun h => kf ?_ H locs ls cells slots hR hS hl hc hs)
  · skip
    have := (iL_lt hb ha).mp ((lg_cmp_gt _ _).mp h)
    omega
  · skip
    have := mt (iL_lt hb ha).mpr (mt (lg_cmp_gt _ _).mpr h)
    omega
theorem y_icmp_le (hE : YE x cc own ret nm nL RM) {a b : Int} {off : Int} (tgt : Nat) (ht : (pc : Int) + off = (tgt : Int)) (ha : (-2147483648 ≤ a ∧ a ≤ 2147483647)) (hb : (-2147483648 ≤ b ∧ b ≤ 2147483647)) (d : decode cc pc = .ok (.if_icmp .le off, 3)) (kt : a ≤ b → Y x n α K bc bs tgt lv st) (kf : b < a → Y x n α K bc bs (pc + 3) lv st) : Y x n α K bc bs pc lv (.int (iI b) :: .int (iI a) :: st) := by
  intro H locs ls cells slots hR hS hl hc hs
  refine lv_icmp_le hE.1 hE.2.1 d ht (fun h => kt ?_ H locs ls cells slots hR hS hl hc hs) (fun h => kf ?_ H locs ls cells slots hR hS hl hc hs)
  · skip
    have := (iI_le ha hb).mp h
    omega
  · skip
    have := mt (iI_le ha hb).mpr h
    omega
theorem y_if_le (hE : YE x cc own ret nm nL RM) {a : Int} {off : Int} (tgt : Nat) (ht : (pc : Int) + off = (tgt : Int)) (ha : (-2147483648 ≤ a ∧ a ≤ 2147483647))  (d : decode cc pc = .ok (.ifCond .le off, 3)) (kt : a ≤ 0 → Y x n α K bc bs tgt lv st) (kf : 0 < a → Y x n α K bc bs (pc + 3) lv st) : Y x n α K bc bs pc lv (.int (iI a) :: st) := by
  intro H locs ls cells slots hR hS hl hc hs
  refine lv_if_le hE.1 hE.2.1 d ht (fun h => kt ?_ H locs ls cells slots hR hS hl hc hs) (fun h => kf ?_ H locs ls cells slots hR hS hl hc hs)
  · skip
    have h0 : -2147483648 ≤ (0 : Int) ∧ (0 : Int) ≤ 2147483647 := by omega
    rw [show (0 : Int32) = iI 0 from rfl] at h
    have := (iI_le ha h0).mp h
    omega
  · skip
    have h0 : -2147483648 ≤ (0 : Int) ∧ (0 : Int) ≤ 2147483647 := by omega
    rw [show (0 : Int32) = iI 0 from rfl] at h
    have := mt (iI_le ha h0).mpr h
    omega
theorem y_lcmp_le (hE : YE x cc own ret nm nL RM) {a b : Int} {off : Int} (tgt : Nat) (ht : ((pc + 1 : Nat) : Int) + off = (tgt : Int)) (ha : (-9223372036854775808 ≤ a ∧ a ≤ 9223372036854775807)) (hb : (-9223372036854775808 ≤ b ∧ b ≤ 9223372036854775807)) (d : decode cc pc = .ok (.lcmp, 1)) (d2 : decode cc (pc + 1) = .ok (.ifCond .le off, 3)) (kt : a ≤ b → Y x n α K bc bs tgt lv st) (kf : b < a → Y x n α K bc bs (pc + 1 + 3) lv st) : Y x n α K bc bs pc lv (.long (iL b) :: .long (iL a) :: st) := by
  intro H locs ls cells slots hR hS hl hc hs
  refine W.lcmp hE.1 hE.2.1 d ?_
  refine lv_if_le hE.1 hE.2.1 d2 ht (fun h => kt ?_ H locs ls cells slots hR hS hl hc hs) (fun h => kf ?_ H locs ls cells slots hR hS hl hc hs)
  · skip
    have := (iL_le ha hb).mp ((lg_cmp_le _ _).mp h)
    omega
  · skip
    have := mt (iL_le ha hb).mpr (mt (lg_cmp_le _ _).mpr h)
    omega
theorem y_goto (hE : YE x cc own ret nm nL RM) {off : Int} (tgt : Nat) (ht : (pc : Int) + off = (tgt : Int)) (d : decode cc pc = .ok (.goto off, 3)) (k : Y x n α K bc bs tgt lv st) : Y x n α K bc bs pc lv st := by
  intro H locs ls cells slots hR hS hl hc hs
  refine lv_goto hE.1 hE.2.1 d ht ?_
  exact k H locs ls cells slots hR hS hl hc hs
theorem y_ifnonnull (hE : YE x cc own ret nm nL RM) {kd : Nat} {z off : Int} (tgt : Nat) (ht : (pc : Int) + off = (tgt : Int)) (d : decode cc pc = .ok (.ifnonnull off, 3)) (kt : 0 ≤ z → Y x n α K bc bs tgt lv st) (kf : z < 0 → Y x n α K bc bs (pc + 3) lv st) : Y x n α K bc bs pc lv (refV α kd z :: st) := by
  intro H locs ls cells slots hR hS hl hc hs
  by_cases h : z < 0
  · rw [refV_n h]
    exact lv_ifnonnullN hE.1 hE.2.1 d (kf h H locs ls cells slots hR hS hl hc hs)
  · rw [refV_s (by omega)]
    exact lv_ifnonnull hE.1 hE.2.1 d ht (kt (by omega) H locs ls cells slots hR hS hl hc hs)
theorem y_ifnull (hE : YE x cc own ret nm nL RM) {kd : Nat} {z off : Int} (tgt : Nat) (ht : (pc : Int) + off = (tgt : Int)) (d : decode cc pc = .ok (.ifnull off, 3)) (kt : z < 0 → Y x n α K bc bs tgt lv st) (kf : 0 ≤ z → Y x n α K bc bs (pc + 3) lv st) : Y x n α K bc bs pc lv (refV α kd z :: st) := by
  intro H locs ls cells slots hR hS hl hc hs
  by_cases h : z < 0
  · rw [refV_n h]
    exact lv_ifnullN hE.1 hE.2.1 d ht (kt h H locs ls cells slots hR hS hl hc hs)
  · rw [refV_s (by omega)]
    exact lv_ifnull hE.1 hE.2.1 d (kf (by omega) H locs ls cells slots hR hS hl hc hs)
theorem y_ifnullR (hE : YE x cc own ret nm nL RM) {a : Nat} {off : Int} (d : decode cc pc = .ok (.ifnull off, 3)) (k : Y x n α K bc bs (pc + 3) lv st) : Y x n α K bc bs pc lv (.ref a :: st) := by
  intro H locs ls cells slots hR hS hl hc hs
  refine lv_ifnull hE.1 hE.2.1 d ?_
  exact k H locs ls cells slots hR hS hl hc hs
theorem y_ifnonnullN (hE : YE x cc own ret nm nL RM) {off : Int} (d : decode cc pc = .ok (.ifnonnull off, 3)) (k : Y x n α K bc bs (pc + 3) lv st) : Y x n α K bc bs pc lv (.null :: st) := by
  intro H locs ls cells slots hR hS hl hc hs
  refine lv_ifnonnullN hE.1 hE.2.1 d ?_
  exact k H locs ls cells slots hR hS hl hc hs
theorem y_ifnonnullR (hE : YE x cc own ret nm nL RM) {a : Nat} {off : Int} (tgt : Nat) (ht : (pc : Int) + off = (tgt : Int)) (d : decode cc pc = .ok (.ifnonnull off, 3)) (k : Y x n α K bc bs tgt lv st) : Y x n α K bc bs pc lv (.ref a :: st) := by
  intro H locs ls cells slots hR hS hl hc hs
  refine lv_ifnonnull hE.1 hE.2.1 d ht ?_
  exact k H locs ls cells slots hR hS hl hc hs
theorem y_ifnullN (hE : YE x cc own ret nm nL RM) {off : Int} (tgt : Nat) (ht : (pc : Int) + off = (tgt : Int)) (d : decode cc pc = .ok (.ifnull off, 3)) (k : Y x n α K bc bs tgt lv st) : Y x n α K bc bs pc lv (.null :: st) := by
  intro H locs ls cells slots hR hS hl hc hs
  refine lv_ifnullN hE.1 hE.2.1 d ht ?_
  exact k H locs ls cells slots hR hS hl hc hs
theorem y_acmp_eq (hE : YE x cc own ret nm nL RM) {rx ry : Option Nat} {off : Int} (tgt : Nat) (ht : (pc : Int) + off = (tgt : Int)) (d : decode cc pc = .ok (.if_acmp .eq off, 3)) (kt : rx = ry → Y x n α K bc bs tgt lv st) (kf : ¬ rx = ry → Y x n α K bc bs (pc + 3) lv st) : Y x n α K bc bs pc lv (va_rf ry :: va_rf rx :: st) := by
  intro H locs ls cells slots hR hS hl hc hs
  exact lv_acmp_eq hE.1 hE.2.1 d ht (fun h => kt h H locs ls cells slots hR hS hl hc hs) (fun h => kf h H locs ls cells slots hR hS hl hc hs)
theorem y_acmp_ne (hE : YE x cc own ret nm nL RM) {rx ry : Option Nat} {off : Int} (tgt : Nat) (ht : (pc : Int) + off = (tgt : Int)) (d : decode cc pc = .ok (.if_acmp .ne off, 3)) (kt : ¬ rx = ry → Y x n α K bc bs tgt lv st) (kf : rx = ry → Y x n α K bc bs (pc + 3) lv st) : Y x n α K bc bs pc lv (va_rf ry :: va_rf rx :: st) := by
  intro H locs ls cells slots hR hS hl hc hs
  exact lv_acmp_ne hE.1 hE.2.1 d ht (fun h => kt h H locs ls cells slots hR hS hl hc hs) (fun h => kf h H locs ls cells slots hR hS hl hc hs)
theorem y_lv (ks : List Nat) (lv' : List (Nat × Value)) (h : lv_pick lv ks = lv') (k : Y x n α K bc bs pc lv' st) : Y x n α K bc bs pc lv st := by
  intro H locs ls cells slots hR hS hl hc hs
  exact k H locs ls cells slots hR hS (lv_sub hl ks h) hc hs
theorem y_to {K' : KS} {lv' : List (Nat × Value)} {st' : List Value} (h : K = K') (h2 : lv = lv') (h3 : st = st') (k : Y x n α K' bc bs pc lv' st') : Y x n α K bc bs pc lv st := by
  subst h; subst h2; subst h3; exact k
theorem y_bud {bc' bs' : Nat} (h : bc' ≤ bc) (h2 : bs' ≤ bs) (k : Y x n α K bc' bs' pc lv st) : Y x n α K bc bs pc lv st := by
  intro H locs ls cells slots hR hS hl hc hs
  exact k H locs ls cells slots hR hS hl (by omega) (by omega)
theorem y_wk (k : WK n K → Y x n α K bc bs pc lv st) : Y x n α K bc bs pc lv st := by
  intro H locs ls cells slots hR hS hl hc hs
  obtain ⟨L, G, h1, h2, h3, h4, h5, h6⟩ := hR
  exact k h6 H locs ls cells slots ⟨L, G, h1, h2, h3, h4, h5, h6⟩ hS hl hc hs
theorem y_tsw (hE : YE x cc own ret nm nL RM) {a dflt lo hi : Int} {offs : Array Int} {len : Nat} (ha : (-2147483648 ≤ a ∧ a ≤ 2147483647)) (d : decode cc pc = .ok (.tableswitch dflt lo hi offs, len)) (off : Int) (tgt : Nat) (h1 : lo ≤ a ∧ a ≤ hi) (ho : offs[(a - lo).toNat]? = some off) (ht : (pc : Int) + off = (tgt : Int)) (k : Y x n α K bc bs tgt lv st) : Y x n α K bc bs pc lv (.int (iI a) :: st) := by
  intro H locs ls cells slots hR hS hl hc hs
  refine lv_tableIn hE.1 hE.2.1 d (by rw [iI_toInt ha.1 ha.2]; omega) (by rw [iI_toInt ha.1 ha.2]; omega) (by rw [iI_toInt ha.1 ha.2]; exact ho) ht ?_
  exact k H locs ls cells slots hR hS hl hc hs
theorem y_tswD (hE : YE x cc own ret nm nL RM) {a dflt lo hi : Int} {offs : Array Int} {len : Nat} (ha : (-2147483648 ≤ a ∧ a ≤ 2147483647)) (d : decode cc pc = .ok (.tableswitch dflt lo hi offs, len)) (tgt : Nat) (h1 : a < lo ∨ hi < a) (ht : (pc : Int) + dflt = (tgt : Int)) (k : Y x n α K bc bs tgt lv st) : Y x n α K bc bs pc lv (.int (iI a) :: st) := by
  intro H locs ls cells slots hR hS hl hc hs
  refine lv_tableOut hE.1 hE.2.1 d (by rw [iI_toInt ha.1 ha.2]; exact h1) ht ?_
  exact k H locs ls cells slots hR hS hl hc hs
theorem y_lsw (hE : YE x cc own ret nm nL RM) {a dflt : Int} {ps : Array (Int × Int)} {len : Nat} (ha : (-2147483648 ≤ a ∧ a ≤ 2147483647)) (d : decode cc pc = .ok (.lookupswitch dflt ps, len)) (hp : (ps.toList.zip (ps.toList.drop 1)).all (fun (a, next) => a.1 < next.1) = true) (off : Int) (tgt : Nat) (ho : Op.lookupswitch.offset ps.toList dflt a = off) (ht : (pc : Int) + off = (tgt : Int)) (k : Y x n α K bc bs tgt lv st) : Y x n α K bc bs pc lv (.int (iI a) :: st) := by
  intro H locs ls cells slots hR hS hl hc hs
  refine lv_lookup hE.1 hE.2.1 d hp (by rw [iI_toInt ha.1 ha.2]; exact ho) ht ?_
  exact k H locs ls cells slots hR hS hl hc hs
theorem y_iret (hE : YE x cc own ret nm nL RM) {w : KW} {n0 : KN} {α0 : KA} {r : Int} {post : Int → KN → KA → KS → Prop} {ty : FieldType} (hr : ret = some ty) (hn : narrow ty (.int (iI r)) = .int (iI r)) (hQ : YQ x w n0 α0 (0, 0) post) (d : decode cc pc = .ok (.ireturn, 1)) (hX : Ext n0 α0 n α) (hp : post r n α K) : Y x n α K bc bs pc lv [.int (iI r)] := by
  intro H locs ls cells slots hR hS hl hc hs
  obtain ⟨hQ, rfl⟩ := hQ
  rw [hQ]
  refine W.widen (k := x.2.2.2.1.cells) (n := x.2.2.2.1.slots) (by omega) (by omega) ?_
  exact W.zret (v := iI r) hE.1 hE.2.1 (hE.2.2.2.2.2.1.trans hr) hn (fun t ht hW => ⟨⟨r, n, α, K, rfl, by rw [ht]; exact hR, hX, hp⟩, hS.F ht⟩) hS.2.2 d hE.2.2.2.2.2.2.2.1
theorem y_lret (hE : YE x cc own ret nm nL RM) {w : KW} {n0 : KN} {α0 : KA} {r : Int} {post : Int → KN → KA → KS → Prop} (hr : ret = some .long) (hQ : YQ x w n0 α0 (1, 0) post) (d : decode cc pc = .ok (.lreturn, 1)) (hX : Ext n0 α0 n α) (hp : post r n α K) : Y x n α K bc bs pc lv [.long (iL r)] := by
  intro H locs ls cells slots hR hS hl hc hs
  obtain ⟨hQ, rfl⟩ := hQ
  rw [hQ]
  refine W.widen (k := x.2.2.2.1.cells) (n := x.2.2.2.1.slots) (by omega) (by omega) ?_
  exact W.lret (v := iL r) hE.1 hE.2.1 (hE.2.2.2.2.2.1.trans hr) (fun t ht hW => ⟨⟨r, n, α, K, rfl, by rw [ht]; exact hR, hX, hp⟩, hS.F ht⟩) hS.2.2 d hE.2.2.2.2.2.2.2.1
theorem y_vret (hE : YE x cc own ret nm nL RM) {w : KW} {n0 : KN} {α0 : KA} {r : Int} {post : Int → KN → KA → KS → Prop} (hr : ret = none) (hQ : YQ x w n0 α0 (3, 0) post) (d : decode cc pc = .ok (.return_, 1)) (hX : Ext n0 α0 n α) (hp : post r n α K) : Y x n α K bc bs pc lv [] := by
  intro H locs ls cells slots hR hS hl hc hs
  obtain ⟨hQ, rfl⟩ := hQ
  rw [hQ]
  refine W.widen (k := x.2.2.2.1.cells) (n := x.2.2.2.1.slots) (by omega) (by omega) ?_
  exact W.vret hE.1 hE.2.1 (hE.2.2.2.2.2.1.trans hr) (fun t ht hW => ⟨⟨r, n, α, K, rfl, by rw [ht]; exact hR, hX, hp⟩, hS.F ht⟩) hS.2.2 d hE.2.2.2.2.2.2.2.1
theorem y_aret (hE : YE x cc own ret nm nL RM) {w : KW} {n0 : KN} {α0 : KA} {r : Int} {post : Int → KN → KA → KS → Prop} {kd : Nat} {rt : FieldType} (hr : ret = some rt) (hrt : (∃ n, rt = .object n) ∨ ∃ t, rt = .array t) (hQ : YQ x w n0 α0 (2, kd) post) (d : decode cc pc = .ok (.areturn, 1)) (hX : Ext n0 α0 n α) (hp : post r n α K) : Y x n α K bc bs pc lv [refV α kd r] := by
  intro H locs ls cells slots hR hS hl hc hs
  obtain ⟨hQ, rfl⟩ := hQ
  rw [hQ]
  refine W.widen (k := x.2.2.2.1.cells) (n := x.2.2.2.1.slots) (by omega) (by omega) ?_
  exact W.aret (v := refV α kd r) hE.1 hE.2.1 (hE.2.2.2.2.2.1.trans hr) hrt (va_rf_or _) (fun t ht hW => ⟨⟨r, n, α, K, rfl, by rw [ht]; exact hR, hX, hp⟩, hS.F ht⟩) hS.2.2 d hE.2.2.2.2.2.2.2.1
end KROWS
