set_option linter.unusedVariables false
section KFIELDS
variable {x : YX} {cc : ByteArray} {own nm : String} {ret : Option FieldType} {nL : Nat} {RM : Room} {n : KN} {α : KA} {K : KS} {bc bs pc : Nat} {lv : List (Nat × Value)} {st : List Value}
/-- a final field, in the constructor of its class -/
theorem y_putF (hE : YE x cc own ret nm nL RM) {k : Nat} {i z : Int} (f : Nat) (fi : Int) {ci N index : Nat} {T : u_T} {C ref : String} {codes : List (Nat × Nat)} {c : Nat × Nat} (hk : ¬ kC k) (hd : kD K k i = .inl (ci, codes)) (hc : kCl[ci]? = some (C, T, N)) (hcode : codes[f]? = some c) (hf : (f : Int) = fi)
    (hin : ∀ w ∈ u_ws C T N, w ∈ lw_all) (ty0 : Nat → FieldType) (hty : ∀ k, k < N → parseFieldDescriptor (T k).2.2.1 = some (ty0 k)) (hnm : ∀ a, a < N → ∀ b, b < N → a ≠ b → (T a).2.1 ≠ (T b).2.1) (hfN : f < N) (hlen : codes.length = N) (hlink : Cond.fieldLink own index ref (T f).2.1 (T f).2.2.1 ∈ lw_all) (hsame : ∀ z, x.2.2.2.2.1.fieldFound? (T f).1 (T f).2.1 (T f).2.2.1 = some z → x.2.2.2.2.1.fieldFound? ref (T f).2.1 (T f).2.2.1 = some z)
    (hfin : (T f).2.2.2 = true) (hini : nm = "<init>") (hdecl : (T f).1 = own) (ht : kTag k fi = false) {v : Value} (hv : v = fval α c z) (hn : narrow (ty0 f) v = v) (hfit : fits (ty0 f) v = true)
    (hi : 0 ≤ i ∧ i < n k) (hz : c.1 = 2 → z < n c.2) (d : decode cc pc = .ok (.putfield index, 3)) (kk : Y x n α (up3 K k i fi z) bc bs (pc + 3) lv st) : Y x n α K bc bs pc lv (v :: .ref (α k i) :: st) := by
  intro H locs ls cells slots hR hS hl hcb hs
  obtain ⟨L, G, hP, hD, h1, h2, h3, h4⟩ := hR
  obtain ⟨m1, m2⟩ := h1 k i hk hi.1 hi.2
  obtain ⟨q0, hq⟩ := va_pl_get (X := []) (f := G) m1
  have hq : (va_pl L G)[q0]? = some (α k i, G (α k i)) := hq
  have hq2 := hq
  rw [m2, cont_o hd] at hq2
  refine va_putF (C := C) (T := T) (N := N) (ty := ty0 f) hE.1 hE.2.1 hE.2.2.2.2.1 hin ty0 hty hnm hE.2.2.2.1 (yK hE) hP hD hS q0 hq2 hc f hfN (hE.2.2.2.2.1 _ hlink) hsame hfin (hE.2.2.2.2.2.2.1.trans hini) hdecl (hty f hfN) hn hfit (by rw [fvs_len, hlen]; exact hfN) d (fun H1 locs1 hP1 hD1 hS1 => ?_)
  subst hv
  refine kk H1 locs1 ls cells slots (cr_set hP hD h1 h2 h3 (wk_put h4 hd ht hcode hf hz) hk hi (fun k' i' g hne => ?_) hq (cont_put hd ht hcode hf) hP1 hD1) hS1 hl hcb hs
  unfold up3
  rw [if_neg]
  rintro ⟨rfl, -, rfl⟩
  rcases hne with h | h <;> exact h rfl
theorem kD_clip {i : Int} (h : K 8 i 9 = 0) : kD K 8 i = .inl (7, [(2, 6)]) := if_pos h
theorem kD_line {i : Int} (h : ¬ K 8 i 9 = 0) : kD K 8 i = .inl (8, [(2, 5), (2, 41), (2, 42), (0, 0)]) := if_neg h
theorem nar_b {z : Int} (h : z = 0 ∨ z = 1) : narrow .boolean (.int (iI z)) = .int (iI z) ∧ fits .boolean (.int (iI z)) = true := by
  rcases h with rfl | rfl <;> exact ⟨rfl, rfl⟩
theorem nar_by {z : Int} (h : -128 ≤ z ∧ z ≤ 127) : narrow .byte (.int (iI z)) = .int (iI z) ∧ fits .byte (.int (iI z)) = true := by
  have e : (iI z).toInt8.toInt32 = iI z := by
    apply Int32.toInt_inj.mp
    rw [iI_toInt (by omega) (by omega), Int8.toInt_toInt32, Int32.toInt_toInt8, iI_toInt (by omega) (by omega)]
    exact Int.bmod_eq_of_le (by omega) (by omega)
  have h1 := pk_nb (iI z)
  have h2 := pk_fb (iI z)
  rw [e] at h1 h2
  exact ⟨h1, h2⟩
theorem nar_r {C : String} {α : KA} {k : Nat} {z : Int} : narrow (.object C) (refV α k z) = refV α k z ∧ fits (.object C) (refV α k z) = true := by
  by_cases h : z < 0
  · rw [refV_n h]; exact ⟨rfl, rfl⟩
  · rw [refV_s (by omega)]; exact ⟨rfl, rfl⟩
theorem nar_ra {t : FieldType} {α : KA} {k : Nat} {z : Int} : narrow (.array t) (refV α k z) = refV α k z ∧ fits (.array t) (refV α k z) = true := by
  by_cases h : z < 0
  · rw [refV_n h]; exact ⟨rfl, rfl⟩
  · rw [refV_s (by omega)]; exact ⟨rfl, rfl⟩
theorem pJ1_7 (hE : YE x cc RJ1 ret nm nL RM) {i z : Int} {k kd : Nat} (hd : kD K k i = .inl (16, [(0, 0), (2, kd), (0, 0)])) (hk : ¬ kC k) (hi : 0 ≤ i ∧ i < n k) (d : decode cc pc = .ok (.putfield 7, 3)) (kk : Y x n α (up3 K k i 0 z) bc bs (pc + 3) lv st) : Y x n α K bc bs pc lv (.int (iI z) :: .ref (α k i) :: st) :=
  y_put hE 0 0 (C := RJ2) (T := TJ2) (N := 3) (ci := 16) hk hd rfl rfl rfl in_J2 tyJ2 tyJ2_ok nmJ2 (by decide) rfl q507 (fun _ h => h) rfl (by simp [kTag]) rfl rfl rfl hi (fun h => absurd h (by decide)) d kk
theorem gJ2_9 (hE : YE x cc RJ2 ret nm nL RM) {i z : Int} {k kd : Nat} (hd : kD K k i = .inl (16, [(0, 0), (2, kd), (0, 0)])) (hi : 0 ≤ i ∧ i < n k) (hz : K k i 1 = z) (d : decode cc pc = .ok (.getfield 9, 3)) (kk : z < n kd → Y x n α K bc bs (pc + 3) lv (refV α kd z :: st)) : Y x n α K bc bs pc lv (.ref (α k i) :: st) :=
  y_getv hE 1 1 (C := RJ2) (T := TJ2) (N := 3) (ci := 16) hd rfl rfl rfl in_J2 (by decide) q505 (fun _ h => h) hi d (by subst hz; exact kk)
theorem gJ2_9r (hE : YE x cc RJ2 ret nm nL RM) {i z : Int} {k kd : Nat} (hd : kD K k i = .inl (16, [(0, 0), (2, kd), (0, 0)])) (hi : 0 ≤ i ∧ i < n k) (hz : K k i 1 = z) (h0 : 0 ≤ z) (d : decode cc pc = .ok (.getfield 9, 3)) (kk : 0 ≤ z ∧ z < n kd → Y x n α K bc bs (pc + 3) lv (.ref (α kd z) :: st)) : Y x n α K bc bs pc lv (.ref (α k i) :: st) :=
  gJ2_9 hE hd hi hz d (fun h => y_ref h0 (kk ⟨h0, h⟩))
theorem pJ2_9 (hE : YE x cc RJ2 ret nm nL RM) {i z : Int} {k kd : Nat} (hd : kD K k i = .inl (16, [(0, 0), (2, kd), (0, 0)])) (hk : ¬ kC k) (hi : 0 ≤ i ∧ i < n k) (hz : z < n kd) (d : decode cc pc = .ok (.putfield 9, 3)) (kk : Y x n α (up3 K k i 1 z) bc bs (pc + 3) lv st) : Y x n α K bc bs pc lv (refV α kd z :: .ref (α k i) :: st) :=
  y_put hE 1 1 (C := RJ2) (T := TJ2) (N := 3) (ci := 16) hk hd rfl rfl rfl in_J2 tyJ2 tyJ2_ok nmJ2 (by decide) rfl q505 (fun _ h => h) rfl (by simp [kTag]) rfl nar_ra.1 nar_ra.2 hi (fun _ => hz) d kk
theorem pJ2_9r (hE : YE x cc RJ2 ret nm nL RM) {i z : Int} {k kd : Nat} (hd : kD K k i = .inl (16, [(0, 0), (2, kd), (0, 0)])) (hk : ¬ kC k) (hi : 0 ≤ i ∧ i < n k) (hz : 0 ≤ z ∧ z < n kd) (d : decode cc pc = .ok (.putfield 9, 3)) (kk : Y x n α (up3 K k i 1 z) bc bs (pc + 3) lv st) : Y x n α K bc bs pc lv (.ref (α kd z) :: .ref (α k i) :: st) := by
  rw [← refV_s (α := α) (j := kd) hz.1]
  exact pJ2_9 hE hd hk hi hz.2 d kk
theorem gJ2_48 (hE : YE x cc RJ2 ret nm nL RM) {i z : Int} {k kd : Nat} (hd : kD K k i = .inl (16, [(0, 0), (2, kd), (0, 0)])) (hi : 0 ≤ i ∧ i < n k) (hz : K k i 2 = z) (d : decode cc pc = .ok (.getfield 48, 3)) (kk : Y x n α K bc bs (pc + 3) lv (.int (iI z) :: st)) : Y x n α K bc bs pc lv (.ref (α k i) :: st) :=
  y_get hE 2 2 (C := RJ2) (T := TJ2) (N := 3) (ci := 16) hd rfl rfl rfl in_J2 (by decide) q506 (fun _ h => h) hi d (by subst hz; exact kk)
theorem pJ2_48 (hE : YE x cc RJ2 ret nm nL RM) {i z : Int} {k kd : Nat} (hd : kD K k i = .inl (16, [(0, 0), (2, kd), (0, 0)])) (hk : ¬ kC k) (hi : 0 ≤ i ∧ i < n k) (d : decode cc pc = .ok (.putfield 48, 3)) (kk : Y x n α (up3 K k i 2 z) bc bs (pc + 3) lv st) : Y x n α K bc bs pc lv (.int (iI z) :: .ref (α k i) :: st) :=
  y_put hE 2 2 (C := RJ2) (T := TJ2) (N := 3) (ci := 16) hk hd rfl rfl rfl in_J2 tyJ2 tyJ2_ok nmJ2 (by decide) rfl q506 (fun _ h => h) rfl (by simp [kTag]) rfl rfl rfl hi (fun h => absurd h (by decide)) d kk
theorem gJ2_63 (hE : YE x cc RJ2 ret nm nL RM) {i z : Int} {k kd : Nat} (hd : kD K k i = .inl (16, [(0, 0), (2, kd), (0, 0)])) (hi : 0 ≤ i ∧ i < n k) (hz : K k i 0 = z) (d : decode cc pc = .ok (.getfield 63, 3)) (kk : Y x n α K bc bs (pc + 3) lv (.int (iI z) :: st)) : Y x n α K bc bs pc lv (.ref (α k i) :: st) :=
  y_get hE 0 0 (C := RJ2) (T := TJ2) (N := 3) (ci := 16) hd rfl rfl rfl in_J2 (by decide) q508 (fun z h => u_same (hE.2.2.2.2.1 _ q509) z h) hi d (by subst hz; exact kk)
theorem pJ2_63 (hE : YE x cc RJ2 ret nm nL RM) {i z : Int} {k kd : Nat} (hd : kD K k i = .inl (16, [(0, 0), (2, kd), (0, 0)])) (hk : ¬ kC k) (hi : 0 ≤ i ∧ i < n k) (d : decode cc pc = .ok (.putfield 63, 3)) (kk : Y x n α (up3 K k i 0 z) bc bs (pc + 3) lv st) : Y x n α K bc bs pc lv (.int (iI z) :: .ref (α k i) :: st) :=
  y_put hE 0 0 (C := RJ2) (T := TJ2) (N := 3) (ci := 16) hk hd rfl rfl rfl in_J2 tyJ2 tyJ2_ok nmJ2 (by decide) rfl q508 (fun z h => u_same (hE.2.2.2.2.1 _ q509) z h) rfl (by simp [kTag]) rfl rfl rfl hi (fun h => absurd h (by decide)) d kk
theorem gJ27_10 (hE : YE x cc RJ27 ret nm nL RM) {i z : Int} (hi : 0 ≤ i ∧ i < n 66) (hz : K 66 i 0 = z) (d : decode cc pc = .ok (.getfield 10, 3)) (kk : z < n 67 → Y x n α K bc bs (pc + 3) lv (refV α 67 z :: st)) : Y x n α K bc bs pc lv (.ref (α 66 i) :: st) :=
  y_getv hE 0 0 (C := RJ27) (T := TJ27) (N := 1) (ci := 20) rfl rfl rfl rfl in_J27 (by decide) q1181 (fun _ h => h) hi d (by subst hz; exact kk)
theorem gJ27_10r (hE : YE x cc RJ27 ret nm nL RM) {i z : Int} (hi : 0 ≤ i ∧ i < n 66) (hz : K 66 i 0 = z) (h0 : 0 ≤ z) (d : decode cc pc = .ok (.getfield 10, 3)) (kk : 0 ≤ z ∧ z < n 67 → Y x n α K bc bs (pc + 3) lv (.ref (α 67 z) :: st)) : Y x n α K bc bs pc lv (.ref (α 66 i) :: st) :=
  gJ27_10 hE hi hz d (fun h => y_ref h0 (kk ⟨h0, h⟩))
theorem pJ27_10 (hE : YE x cc RJ27 ret nm nL RM) {i z : Int} (hi : 0 ≤ i ∧ i < n 66) (hz : z < n 67) (d : decode cc pc = .ok (.putfield 10, 3)) (kk : Y x n α (up3 K 66 i 0 z) bc bs (pc + 3) lv st) : Y x n α K bc bs pc lv (refV α 67 z :: .ref (α 66 i) :: st) :=
  y_put hE 0 0 (C := RJ27) (T := TJ27) (N := 1) (ci := 20) (by unfold kC; decide) rfl rfl rfl rfl in_J27 tyJ27 tyJ27_ok nmJ27 (by decide) rfl q1181 (fun _ h => h) rfl rfl rfl nar_r.1 nar_r.2 hi (fun _ => hz) d kk
theorem pJ27_10r (hE : YE x cc RJ27 ret nm nL RM) {i z : Int} (hi : 0 ≤ i ∧ i < n 66) (hz : 0 ≤ z ∧ z < n 67) (d : decode cc pc = .ok (.putfield 10, 3)) (kk : Y x n α (up3 K 66 i 0 z) bc bs (pc + 3) lv st) : Y x n α K bc bs pc lv (.ref (α 67 z) :: .ref (α 66 i) :: st) := by
  rw [← refV_s (α := α) (j := 67) hz.1]
  exact pJ27_10 hE hi hz.2 d kk
theorem gJ34_3 (hE : YE x cc RJ34 ret nm nL RM) {i z : Int} (hi : 0 ≤ i ∧ i < n 70) (hz : K 70 i 0 = z) (d : decode cc pc = .ok (.getfield 3, 3)) (kk : z < n 71 → Y x n α K bc bs (pc + 3) lv (refV α 71 z :: st)) : Y x n α K bc bs pc lv (.ref (α 70 i) :: st) :=
  y_getv hE 0 0 (C := RJ34) (T := TJ34) (N := 3) (ci := 23) rfl rfl rfl rfl in_J34 (by decide) q2594 (fun _ h => h) hi d (by subst hz; exact kk)
theorem gJ34_3r (hE : YE x cc RJ34 ret nm nL RM) {i z : Int} (hi : 0 ≤ i ∧ i < n 70) (hz : K 70 i 0 = z) (h0 : 0 ≤ z) (d : decode cc pc = .ok (.getfield 3, 3)) (kk : 0 ≤ z ∧ z < n 71 → Y x n α K bc bs (pc + 3) lv (.ref (α 71 z) :: st)) : Y x n α K bc bs pc lv (.ref (α 70 i) :: st) :=
  gJ34_3 hE hi hz d (fun h => y_ref h0 (kk ⟨h0, h⟩))
theorem pJ34_3 (hE : YE x cc RJ34 ret nm nL RM) {i z : Int} (hi : 0 ≤ i ∧ i < n 70) (hz : z < n 71) (d : decode cc pc = .ok (.putfield 3, 3)) (kk : Y x n α (up3 K 70 i 0 z) bc bs (pc + 3) lv st) : Y x n α K bc bs pc lv (refV α 71 z :: .ref (α 70 i) :: st) :=
  y_put hE 0 0 (C := RJ34) (T := TJ34) (N := 3) (ci := 23) (by unfold kC; decide) rfl rfl rfl rfl in_J34 tyJ34 tyJ34_ok nmJ34 (by decide) rfl q2594 (fun _ h => h) rfl rfl rfl nar_ra.1 nar_ra.2 hi (fun _ => hz) d kk
theorem pJ34_3r (hE : YE x cc RJ34 ret nm nL RM) {i z : Int} (hi : 0 ≤ i ∧ i < n 70) (hz : 0 ≤ z ∧ z < n 71) (d : decode cc pc = .ok (.putfield 3, 3)) (kk : Y x n α (up3 K 70 i 0 z) bc bs (pc + 3) lv st) : Y x n α K bc bs pc lv (.ref (α 71 z) :: .ref (α 70 i) :: st) := by
  rw [← refV_s (α := α) (j := 71) hz.1]
  exact pJ34_3 hE hi hz.2 d kk
theorem gJ34_20 (hE : YE x cc RJ34 ret nm nL RM) {i z : Int} (hi : 0 ≤ i ∧ i < n 70) (hz : K 70 i 2 = z) (d : decode cc pc = .ok (.getfield 20, 3)) (kk : Y x n α K bc bs (pc + 3) lv (.int (iI z) :: st)) : Y x n α K bc bs pc lv (.ref (α 70 i) :: st) :=
  y_get hE 2 2 (C := RJ34) (T := TJ34) (N := 3) (ci := 23) rfl rfl rfl rfl in_J34 (by decide) q2596 (fun _ h => h) hi d (by subst hz; exact kk)
theorem pJ34_20 (hE : YE x cc RJ34 ret nm nL RM) {i z : Int} (hi : 0 ≤ i ∧ i < n 70) (d : decode cc pc = .ok (.putfield 20, 3)) (kk : Y x n α (up3 K 70 i 2 z) bc bs (pc + 3) lv st) : Y x n α K bc bs pc lv (.int (iI z) :: .ref (α 70 i) :: st) :=
  y_put hE 2 2 (C := RJ34) (T := TJ34) (N := 3) (ci := 23) (by unfold kC; decide) rfl rfl rfl rfl in_J34 tyJ34 tyJ34_ok nmJ34 (by decide) rfl q2596 (fun _ h => h) rfl rfl rfl rfl rfl hi (fun h => absurd h (by decide)) d kk
theorem gJ34_24 (hE : YE x cc RJ34 ret nm nL RM) {i z : Int} (hi : 0 ≤ i ∧ i < n 70) (hz : K 70 i 1 = z) (d : decode cc pc = .ok (.getfield 24, 3)) (kk : Y x n α K bc bs (pc + 3) lv (.int (iI z) :: st)) : Y x n α K bc bs pc lv (.ref (α 70 i) :: st) :=
  y_get hE 1 1 (C := RJ34) (T := TJ34) (N := 3) (ci := 23) rfl rfl rfl rfl in_J34 (by decide) q2595 (fun _ h => h) hi d (by subst hz; exact kk)
theorem pJ34_24 (hE : YE x cc RJ34 ret nm nL RM) {i z : Int} (hi : 0 ≤ i ∧ i < n 70) (d : decode cc pc = .ok (.putfield 24, 3)) (kk : Y x n α (up3 K 70 i 1 z) bc bs (pc + 3) lv st) : Y x n α K bc bs pc lv (.int (iI z) :: .ref (α 70 i) :: st) :=
  y_put hE 1 1 (C := RJ34) (T := TJ34) (N := 3) (ci := 23) (by unfold kC; decide) rfl rfl rfl rfl in_J34 tyJ34 tyJ34_ok nmJ34 (by decide) rfl q2595 (fun _ h => h) rfl rfl rfl rfl rfl hi (fun h => absurd h (by decide)) d kk
theorem gJ7_15 (hE : YE x cc RJ7 ret nm nL RM) {i z : Int} (hi : 0 ≤ i ∧ i < n 28) (hz : K 28 i 0 = z) (d : decode cc pc = .ok (.getfield 15, 3)) (kk : z < n 58 → Y x n α K bc bs (pc + 3) lv (refV α 58 z :: st)) : Y x n α K bc bs pc lv (.ref (α 28 i) :: st) :=
  y_getv hE 0 0 (C := RJ8) (T := TJ8) (N := 4) (ci := 17) rfl rfl rfl rfl in_J8 (by decide) q249 (fun _ h => h) hi d (by subst hz; exact kk)
theorem gJ7_15r (hE : YE x cc RJ7 ret nm nL RM) {i z : Int} (hi : 0 ≤ i ∧ i < n 28) (hz : K 28 i 0 = z) (h0 : 0 ≤ z) (d : decode cc pc = .ok (.getfield 15, 3)) (kk : 0 ≤ z ∧ z < n 58 → Y x n α K bc bs (pc + 3) lv (.ref (α 58 z) :: st)) : Y x n α K bc bs pc lv (.ref (α 28 i) :: st) :=
  gJ7_15 hE hi hz d (fun h => y_ref h0 (kk ⟨h0, h⟩))
theorem pJ7_15 (hE : YE x cc RJ7 ret nm nL RM) {i z : Int} (hi : 0 ≤ i ∧ i < n 28) (hz : z < n 58) (d : decode cc pc = .ok (.putfield 15, 3)) (kk : Y x n α (up3 K 28 i 0 z) bc bs (pc + 3) lv st) : Y x n α K bc bs pc lv (refV α 58 z :: .ref (α 28 i) :: st) :=
  y_put hE 0 0 (C := RJ8) (T := TJ8) (N := 4) (ci := 17) (by unfold kC; decide) rfl rfl rfl rfl in_J8 tyJ8 tyJ8_ok nmJ8 (by decide) rfl q249 (fun _ h => h) rfl rfl rfl nar_ra.1 nar_ra.2 hi (fun _ => hz) d kk
theorem pJ7_15r (hE : YE x cc RJ7 ret nm nL RM) {i z : Int} (hi : 0 ≤ i ∧ i < n 28) (hz : 0 ≤ z ∧ z < n 58) (d : decode cc pc = .ok (.putfield 15, 3)) (kk : Y x n α (up3 K 28 i 0 z) bc bs (pc + 3) lv st) : Y x n α K bc bs pc lv (.ref (α 58 z) :: .ref (α 28 i) :: st) := by
  rw [← refV_s (α := α) (j := 58) hz.1]
  exact pJ7_15 hE hi hz.2 d kk
theorem gJ7_22 (hE : YE x cc RJ7 ret nm nL RM) {i z : Int} (hi : 0 ≤ i ∧ i < n 28) (hz : K 28 i 1 = z) (d : decode cc pc = .ok (.getfield 22, 3)) (kk : Y x n α K bc bs (pc + 3) lv (.int (iI z) :: st)) : Y x n α K bc bs pc lv (.ref (α 28 i) :: st) :=
  y_get hE 1 1 (C := RJ8) (T := TJ8) (N := 4) (ci := 17) rfl rfl rfl rfl in_J8 (by decide) q250 (fun _ h => h) hi d (by subst hz; exact kk)
theorem pJ7_22 (hE : YE x cc RJ7 ret nm nL RM) {i z : Int} (hi : 0 ≤ i ∧ i < n 28) (hz : -128 ≤ z ∧ z ≤ 127) (d : decode cc pc = .ok (.putfield 22, 3)) (kk : Y x n α (up3 K 28 i 1 z) bc bs (pc + 3) lv st) : Y x n α K bc bs pc lv (.int (iI z) :: .ref (α 28 i) :: st) :=
  y_put hE 1 1 (C := RJ8) (T := TJ8) (N := 4) (ci := 17) (by unfold kC; decide) rfl rfl rfl rfl in_J8 tyJ8 tyJ8_ok nmJ8 (by decide) rfl q250 (fun _ h => h) rfl rfl rfl (nar_by hz).1 (nar_by hz).2 hi (fun h => absurd h (by decide)) d kk
theorem pJ7_73 (hE : YE x cc RJ7 ret nm nL RM) {i z : Int} (hi : 0 ≤ i ∧ i < n 28) (hz : z = 0 ∨ z = 1) (d : decode cc pc = .ok (.putfield 73, 3)) (kk : Y x n α (up3 K 28 i 2 z) bc bs (pc + 3) lv st) : Y x n α K bc bs pc lv (.int (iI z) :: .ref (α 28 i) :: st) :=
  y_put hE 2 2 (C := RJ8) (T := TJ8) (N := 4) (ci := 17) (by unfold kC; decide) rfl rfl rfl rfl in_J8 tyJ8 tyJ8_ok nmJ8 (by decide) rfl q251 (fun _ h => h) rfl rfl rfl (nar_b hz).1 (nar_b hz).2 hi (fun h => absurd h (by decide)) d kk
theorem gJ7_79 (hE : YE x cc RJ7 ret nm nL RM) {i z : Int} (hi : 0 ≤ i ∧ i < n 28) (hz : K 28 i 3 = z) (d : decode cc pc = .ok (.getfield 79, 3)) (kk : Y x n α K bc bs (pc + 3) lv (.int (iI z) :: st)) : Y x n α K bc bs pc lv (.ref (α 28 i) :: st) :=
  y_get hE 3 3 (C := RJ8) (T := TJ8) (N := 4) (ci := 17) rfl rfl rfl rfl in_J8 (by decide) q253 (fun _ h => h) hi d (by subst hz; exact kk)
theorem pJ7_79 (hE : YE x cc RJ7 ret nm nL RM) {i z : Int} (hi : 0 ≤ i ∧ i < n 28) (d : decode cc pc = .ok (.putfield 79, 3)) (kk : Y x n α (up3 K 28 i 3 z) bc bs (pc + 3) lv st) : Y x n α K bc bs pc lv (.int (iI z) :: .ref (α 28 i) :: st) :=
  y_put hE 3 3 (C := RJ8) (T := TJ8) (N := 4) (ci := 17) (by unfold kC; decide) rfl rfl rfl rfl in_J8 tyJ8 tyJ8_ok nmJ8 (by decide) rfl q253 (fun _ h => h) rfl rfl rfl rfl rfl hi (fun h => absurd h (by decide)) d kk
theorem gJ9_1048 (hE : YE x cc RJ9 ret nm nL RM) {i z : Int} (hi : 0 ≤ i ∧ i < n 28) (hz : K 28 i 2 = z) (d : decode cc pc = .ok (.getfield 1048, 3)) (kk : Y x n α K bc bs (pc + 3) lv (.int (iI z) :: st)) : Y x n α K bc bs pc lv (.ref (α 28 i) :: st) :=
  y_get hE 2 2 (C := RJ8) (T := TJ8) (N := 4) (ci := 17) rfl rfl rfl rfl in_J8 (by decide) q252 (fun _ h => h) hi d (by subst hz; exact kk)
theorem gX1_27 (hE : YE x cc RX1 ret nm nL RM) {i z : Int} (hi : 0 ≤ i ∧ i < n 1) (hz : K 1 i 0 = z) (d : decode cc pc = .ok (.getfield 27, 3)) (kk : z < n 20 → Y x n α K bc bs (pc + 3) lv (refV α 20 z :: st)) : Y x n α K bc bs pc lv (.ref (α 1 i) :: st) :=
  y_getv hE 0 0 (C := RX1) (T := TX1) (N := 13) (ci := 0) rfl rfl rfl rfl in_X1 (by decide) q613 (fun _ h => h) hi d (by subst hz; exact kk)
theorem gX1_27r (hE : YE x cc RX1 ret nm nL RM) {i z : Int} (hi : 0 ≤ i ∧ i < n 1) (hz : K 1 i 0 = z) (h0 : 0 ≤ z) (d : decode cc pc = .ok (.getfield 27, 3)) (kk : 0 ≤ z ∧ z < n 20 → Y x n α K bc bs (pc + 3) lv (.ref (α 20 z) :: st)) : Y x n α K bc bs pc lv (.ref (α 1 i) :: st) :=
  gX1_27 hE hi hz d (fun h => y_ref h0 (kk ⟨h0, h⟩))
theorem pX1_27 (hE : YE x cc RX1 ret nm nL RM) {i z : Int} (hini : nm = "<init>") (hi : 0 ≤ i ∧ i < n 1) (hz : z < n 20) (d : decode cc pc = .ok (.putfield 27, 3)) (kk : Y x n α (up3 K 1 i 0 z) bc bs (pc + 3) lv st) : Y x n α K bc bs pc lv (refV α 20 z :: .ref (α 1 i) :: st) :=
  y_putF hE 0 0 (C := RX1) (T := TX1) (N := 13) (ci := 0) (by unfold kC; decide) rfl rfl rfl rfl in_X1 tyX1 tyX1_ok nmX1 (by decide) rfl q613 (fun _ h => h) rfl hini rfl rfl rfl nar_r.1 nar_r.2 hi (fun _ => hz) d kk
theorem pX1_27r (hE : YE x cc RX1 ret nm nL RM) {i z : Int} (hini : nm = "<init>") (hi : 0 ≤ i ∧ i < n 1) (hz : 0 ≤ z ∧ z < n 20) (d : decode cc pc = .ok (.putfield 27, 3)) (kk : Y x n α (up3 K 1 i 0 z) bc bs (pc + 3) lv st) : Y x n α K bc bs pc lv (.ref (α 20 z) :: .ref (α 1 i) :: st) := by
  rw [← refV_s (α := α) (j := 20) hz.1]
  exact pX1_27 hE hini hi hz.2 d kk
theorem gX1_31 (hE : YE x cc RX1 ret nm nL RM) {i z : Int} (hi : 0 ≤ i ∧ i < n 1) (hz : K 1 i 1 = z) (d : decode cc pc = .ok (.getfield 31, 3)) (kk : z < n 21 → Y x n α K bc bs (pc + 3) lv (refV α 21 z :: st)) : Y x n α K bc bs pc lv (.ref (α 1 i) :: st) :=
  y_getv hE 1 1 (C := RX1) (T := TX1) (N := 13) (ci := 0) rfl rfl rfl rfl in_X1 (by decide) q616 (fun _ h => h) hi d (by subst hz; exact kk)
theorem gX1_31r (hE : YE x cc RX1 ret nm nL RM) {i z : Int} (hi : 0 ≤ i ∧ i < n 1) (hz : K 1 i 1 = z) (h0 : 0 ≤ z) (d : decode cc pc = .ok (.getfield 31, 3)) (kk : 0 ≤ z ∧ z < n 21 → Y x n α K bc bs (pc + 3) lv (.ref (α 21 z) :: st)) : Y x n α K bc bs pc lv (.ref (α 1 i) :: st) :=
  gX1_31 hE hi hz d (fun h => y_ref h0 (kk ⟨h0, h⟩))
theorem pX1_31 (hE : YE x cc RX1 ret nm nL RM) {i z : Int} (hini : nm = "<init>") (hi : 0 ≤ i ∧ i < n 1) (hz : z < n 21) (d : decode cc pc = .ok (.putfield 31, 3)) (kk : Y x n α (up3 K 1 i 1 z) bc bs (pc + 3) lv st) : Y x n α K bc bs pc lv (refV α 21 z :: .ref (α 1 i) :: st) :=
  y_putF hE 1 1 (C := RX1) (T := TX1) (N := 13) (ci := 0) (by unfold kC; decide) rfl rfl rfl rfl in_X1 tyX1 tyX1_ok nmX1 (by decide) rfl q616 (fun _ h => h) rfl hini rfl rfl rfl nar_r.1 nar_r.2 hi (fun _ => hz) d kk
theorem pX1_31r (hE : YE x cc RX1 ret nm nL RM) {i z : Int} (hini : nm = "<init>") (hi : 0 ≤ i ∧ i < n 1) (hz : 0 ≤ z ∧ z < n 21) (d : decode cc pc = .ok (.putfield 31, 3)) (kk : Y x n α (up3 K 1 i 1 z) bc bs (pc + 3) lv st) : Y x n α K bc bs pc lv (.ref (α 21 z) :: .ref (α 1 i) :: st) := by
  rw [← refV_s (α := α) (j := 21) hz.1]
  exact pX1_31 hE hini hi hz.2 d kk
theorem gX1_34 (hE : YE x cc RX1 ret nm nL RM) {i z : Int} (hi : 0 ≤ i ∧ i < n 1) (hz : K 1 i 2 = z) (d : decode cc pc = .ok (.getfield 34, 3)) (kk : z < n 22 → Y x n α K bc bs (pc + 3) lv (refV α 22 z :: st)) : Y x n α K bc bs pc lv (.ref (α 1 i) :: st) :=
  y_getv hE 2 2 (C := RX1) (T := TX1) (N := 13) (ci := 0) rfl rfl rfl rfl in_X1 (by decide) q618 (fun _ h => h) hi d (by subst hz; exact kk)
theorem gX1_34r (hE : YE x cc RX1 ret nm nL RM) {i z : Int} (hi : 0 ≤ i ∧ i < n 1) (hz : K 1 i 2 = z) (h0 : 0 ≤ z) (d : decode cc pc = .ok (.getfield 34, 3)) (kk : 0 ≤ z ∧ z < n 22 → Y x n α K bc bs (pc + 3) lv (.ref (α 22 z) :: st)) : Y x n α K bc bs pc lv (.ref (α 1 i) :: st) :=
  gX1_34 hE hi hz d (fun h => y_ref h0 (kk ⟨h0, h⟩))
theorem pX1_34 (hE : YE x cc RX1 ret nm nL RM) {i z : Int} (hini : nm = "<init>") (hi : 0 ≤ i ∧ i < n 1) (hz : z < n 22) (d : decode cc pc = .ok (.putfield 34, 3)) (kk : Y x n α (up3 K 1 i 2 z) bc bs (pc + 3) lv st) : Y x n α K bc bs pc lv (refV α 22 z :: .ref (α 1 i) :: st) :=
  y_putF hE 2 2 (C := RX1) (T := TX1) (N := 13) (ci := 0) (by unfold kC; decide) rfl rfl rfl rfl in_X1 tyX1 tyX1_ok nmX1 (by decide) rfl q618 (fun _ h => h) rfl hini rfl rfl rfl nar_r.1 nar_r.2 hi (fun _ => hz) d kk
theorem pX1_34r (hE : YE x cc RX1 ret nm nL RM) {i z : Int} (hini : nm = "<init>") (hi : 0 ≤ i ∧ i < n 1) (hz : 0 ≤ z ∧ z < n 22) (d : decode cc pc = .ok (.putfield 34, 3)) (kk : Y x n α (up3 K 1 i 2 z) bc bs (pc + 3) lv st) : Y x n α K bc bs pc lv (.ref (α 22 z) :: .ref (α 1 i) :: st) := by
  rw [← refV_s (α := α) (j := 22) hz.1]
  exact pX1_34 hE hini hi hz.2 d kk
theorem gX1_37 (hE : YE x cc RX1 ret nm nL RM) {i z : Int} (hi : 0 ≤ i ∧ i < n 1) (hz : K 1 i 3 = z) (d : decode cc pc = .ok (.getfield 37, 3)) (kk : z < n 23 → Y x n α K bc bs (pc + 3) lv (refV α 23 z :: st)) : Y x n α K bc bs pc lv (.ref (α 1 i) :: st) :=
  y_getv hE 3 3 (C := RX1) (T := TX1) (N := 13) (ci := 0) rfl rfl rfl rfl in_X1 (by decide) q620 (fun _ h => h) hi d (by subst hz; exact kk)
theorem gX1_37r (hE : YE x cc RX1 ret nm nL RM) {i z : Int} (hi : 0 ≤ i ∧ i < n 1) (hz : K 1 i 3 = z) (h0 : 0 ≤ z) (d : decode cc pc = .ok (.getfield 37, 3)) (kk : 0 ≤ z ∧ z < n 23 → Y x n α K bc bs (pc + 3) lv (.ref (α 23 z) :: st)) : Y x n α K bc bs pc lv (.ref (α 1 i) :: st) :=
  gX1_37 hE hi hz d (fun h => y_ref h0 (kk ⟨h0, h⟩))
theorem pX1_37 (hE : YE x cc RX1 ret nm nL RM) {i z : Int} (hini : nm = "<init>") (hi : 0 ≤ i ∧ i < n 1) (hz : z < n 23) (d : decode cc pc = .ok (.putfield 37, 3)) (kk : Y x n α (up3 K 1 i 3 z) bc bs (pc + 3) lv st) : Y x n α K bc bs pc lv (refV α 23 z :: .ref (α 1 i) :: st) :=
  y_putF hE 3 3 (C := RX1) (T := TX1) (N := 13) (ci := 0) (by unfold kC; decide) rfl rfl rfl rfl in_X1 tyX1 tyX1_ok nmX1 (by decide) rfl q620 (fun _ h => h) rfl hini rfl rfl rfl nar_r.1 nar_r.2 hi (fun _ => hz) d kk
theorem pX1_37r (hE : YE x cc RX1 ret nm nL RM) {i z : Int} (hini : nm = "<init>") (hi : 0 ≤ i ∧ i < n 1) (hz : 0 ≤ z ∧ z < n 23) (d : decode cc pc = .ok (.putfield 37, 3)) (kk : Y x n α (up3 K 1 i 3 z) bc bs (pc + 3) lv st) : Y x n α K bc bs pc lv (.ref (α 23 z) :: .ref (α 1 i) :: st) := by
  rw [← refV_s (α := α) (j := 23) hz.1]
  exact pX1_37 hE hini hi hz.2 d kk
theorem gX1_40 (hE : YE x cc RX1 ret nm nL RM) {i z : Int} (hi : 0 ≤ i ∧ i < n 1) (hz : K 1 i 4 = z) (d : decode cc pc = .ok (.getfield 40, 3)) (kk : z < n 24 → Y x n α K bc bs (pc + 3) lv (refV α 24 z :: st)) : Y x n α K bc bs pc lv (.ref (α 1 i) :: st) :=
  y_getv hE 4 4 (C := RX1) (T := TX1) (N := 13) (ci := 0) rfl rfl rfl rfl in_X1 (by decide) q622 (fun _ h => h) hi d (by subst hz; exact kk)
theorem gX1_40r (hE : YE x cc RX1 ret nm nL RM) {i z : Int} (hi : 0 ≤ i ∧ i < n 1) (hz : K 1 i 4 = z) (h0 : 0 ≤ z) (d : decode cc pc = .ok (.getfield 40, 3)) (kk : 0 ≤ z ∧ z < n 24 → Y x n α K bc bs (pc + 3) lv (.ref (α 24 z) :: st)) : Y x n α K bc bs pc lv (.ref (α 1 i) :: st) :=
  gX1_40 hE hi hz d (fun h => y_ref h0 (kk ⟨h0, h⟩))
theorem pX1_40 (hE : YE x cc RX1 ret nm nL RM) {i z : Int} (hini : nm = "<init>") (hi : 0 ≤ i ∧ i < n 1) (hz : z < n 24) (d : decode cc pc = .ok (.putfield 40, 3)) (kk : Y x n α (up3 K 1 i 4 z) bc bs (pc + 3) lv st) : Y x n α K bc bs pc lv (refV α 24 z :: .ref (α 1 i) :: st) :=
  y_putF hE 4 4 (C := RX1) (T := TX1) (N := 13) (ci := 0) (by unfold kC; decide) rfl rfl rfl rfl in_X1 tyX1 tyX1_ok nmX1 (by decide) rfl q622 (fun _ h => h) rfl hini rfl rfl rfl nar_r.1 nar_r.2 hi (fun _ => hz) d kk
theorem pX1_40r (hE : YE x cc RX1 ret nm nL RM) {i z : Int} (hini : nm = "<init>") (hi : 0 ≤ i ∧ i < n 1) (hz : 0 ≤ z ∧ z < n 24) (d : decode cc pc = .ok (.putfield 40, 3)) (kk : Y x n α (up3 K 1 i 4 z) bc bs (pc + 3) lv st) : Y x n α K bc bs pc lv (.ref (α 24 z) :: .ref (α 1 i) :: st) := by
  rw [← refV_s (α := α) (j := 24) hz.1]
  exact pX1_40 hE hini hi hz.2 d kk
theorem gX1_43 (hE : YE x cc RX1 ret nm nL RM) {i z : Int} (hi : 0 ≤ i ∧ i < n 1) (hz : K 1 i 5 = z) (d : decode cc pc = .ok (.getfield 43, 3)) (kk : Y x n α K bc bs (pc + 3) lv (.int (iI z) :: st)) : Y x n α K bc bs pc lv (.ref (α 1 i) :: st) :=
  y_get hE 5 5 (C := RX1) (T := TX1) (N := 13) (ci := 0) rfl rfl rfl rfl in_X1 (by decide) q624 (fun _ h => h) hi d (by subst hz; exact kk)
theorem pX1_43 (hE : YE x cc RX1 ret nm nL RM) {i z : Int} (hi : 0 ≤ i ∧ i < n 1) (d : decode cc pc = .ok (.putfield 43, 3)) (kk : Y x n α (up3 K 1 i 5 z) bc bs (pc + 3) lv st) : Y x n α K bc bs pc lv (.int (iI z) :: .ref (α 1 i) :: st) :=
  y_put hE 5 5 (C := RX1) (T := TX1) (N := 13) (ci := 0) (by unfold kC; decide) rfl rfl rfl rfl in_X1 tyX1 tyX1_ok nmX1 (by decide) rfl q624 (fun _ h => h) rfl rfl rfl rfl rfl hi (fun h => absurd h (by decide)) d kk
theorem gX1_50 (hE : YE x cc RX1 ret nm nL RM) {i z : Int} (hi : 0 ≤ i ∧ i < n 1) (hz : K 1 i 7 = z) (d : decode cc pc = .ok (.getfield 50, 3)) (kk : z < n 2 → Y x n α K bc bs (pc + 3) lv (refV α 2 z :: st)) : Y x n α K bc bs pc lv (.ref (α 1 i) :: st) :=
  y_getv hE 7 7 (C := RX1) (T := TX1) (N := 13) (ci := 0) rfl rfl rfl rfl in_X1 (by decide) q627 (fun _ h => h) hi d (by subst hz; exact kk)
theorem gX1_50r (hE : YE x cc RX1 ret nm nL RM) {i z : Int} (hi : 0 ≤ i ∧ i < n 1) (hz : K 1 i 7 = z) (h0 : 0 ≤ z) (d : decode cc pc = .ok (.getfield 50, 3)) (kk : 0 ≤ z ∧ z < n 2 → Y x n α K bc bs (pc + 3) lv (.ref (α 2 z) :: st)) : Y x n α K bc bs pc lv (.ref (α 1 i) :: st) :=
  gX1_50 hE hi hz d (fun h => y_ref h0 (kk ⟨h0, h⟩))
theorem pX1_50 (hE : YE x cc RX1 ret nm nL RM) {i z : Int} (hini : nm = "<init>") (hi : 0 ≤ i ∧ i < n 1) (hz : z < n 2) (d : decode cc pc = .ok (.putfield 50, 3)) (kk : Y x n α (up3 K 1 i 7 z) bc bs (pc + 3) lv st) : Y x n α K bc bs pc lv (refV α 2 z :: .ref (α 1 i) :: st) :=
  y_putF hE 7 7 (C := RX1) (T := TX1) (N := 13) (ci := 0) (by unfold kC; decide) rfl rfl rfl rfl in_X1 tyX1 tyX1_ok nmX1 (by decide) rfl q627 (fun _ h => h) rfl hini rfl rfl rfl nar_r.1 nar_r.2 hi (fun _ => hz) d kk
theorem pX1_50r (hE : YE x cc RX1 ret nm nL RM) {i z : Int} (hini : nm = "<init>") (hi : 0 ≤ i ∧ i < n 1) (hz : 0 ≤ z ∧ z < n 2) (d : decode cc pc = .ok (.putfield 50, 3)) (kk : Y x n α (up3 K 1 i 7 z) bc bs (pc + 3) lv st) : Y x n α K bc bs pc lv (.ref (α 2 z) :: .ref (α 1 i) :: st) := by
  rw [← refV_s (α := α) (j := 2) hz.1]
  exact pX1_50 hE hini hi hz.2 d kk
theorem gX1_59 (hE : YE x cc RX1 ret nm nL RM) {i z : Int} (hi : 0 ≤ i ∧ i < n 1) (hz : K 1 i 8 = z) (d : decode cc pc = .ok (.getfield 59, 3)) (kk : z < n 3 → Y x n α K bc bs (pc + 3) lv (refV α 3 z :: st)) : Y x n α K bc bs pc lv (.ref (α 1 i) :: st) :=
  y_getv hE 8 8 (C := RX1) (T := TX1) (N := 13) (ci := 0) rfl rfl rfl rfl in_X1 (by decide) q629 (fun _ h => h) hi d (by subst hz; exact kk)
theorem gX1_59r (hE : YE x cc RX1 ret nm nL RM) {i z : Int} (hi : 0 ≤ i ∧ i < n 1) (hz : K 1 i 8 = z) (h0 : 0 ≤ z) (d : decode cc pc = .ok (.getfield 59, 3)) (kk : 0 ≤ z ∧ z < n 3 → Y x n α K bc bs (pc + 3) lv (.ref (α 3 z) :: st)) : Y x n α K bc bs pc lv (.ref (α 1 i) :: st) :=
  gX1_59 hE hi hz d (fun h => y_ref h0 (kk ⟨h0, h⟩))
theorem pX1_59 (hE : YE x cc RX1 ret nm nL RM) {i z : Int} (hini : nm = "<init>") (hi : 0 ≤ i ∧ i < n 1) (hz : z < n 3) (d : decode cc pc = .ok (.putfield 59, 3)) (kk : Y x n α (up3 K 1 i 8 z) bc bs (pc + 3) lv st) : Y x n α K bc bs pc lv (refV α 3 z :: .ref (α 1 i) :: st) :=
  y_putF hE 8 8 (C := RX1) (T := TX1) (N := 13) (ci := 0) (by unfold kC; decide) rfl rfl rfl rfl in_X1 tyX1 tyX1_ok nmX1 (by decide) rfl q629 (fun _ h => h) rfl hini rfl rfl rfl nar_r.1 nar_r.2 hi (fun _ => hz) d kk
theorem pX1_59r (hE : YE x cc RX1 ret nm nL RM) {i z : Int} (hini : nm = "<init>") (hi : 0 ≤ i ∧ i < n 1) (hz : 0 ≤ z ∧ z < n 3) (d : decode cc pc = .ok (.putfield 59, 3)) (kk : Y x n α (up3 K 1 i 8 z) bc bs (pc + 3) lv st) : Y x n α K bc bs pc lv (.ref (α 3 z) :: .ref (α 1 i) :: st) := by
  rw [← refV_s (α := α) (j := 3) hz.1]
  exact pX1_59 hE hini hi hz.2 d kk
theorem pX1_63 (hE : YE x cc RX1 ret nm nL RM) {i z : Int} (hini : nm = "<init>") (hi : 0 ≤ i ∧ i < n 1) (hz : z < n 3) (d : decode cc pc = .ok (.putfield 63, 3)) (kk : Y x n α (up3 K 1 i 9 z) bc bs (pc + 3) lv st) : Y x n α K bc bs pc lv (refV α 3 z :: .ref (α 1 i) :: st) :=
  y_putF hE 9 9 (C := RX1) (T := TX1) (N := 13) (ci := 0) (by unfold kC; decide) rfl rfl rfl rfl in_X1 tyX1 tyX1_ok nmX1 (by decide) rfl q631 (fun _ h => h) rfl hini rfl rfl rfl nar_r.1 nar_r.2 hi (fun _ => hz) d kk
theorem pX1_63r (hE : YE x cc RX1 ret nm nL RM) {i z : Int} (hini : nm = "<init>") (hi : 0 ≤ i ∧ i < n 1) (hz : 0 ≤ z ∧ z < n 3) (d : decode cc pc = .ok (.putfield 63, 3)) (kk : Y x n α (up3 K 1 i 9 z) bc bs (pc + 3) lv st) : Y x n α K bc bs pc lv (.ref (α 3 z) :: .ref (α 1 i) :: st) := by
  rw [← refV_s (α := α) (j := 3) hz.1]
  exact pX1_63 hE hini hi hz.2 d kk
theorem gX1_66 (hE : YE x cc RX1 ret nm nL RM) {i z : Int} (hi : 0 ≤ i ∧ i < n 1) (hz : K 1 i 10 = z) (d : decode cc pc = .ok (.getfield 66, 3)) (kk : z < n 3 → Y x n α K bc bs (pc + 3) lv (refV α 3 z :: st)) : Y x n α K bc bs pc lv (.ref (α 1 i) :: st) :=
  y_getv hE 10 10 (C := RX1) (T := TX1) (N := 13) (ci := 0) rfl rfl rfl rfl in_X1 (by decide) q633 (fun _ h => h) hi d (by subst hz; exact kk)
theorem gX1_66r (hE : YE x cc RX1 ret nm nL RM) {i z : Int} (hi : 0 ≤ i ∧ i < n 1) (hz : K 1 i 10 = z) (h0 : 0 ≤ z) (d : decode cc pc = .ok (.getfield 66, 3)) (kk : 0 ≤ z ∧ z < n 3 → Y x n α K bc bs (pc + 3) lv (.ref (α 3 z) :: st)) : Y x n α K bc bs pc lv (.ref (α 1 i) :: st) :=
  gX1_66 hE hi hz d (fun h => y_ref h0 (kk ⟨h0, h⟩))
theorem pX1_66 (hE : YE x cc RX1 ret nm nL RM) {i z : Int} (hini : nm = "<init>") (hi : 0 ≤ i ∧ i < n 1) (hz : z < n 3) (d : decode cc pc = .ok (.putfield 66, 3)) (kk : Y x n α (up3 K 1 i 10 z) bc bs (pc + 3) lv st) : Y x n α K bc bs pc lv (refV α 3 z :: .ref (α 1 i) :: st) :=
  y_putF hE 10 10 (C := RX1) (T := TX1) (N := 13) (ci := 0) (by unfold kC; decide) rfl rfl rfl rfl in_X1 tyX1 tyX1_ok nmX1 (by decide) rfl q633 (fun _ h => h) rfl hini rfl rfl rfl nar_r.1 nar_r.2 hi (fun _ => hz) d kk
theorem pX1_66r (hE : YE x cc RX1 ret nm nL RM) {i z : Int} (hini : nm = "<init>") (hi : 0 ≤ i ∧ i < n 1) (hz : 0 ≤ z ∧ z < n 3) (d : decode cc pc = .ok (.putfield 66, 3)) (kk : Y x n α (up3 K 1 i 10 z) bc bs (pc + 3) lv st) : Y x n α K bc bs pc lv (.ref (α 3 z) :: .ref (α 1 i) :: st) := by
  rw [← refV_s (α := α) (j := 3) hz.1]
  exact pX1_66 hE hini hi hz.2 d kk
theorem gX1_72 (hE : YE x cc RX1 ret nm nL RM) {i z : Int} (hi : 0 ≤ i ∧ i < n 1) (hz : K 1 i 11 = z) (d : decode cc pc = .ok (.getfield 72, 3)) (kk : z < n 63 → Y x n α K bc bs (pc + 3) lv (refV α 63 z :: st)) : Y x n α K bc bs pc lv (.ref (α 1 i) :: st) :=
  y_getv hE 11 11 (C := RX1) (T := TX1) (N := 13) (ci := 0) rfl rfl rfl rfl in_X1 (by decide) q634 (fun _ h => h) hi d (by subst hz; exact kk)
theorem gX1_72r (hE : YE x cc RX1 ret nm nL RM) {i z : Int} (hi : 0 ≤ i ∧ i < n 1) (hz : K 1 i 11 = z) (h0 : 0 ≤ z) (d : decode cc pc = .ok (.getfield 72, 3)) (kk : 0 ≤ z ∧ z < n 63 → Y x n α K bc bs (pc + 3) lv (.ref (α 63 z) :: st)) : Y x n α K bc bs pc lv (.ref (α 1 i) :: st) :=
  gX1_72 hE hi hz d (fun h => y_ref h0 (kk ⟨h0, h⟩))
theorem pX1_72 (hE : YE x cc RX1 ret nm nL RM) {i z : Int} (hini : nm = "<init>") (hi : 0 ≤ i ∧ i < n 1) (hz : z < n 63) (d : decode cc pc = .ok (.putfield 72, 3)) (kk : Y x n α (up3 K 1 i 11 z) bc bs (pc + 3) lv st) : Y x n α K bc bs pc lv (refV α 63 z :: .ref (α 1 i) :: st) :=
  y_putF hE 11 11 (C := RX1) (T := TX1) (N := 13) (ci := 0) (by unfold kC; decide) rfl rfl rfl rfl in_X1 tyX1 tyX1_ok nmX1 (by decide) rfl q634 (fun _ h => h) rfl hini rfl rfl rfl nar_r.1 nar_r.2 hi (fun _ => hz) d kk
theorem pX1_72r (hE : YE x cc RX1 ret nm nL RM) {i z : Int} (hini : nm = "<init>") (hi : 0 ≤ i ∧ i < n 1) (hz : 0 ≤ z ∧ z < n 63) (d : decode cc pc = .ok (.putfield 72, 3)) (kk : Y x n α (up3 K 1 i 11 z) bc bs (pc + 3) lv st) : Y x n α K bc bs pc lv (.ref (α 63 z) :: .ref (α 1 i) :: st) := by
  rw [← refV_s (α := α) (j := 63) hz.1]
  exact pX1_72 hE hini hi hz.2 d kk
theorem gX1_79 (hE : YE x cc RX1 ret nm nL RM) {i z : Int} (hi : 0 ≤ i ∧ i < n 1) (hz : K 1 i 12 = z) (d : decode cc pc = .ok (.getfield 79, 3)) (kk : z < n 28 → Y x n α K bc bs (pc + 3) lv (refV α 28 z :: st)) : Y x n α K bc bs pc lv (.ref (α 1 i) :: st) :=
  y_getv hE 12 12 (C := RX1) (T := TX1) (N := 13) (ci := 0) rfl rfl rfl rfl in_X1 (by decide) q636 (fun _ h => h) hi d (by subst hz; exact kk)
theorem gX1_79r (hE : YE x cc RX1 ret nm nL RM) {i z : Int} (hi : 0 ≤ i ∧ i < n 1) (hz : K 1 i 12 = z) (h0 : 0 ≤ z) (d : decode cc pc = .ok (.getfield 79, 3)) (kk : 0 ≤ z ∧ z < n 28 → Y x n α K bc bs (pc + 3) lv (.ref (α 28 z) :: st)) : Y x n α K bc bs pc lv (.ref (α 1 i) :: st) :=
  gX1_79 hE hi hz d (fun h => y_ref h0 (kk ⟨h0, h⟩))
theorem pX1_79 (hE : YE x cc RX1 ret nm nL RM) {i z : Int} (hini : nm = "<init>") (hi : 0 ≤ i ∧ i < n 1) (hz : z < n 28) (d : decode cc pc = .ok (.putfield 79, 3)) (kk : Y x n α (up3 K 1 i 12 z) bc bs (pc + 3) lv st) : Y x n α K bc bs pc lv (refV α 28 z :: .ref (α 1 i) :: st) :=
  y_putF hE 12 12 (C := RX1) (T := TX1) (N := 13) (ci := 0) (by unfold kC; decide) rfl rfl rfl rfl in_X1 tyX1 tyX1_ok nmX1 (by decide) rfl q636 (fun _ h => h) rfl hini rfl rfl rfl nar_r.1 nar_r.2 hi (fun _ => hz) d kk
theorem pX1_79r (hE : YE x cc RX1 ret nm nL RM) {i z : Int} (hini : nm = "<init>") (hi : 0 ≤ i ∧ i < n 1) (hz : 0 ≤ z ∧ z < n 28) (d : decode cc pc = .ok (.putfield 79, 3)) (kk : Y x n α (up3 K 1 i 12 z) bc bs (pc + 3) lv st) : Y x n α K bc bs pc lv (.ref (α 28 z) :: .ref (α 1 i) :: st) := by
  rw [← refV_s (α := α) (j := 28) hz.1]
  exact pX1_79 hE hini hi hz.2 d kk
theorem gX1_119 (hE : YE x cc RX1 ret nm nL RM) {i z : Int} (hi : 0 ≤ i ∧ i < n 5) (hz : K 5 i 1 = z) (d : decode cc pc = .ok (.getfield 119, 3)) (kk : Y x n α K bc bs (pc + 3) lv (.int (iI z) :: st)) : Y x n α K bc bs pc lv (.ref (α 5 i) :: st) :=
  y_getN hE 1 1 (C := RX5) (T := TX5) (N := 2) (ci := 4) rfl rfl rfl rfl in_X5 (by decide) q1954 (fun _ h => h) hi d (by subst hz; exact kk)
theorem pX1_119 (hE : YE x cc RX1 ret nm nL RM) {i z : Int} (hi : 0 ≤ i ∧ i < n 5) (d : decode cc pc = .ok (.putfield 119, 3)) (kk : Y x n α (up3 K 5 i 1 z) bc bs (pc + 3) lv st) : Y x n α K bc bs pc lv (.int (iI z) :: .ref (α 5 i) :: st) :=
  y_putN hE 1 1 (C := RX5) (T := TX5) (N := 2) (ci := 4) (by unfold kC; decide) rfl rfl rfl rfl in_X5 tyX5 tyX5_ok nmX5 (by decide) rfl q1954 (fun _ h => h) rfl rfl rfl rfl rfl hi (fun h => absurd h (by decide)) d kk
theorem gX1_132 (hE : YE x cc RX1 ret nm nL RM) {i z : Int} (hi : 0 ≤ i ∧ i < n 6) (hz : K 6 i 1 = z) (d : decode cc pc = .ok (.getfield 132, 3)) (kk : Y x n α K bc bs (pc + 3) lv (.int (iI z) :: st)) : Y x n α K bc bs pc lv (.ref (α 6 i) :: st) :=
  y_getN hE 1 1 (C := RX6) (T := TX6) (N := 3) (ci := 5) rfl rfl rfl rfl in_X6 (by decide) q2028 (fun _ h => h) hi d (by subst hz; exact kk)
theorem gX1_137 (hE : YE x cc RX1 ret nm nL RM) {i z : Int} (hi : 0 ≤ i ∧ i < n 6) (hz : K 6 i 2 = z) (d : decode cc pc = .ok (.getfield 137, 3)) (kk : z < n 26 → Y x n α K bc bs (pc + 3) lv (refV α 26 z :: st)) : Y x n α K bc bs pc lv (.ref (α 6 i) :: st) :=
  y_getvN hE 2 2 (C := RX6) (T := TX6) (N := 3) (ci := 5) rfl rfl rfl rfl in_X6 (by decide) q2031 (fun _ h => h) hi d (by subst hz; exact kk)
theorem gX1_137r (hE : YE x cc RX1 ret nm nL RM) {i z : Int} (hi : 0 ≤ i ∧ i < n 6) (hz : K 6 i 2 = z) (h0 : 0 ≤ z) (d : decode cc pc = .ok (.getfield 137, 3)) (kk : 0 ≤ z ∧ z < n 26 → Y x n α K bc bs (pc + 3) lv (.ref (α 26 z) :: st)) : Y x n α K bc bs pc lv (.ref (α 6 i) :: st) :=
  gX1_137 hE hi hz d (fun h => y_ref h0 (kk ⟨h0, h⟩))
theorem gX1_154 (hE : YE x cc RX1 ret nm nL RM) {i z : Int} (hi : 0 ≤ i ∧ i < n 5) (hz : K 5 i 0 = z) (d : decode cc pc = .ok (.getfield 154, 3)) (kk : Y x n α K bc bs (pc + 3) lv (.int (iI z) :: st)) : Y x n α K bc bs pc lv (.ref (α 5 i) :: st) :=
  y_getN hE 0 0 (C := RX5) (T := TX5) (N := 2) (ci := 4) rfl rfl rfl rfl in_X5 (by decide) q1950 (fun _ h => h) hi d (by subst hz; exact kk)
theorem gX1_171 (hE : YE x cc RX1 ret nm nL RM) {i z : Int} (htg : ¬ K 8 i 9 = 0) (hi : 0 ≤ i ∧ i < n 8) (hz : K 8 i 3 = z) (d : decode cc pc = .ok (.getfield 171, 3)) (kk : Y x n α K bc bs (pc + 3) lv (.int (iI z) :: st)) : Y x n α K bc bs pc lv (.ref (α 8 i) :: st) :=
  y_getN hE 3 3 (C := RX10) (T := TX10) (N := 4) (ci := 8) (kD_line htg) rfl rfl rfl in_X10 (by decide) q2135 (fun _ h => h) hi d (by subst hz; exact kk)
theorem gX1_211 (hE : YE x cc RX1 ret nm nL RM) {i z : Int} (hi : 0 ≤ i ∧ i < n 1) (hz : K 1 i 6 = z) (d : decode cc pc = .ok (.getfield 211, 3)) (kk : z < n 12 → Y x n α K bc bs (pc + 3) lv (refV α 12 z :: st)) : Y x n α K bc bs pc lv (.ref (α 1 i) :: st) :=
  y_getv hE 6 6 (C := RX1) (T := TX1) (N := 13) (ci := 0) rfl rfl rfl rfl in_X1 (by decide) q626 (fun _ h => h) hi d (by subst hz; exact kk)
theorem gX1_211r (hE : YE x cc RX1 ret nm nL RM) {i z : Int} (hi : 0 ≤ i ∧ i < n 1) (hz : K 1 i 6 = z) (h0 : 0 ≤ z) (d : decode cc pc = .ok (.getfield 211, 3)) (kk : 0 ≤ z ∧ z < n 12 → Y x n α K bc bs (pc + 3) lv (.ref (α 12 z) :: st)) : Y x n α K bc bs pc lv (.ref (α 1 i) :: st) :=
  gX1_211 hE hi hz d (fun h => y_ref h0 (kk ⟨h0, h⟩))
theorem pX1_211 (hE : YE x cc RX1 ret nm nL RM) {i z : Int} (hi : 0 ≤ i ∧ i < n 1) (hz : z < n 12) (d : decode cc pc = .ok (.putfield 211, 3)) (kk : Y x n α (up3 K 1 i 6 z) bc bs (pc + 3) lv st) : Y x n α K bc bs pc lv (refV α 12 z :: .ref (α 1 i) :: st) :=
  y_put hE 6 6 (C := RX1) (T := TX1) (N := 13) (ci := 0) (by unfold kC; decide) rfl rfl rfl rfl in_X1 tyX1 tyX1_ok nmX1 (by decide) rfl q626 (fun _ h => h) rfl rfl rfl nar_r.1 nar_r.2 hi (fun _ => hz) d kk
theorem pX1_211r (hE : YE x cc RX1 ret nm nL RM) {i z : Int} (hi : 0 ≤ i ∧ i < n 1) (hz : 0 ≤ z ∧ z < n 12) (d : decode cc pc = .ok (.putfield 211, 3)) (kk : Y x n α (up3 K 1 i 6 z) bc bs (pc + 3) lv st) : Y x n α K bc bs pc lv (.ref (α 12 z) :: .ref (α 1 i) :: st) := by
  rw [← refV_s (α := α) (j := 12) hz.1]
  exact pX1_211 hE hi hz.2 d kk
theorem gX1_215 (hE : YE x cc RX1 ret nm nL RM) {i z : Int} (hi : 0 ≤ i ∧ i < n 11) (hz : K 11 i 0 = z) (d : decode cc pc = .ok (.getfield 215, 3)) (kk : Y x n α K bc bs (pc + 3) lv (.int (iI z) :: st)) : Y x n α K bc bs pc lv (.ref (α 11 i) :: st) :=
  y_getN hE 0 0 (C := RX11) (T := TX11) (N := 5) (ci := 9) rfl rfl rfl rfl in_X11 (by decide) q2206 (fun _ h => h) hi d (by subst hz; exact kk)
theorem gX1_241 (hE : YE x cc RX1 ret nm nL RM) {i z : Int} (hi : 0 ≤ i ∧ i < n 14) (hz : K 14 i 0 = z) (d : decode cc pc = .ok (.getfield 241, 3)) (kk : z < n 11 → Y x n α K bc bs (pc + 3) lv (refV α 11 z :: st)) : Y x n α K bc bs pc lv (.ref (α 14 i) :: st) :=
  y_getvN hE 0 0 (C := RX14) (T := TX14) (N := 9) (ci := 12) rfl rfl rfl rfl in_X14 (by decide) q1049 (fun _ h => h) hi d (by subst hz; exact kk)
theorem gX1_241r (hE : YE x cc RX1 ret nm nL RM) {i z : Int} (hi : 0 ≤ i ∧ i < n 14) (hz : K 14 i 0 = z) (h0 : 0 ≤ z) (d : decode cc pc = .ok (.getfield 241, 3)) (kk : 0 ≤ z ∧ z < n 11 → Y x n α K bc bs (pc + 3) lv (.ref (α 11 z) :: st)) : Y x n α K bc bs pc lv (.ref (α 14 i) :: st) :=
  gX1_241 hE hi hz d (fun h => y_ref h0 (kk ⟨h0, h⟩))
theorem gX1_245 (hE : YE x cc RX1 ret nm nL RM) {i z : Int} (hi : 0 ≤ i ∧ i < n 14) (hz : K 14 i 3 = z) (d : decode cc pc = .ok (.getfield 245, 3)) (kk : Y x n α K bc bs (pc + 3) lv (.int (iI z) :: st)) : Y x n α K bc bs pc lv (.ref (α 14 i) :: st) :=
  y_getN hE 3 3 (C := RX14) (T := TX14) (N := 9) (ci := 12) rfl rfl rfl rfl in_X14 (by decide) q1058 (fun _ h => h) hi d (by subst hz; exact kk)
theorem pX1_245 (hE : YE x cc RX1 ret nm nL RM) {i z : Int} (hi : 0 ≤ i ∧ i < n 14) (d : decode cc pc = .ok (.putfield 245, 3)) (kk : Y x n α (up3 K 14 i 3 z) bc bs (pc + 3) lv st) : Y x n α K bc bs pc lv (.int (iI z) :: .ref (α 14 i) :: st) :=
  y_putN hE 3 3 (C := RX14) (T := TX14) (N := 9) (ci := 12) (by unfold kC; decide) rfl rfl rfl rfl in_X14 tyX14 tyX14_ok nmX14 (by decide) rfl q1058 (fun _ h => h) rfl rfl rfl rfl rfl hi (fun h => absurd h (by decide)) d kk
theorem pX1_248 (hE : YE x cc RX1 ret nm nL RM) {i z : Int} (hi : 0 ≤ i ∧ i < n 14) (d : decode cc pc = .ok (.putfield 248, 3)) (kk : Y x n α (up3 K 14 i 4 z) bc bs (pc + 3) lv st) : Y x n α K bc bs pc lv (.int (iI z) :: .ref (α 14 i) :: st) :=
  y_putN hE 4 4 (C := RX14) (T := TX14) (N := 9) (ci := 12) (by unfold kC; decide) rfl rfl rfl rfl in_X14 tyX14 tyX14_ok nmX14 (by decide) rfl q1061 (fun _ h => h) rfl rfl rfl rfl rfl hi (fun h => absurd h (by decide)) d kk
theorem gX1_253 (hE : YE x cc RX1 ret nm nL RM) {i z : Int} (hi : 0 ≤ i ∧ i < n 14) (hz : K 14 i 5 = z) (d : decode cc pc = .ok (.getfield 253, 3)) (kk : Y x n α K bc bs (pc + 3) lv (.int (iI z) :: st)) : Y x n α K bc bs pc lv (.ref (α 14 i) :: st) :=
  y_getN hE 5 5 (C := RX14) (T := TX14) (N := 9) (ci := 12) rfl rfl rfl rfl in_X14 (by decide) q1064 (fun _ h => h) hi d (by subst hz; exact kk)
theorem pX1_253 (hE : YE x cc RX1 ret nm nL RM) {i z : Int} (hi : 0 ≤ i ∧ i < n 14) (d : decode cc pc = .ok (.putfield 253, 3)) (kk : Y x n α (up3 K 14 i 5 z) bc bs (pc + 3) lv st) : Y x n α K bc bs pc lv (.int (iI z) :: .ref (α 14 i) :: st) :=
  y_putN hE 5 5 (C := RX14) (T := TX14) (N := 9) (ci := 12) (by unfold kC; decide) rfl rfl rfl rfl in_X14 tyX14 tyX14_ok nmX14 (by decide) rfl q1064 (fun _ h => h) rfl rfl rfl rfl rfl hi (fun h => absurd h (by decide)) d kk
theorem pX1_256 (hE : YE x cc RX1 ret nm nL RM) {i z : Int} (hi : 0 ≤ i ∧ i < n 14) (hz : z = 0 ∨ z = 1) (d : decode cc pc = .ok (.putfield 256, 3)) (kk : Y x n α (up3 K 14 i 6 z) bc bs (pc + 3) lv st) : Y x n α K bc bs pc lv (.int (iI z) :: .ref (α 14 i) :: st) :=
  y_putN hE 6 6 (C := RX14) (T := TX14) (N := 9) (ci := 12) (by unfold kC; decide) rfl rfl rfl rfl in_X14 tyX14 tyX14_ok nmX14 (by decide) rfl q1067 (fun _ h => h) rfl rfl rfl (nar_b hz).1 (nar_b hz).2 hi (fun h => absurd h (by decide)) d kk
theorem gX1_260 (hE : YE x cc RX1 ret nm nL RM) {i z : Int} (hi : 0 ≤ i ∧ i < n 14) (hz : K 14 i 8 = z) (d : decode cc pc = .ok (.getfield 260, 3)) (kk : Y x n α K bc bs (pc + 3) lv (.int (iI z) :: st)) : Y x n α K bc bs pc lv (.ref (α 14 i) :: st) :=
  y_getN hE 8 8 (C := RX14) (T := TX14) (N := 9) (ci := 12) rfl rfl rfl rfl in_X14 (by decide) q1071 (fun _ h => h) hi d (by subst hz; exact kk)
theorem gX1_280 (hE : YE x cc RX1 ret nm nL RM) {i z : Int} (hi : 0 ≤ i ∧ i < n 11) (hz : K 11 i 1 = z) (d : decode cc pc = .ok (.getfield 280, 3)) (kk : z < n 8 → Y x n α K bc bs (pc + 3) lv (refV α 8 z :: st)) : Y x n α K bc bs pc lv (.ref (α 11 i) :: st) :=
  y_getvN hE 1 1 (C := RX11) (T := TX11) (N := 5) (ci := 9) rfl rfl rfl rfl in_X11 (by decide) q2210 (fun _ h => h) hi d (by subst hz; exact kk)
theorem gX1_280r (hE : YE x cc RX1 ret nm nL RM) {i z : Int} (hi : 0 ≤ i ∧ i < n 11) (hz : K 11 i 1 = z) (h0 : 0 ≤ z) (d : decode cc pc = .ok (.getfield 280, 3)) (kk : 0 ≤ z ∧ z < n 8 → Y x n α K bc bs (pc + 3) lv (.ref (α 8 z) :: st)) : Y x n α K bc bs pc lv (.ref (α 11 i) :: st) :=
  gX1_280 hE hi hz d (fun h => y_ref h0 (kk ⟨h0, h⟩))
theorem gX1_306 (hE : YE x cc RX1 ret nm nL RM) {i z : Int} (hi : 0 ≤ i ∧ i < n 12) (hz : K 12 i 10 = z) (d : decode cc pc = .ok (.getfield 306, 3)) (kk : Y x n α K bc bs (pc + 3) lv (.int (iI z) :: st)) : Y x n α K bc bs pc lv (.ref (α 12 i) :: st) :=
  y_getN hE 10 10 (C := RX12) (T := TX12) (N := 15) (ci := 10) rfl rfl rfl rfl in_X12 (by decide) q744 (fun _ h => h) hi d (by subst hz; exact kk)
theorem gX1_309 (hE : YE x cc RX1 ret nm nL RM) {i z : Int} (hi : 0 ≤ i ∧ i < n 12) (hz : K 12 i 0 = z) (d : decode cc pc = .ok (.getfield 309, 3)) (kk : z < n 13 → Y x n α K bc bs (pc + 3) lv (refV α 13 z :: st)) : Y x n α K bc bs pc lv (.ref (α 12 i) :: st) :=
  y_getvN hE 0 0 (C := RX12) (T := TX12) (N := 15) (ci := 10) rfl rfl rfl rfl in_X12 (by decide) q726 (fun _ h => h) hi d (by subst hz; exact kk)
theorem gX1_309r (hE : YE x cc RX1 ret nm nL RM) {i z : Int} (hi : 0 ≤ i ∧ i < n 12) (hz : K 12 i 0 = z) (h0 : 0 ≤ z) (d : decode cc pc = .ok (.getfield 309, 3)) (kk : 0 ≤ z ∧ z < n 13 → Y x n α K bc bs (pc + 3) lv (.ref (α 13 z) :: st)) : Y x n α K bc bs pc lv (.ref (α 12 i) :: st) :=
  gX1_309 hE hi hz d (fun h => y_ref h0 (kk ⟨h0, h⟩))
theorem gX1_313 (hE : YE x cc RX1 ret nm nL RM) {i z : Int} (hi : 0 ≤ i ∧ i < n 13) (hz : K 13 i 0 = z) (d : decode cc pc = .ok (.getfield 313, 3)) (kk : z < n 11 → Y x n α K bc bs (pc + 3) lv (refV α 11 z :: st)) : Y x n α K bc bs pc lv (.ref (α 13 i) :: st) :=
  y_getvN hE 0 0 (C := RX13) (T := TX13) (N := 5) (ci := 11) rfl rfl rfl rfl in_X13 (by decide) q701 (fun _ h => h) hi d (by subst hz; exact kk)
theorem gX1_313r (hE : YE x cc RX1 ret nm nL RM) {i z : Int} (hi : 0 ≤ i ∧ i < n 13) (hz : K 13 i 0 = z) (h0 : 0 ≤ z) (d : decode cc pc = .ok (.getfield 313, 3)) (kk : 0 ≤ z ∧ z < n 11 → Y x n α K bc bs (pc + 3) lv (.ref (α 11 z) :: st)) : Y x n α K bc bs pc lv (.ref (α 13 i) :: st) :=
  gX1_313 hE hi hz d (fun h => y_ref h0 (kk ⟨h0, h⟩))
theorem gX1_324 (hE : YE x cc RX1 ret nm nL RM) {i z : Int} (hi : 0 ≤ i ∧ i < n 12) (hz : K 12 i 1 = z) (d : decode cc pc = .ok (.getfield 324, 3)) (kk : z < n 13 → Y x n α K bc bs (pc + 3) lv (refV α 13 z :: st)) : Y x n α K bc bs pc lv (.ref (α 12 i) :: st) :=
  y_getvN hE 1 1 (C := RX12) (T := TX12) (N := 15) (ci := 10) rfl rfl rfl rfl in_X12 (by decide) q728 (fun _ h => h) hi d (by subst hz; exact kk)
theorem gX1_324r (hE : YE x cc RX1 ret nm nL RM) {i z : Int} (hi : 0 ≤ i ∧ i < n 12) (hz : K 12 i 1 = z) (h0 : 0 ≤ z) (d : decode cc pc = .ok (.getfield 324, 3)) (kk : 0 ≤ z ∧ z < n 13 → Y x n α K bc bs (pc + 3) lv (.ref (α 13 z) :: st)) : Y x n α K bc bs pc lv (.ref (α 12 i) :: st) :=
  gX1_324 hE hi hz d (fun h => y_ref h0 (kk ⟨h0, h⟩))
theorem gX1_327 (hE : YE x cc RX1 ret nm nL RM) {i z : Int} (hi : 0 ≤ i ∧ i < n 12) (hz : K 12 i 2 = z) (d : decode cc pc = .ok (.getfield 327, 3)) (kk : Y x n α K bc bs (pc + 3) lv (.int (iI z) :: st)) : Y x n α K bc bs pc lv (.ref (α 12 i) :: st) :=
  y_getN hE 2 2 (C := RX12) (T := TX12) (N := 15) (ci := 10) rfl rfl rfl rfl in_X12 (by decide) q730 (fun _ h => h) hi d (by subst hz; exact kk)
theorem gX1_330 (hE : YE x cc RX1 ret nm nL RM) {i z : Int} (hi : 0 ≤ i ∧ i < n 12) (hz : K 12 i 3 = z) (d : decode cc pc = .ok (.getfield 330, 3)) (kk : Y x n α K bc bs (pc + 3) lv (.int (iI z) :: st)) : Y x n α K bc bs pc lv (.ref (α 12 i) :: st) :=
  y_getN hE 3 3 (C := RX12) (T := TX12) (N := 15) (ci := 10) rfl rfl rfl rfl in_X12 (by decide) q732 (fun _ h => h) hi d (by subst hz; exact kk)
theorem gX1_333 (hE : YE x cc RX1 ret nm nL RM) {i z : Int} (hi : 0 ≤ i ∧ i < n 12) (hz : K 12 i 5 = z) (d : decode cc pc = .ok (.getfield 333, 3)) (kk : Y x n α K bc bs (pc + 3) lv (.int (iI z) :: st)) : Y x n α K bc bs pc lv (.ref (α 12 i) :: st) :=
  y_getN hE 5 5 (C := RX12) (T := TX12) (N := 15) (ci := 10) rfl rfl rfl rfl in_X12 (by decide) q735 (fun _ h => h) hi d (by subst hz; exact kk)
theorem gX1_343 (hE : YE x cc RX1 ret nm nL RM) {i z : Int} (hi : 0 ≤ i ∧ i < n 3) (hz : K 3 i 0 = z) (d : decode cc pc = .ok (.getfield 343, 3)) (kk : z < n 34 → Y x n α K bc bs (pc + 3) lv (refV α 34 z :: st)) : Y x n α K bc bs pc lv (.ref (α 3 i) :: st) :=
  y_getvN hE 0 0 (C := RX3) (T := TX3) (N := 2) (ci := 2) rfl rfl rfl rfl in_X3 (by decide) q553 (fun _ h => h) hi d (by subst hz; exact kk)
theorem gX1_343r (hE : YE x cc RX1 ret nm nL RM) {i z : Int} (hi : 0 ≤ i ∧ i < n 3) (hz : K 3 i 0 = z) (h0 : 0 ≤ z) (d : decode cc pc = .ok (.getfield 343, 3)) (kk : 0 ≤ z ∧ z < n 34 → Y x n α K bc bs (pc + 3) lv (.ref (α 34 z) :: st)) : Y x n α K bc bs pc lv (.ref (α 3 i) :: st) :=
  gX1_343 hE hi hz d (fun h => y_ref h0 (kk ⟨h0, h⟩))
theorem gX1_351 (hE : YE x cc RX1 ret nm nL RM) {i z : Int} (hi : 0 ≤ i ∧ i < n 2) (hz : K 2 i 3 = z) (d : decode cc pc = .ok (.getfield 351, 3)) (kk : Y x n α K bc bs (pc + 3) lv (.int (iI z) :: st)) : Y x n α K bc bs pc lv (.ref (α 2 i) :: st) :=
  y_getN hE 3 3 (C := RX2) (T := TX2) (N := 4) (ci := 1) rfl rfl rfl rfl in_X2 (by decide) q534 (fun _ h => h) hi d (by subst hz; exact kk)
theorem pX1_351 (hE : YE x cc RX1 ret nm nL RM) {i z : Int} (hi : 0 ≤ i ∧ i < n 2) (d : decode cc pc = .ok (.putfield 351, 3)) (kk : Y x n α (up3 K 2 i 3 z) bc bs (pc + 3) lv st) : Y x n α K bc bs pc lv (.int (iI z) :: .ref (α 2 i) :: st) :=
  y_putN hE 3 3 (C := RX2) (T := TX2) (N := 4) (ci := 1) (by unfold kC; decide) rfl rfl rfl rfl in_X2 tyX2 tyX2_ok nmX2 (by decide) rfl q534 (fun _ h => h) rfl rfl rfl rfl rfl hi (fun h => absurd h (by decide)) d kk
theorem gX1_362 (hE : YE x cc RX1 ret nm nL RM) {i z : Int} (hi : 0 ≤ i ∧ i < n 2) (hz : K 2 i 0 = z) (d : decode cc pc = .ok (.getfield 362, 3)) (kk : z < n 31 → Y x n α K bc bs (pc + 3) lv (refV α 31 z :: st)) : Y x n α K bc bs pc lv (.ref (α 2 i) :: st) :=
  y_getvN hE 0 0 (C := RX2) (T := TX2) (N := 4) (ci := 1) rfl rfl rfl rfl in_X2 (by decide) q525 (fun _ h => h) hi d (by subst hz; exact kk)
theorem gX1_362r (hE : YE x cc RX1 ret nm nL RM) {i z : Int} (hi : 0 ≤ i ∧ i < n 2) (hz : K 2 i 0 = z) (h0 : 0 ≤ z) (d : decode cc pc = .ok (.getfield 362, 3)) (kk : 0 ≤ z ∧ z < n 31 → Y x n α K bc bs (pc + 3) lv (.ref (α 31 z) :: st)) : Y x n α K bc bs pc lv (.ref (α 2 i) :: st) :=
  gX1_362 hE hi hz d (fun h => y_ref h0 (kk ⟨h0, h⟩))
theorem gX1_365 (hE : YE x cc RX1 ret nm nL RM) {i z : Int} (hi : 0 ≤ i ∧ i < n 2) (hz : K 2 i 1 = z) (d : decode cc pc = .ok (.getfield 365, 3)) (kk : z < n 32 → Y x n α K bc bs (pc + 3) lv (refV α 32 z :: st)) : Y x n α K bc bs pc lv (.ref (α 2 i) :: st) :=
  y_getvN hE 1 1 (C := RX2) (T := TX2) (N := 4) (ci := 1) rfl rfl rfl rfl in_X2 (by decide) q528 (fun _ h => h) hi d (by subst hz; exact kk)
theorem gX1_365r (hE : YE x cc RX1 ret nm nL RM) {i z : Int} (hi : 0 ≤ i ∧ i < n 2) (hz : K 2 i 1 = z) (h0 : 0 ≤ z) (d : decode cc pc = .ok (.getfield 365, 3)) (kk : 0 ≤ z ∧ z < n 32 → Y x n α K bc bs (pc + 3) lv (.ref (α 32 z) :: st)) : Y x n α K bc bs pc lv (.ref (α 2 i) :: st) :=
  gX1_365 hE hi hz d (fun h => y_ref h0 (kk ⟨h0, h⟩))
theorem gX1_368 (hE : YE x cc RX1 ret nm nL RM) {i z : Int} (hi : 0 ≤ i ∧ i < n 2) (hz : K 2 i 2 = z) (d : decode cc pc = .ok (.getfield 368, 3)) (kk : z < n 33 → Y x n α K bc bs (pc + 3) lv (refV α 33 z :: st)) : Y x n α K bc bs pc lv (.ref (α 2 i) :: st) :=
  y_getvN hE 2 2 (C := RX2) (T := TX2) (N := 4) (ci := 1) rfl rfl rfl rfl in_X2 (by decide) q531 (fun _ h => h) hi d (by subst hz; exact kk)
theorem gX1_368r (hE : YE x cc RX1 ret nm nL RM) {i z : Int} (hi : 0 ≤ i ∧ i < n 2) (hz : K 2 i 2 = z) (h0 : 0 ≤ z) (d : decode cc pc = .ok (.getfield 368, 3)) (kk : 0 ≤ z ∧ z < n 33 → Y x n α K bc bs (pc + 3) lv (.ref (α 33 z) :: st)) : Y x n α K bc bs pc lv (.ref (α 2 i) :: st) :=
  gX1_368 hE hi hz d (fun h => y_ref h0 (kk ⟨h0, h⟩))
theorem gX1_369 (hE : YE x cc RX1 ret nm nL RM) {i z : Int} (hi : 0 ≤ i ∧ i < n 12) (hz : K 12 i 9 = z) (d : decode cc pc = .ok (.getfield 369, 3)) (kk : Y x n α K bc bs (pc + 3) lv (.int (iI z) :: st)) : Y x n α K bc bs pc lv (.ref (α 12 i) :: st) :=
  y_getN hE 9 9 (C := RX12) (T := TX12) (N := 15) (ci := 10) rfl rfl rfl rfl in_X12 (by decide) q742 (fun _ h => h) hi d (by subst hz; exact kk)
theorem gX1_372 (hE : YE x cc RX1 ret nm nL RM) {i z : Int} (hi : 0 ≤ i ∧ i < n 12) (hz : K 12 i 8 = z) (d : decode cc pc = .ok (.getfield 372, 3)) (kk : Y x n α K bc bs (pc + 3) lv (.int (iI z) :: st)) : Y x n α K bc bs pc lv (.ref (α 12 i) :: st) :=
  y_getN hE 8 8 (C := RX12) (T := TX12) (N := 15) (ci := 10) rfl rfl rfl rfl in_X12 (by decide) q740 (fun _ h => h) hi d (by subst hz; exact kk)
theorem gX1_377 (hE : YE x cc RX1 ret nm nL RM) {i z : Int} (hi : 0 ≤ i ∧ i < n 12) (hz : K 12 i 7 = z) (d : decode cc pc = .ok (.getfield 377, 3)) (kk : z < n 35 → Y x n α K bc bs (pc + 3) lv (refV α 35 z :: st)) : Y x n α K bc bs pc lv (.ref (α 12 i) :: st) :=
  y_getvN hE 7 7 (C := RX12) (T := TX12) (N := 15) (ci := 10) rfl rfl rfl rfl in_X12 (by decide) q738 (fun _ h => h) hi d (by subst hz; exact kk)
theorem gX1_377r (hE : YE x cc RX1 ret nm nL RM) {i z : Int} (hi : 0 ≤ i ∧ i < n 12) (hz : K 12 i 7 = z) (h0 : 0 ≤ z) (d : decode cc pc = .ok (.getfield 377, 3)) (kk : 0 ≤ z ∧ z < n 35 → Y x n α K bc bs (pc + 3) lv (.ref (α 35 z) :: st)) : Y x n α K bc bs pc lv (.ref (α 12 i) :: st) :=
  gX1_377 hE hi hz d (fun h => y_ref h0 (kk ⟨h0, h⟩))
theorem gX1_432 (hE : YE x cc RX1 ret nm nL RM) {i z : Int} (hi : 0 ≤ i ∧ i < n 14) (hz : K 14 i 1 = z) (d : decode cc pc = .ok (.getfield 432, 3)) (kk : z < n 11 → Y x n α K bc bs (pc + 3) lv (refV α 11 z :: st)) : Y x n α K bc bs pc lv (.ref (α 14 i) :: st) :=
  y_getvN hE 1 1 (C := RX14) (T := TX14) (N := 9) (ci := 12) rfl rfl rfl rfl in_X14 (by decide) q1052 (fun _ h => h) hi d (by subst hz; exact kk)
theorem gX1_432r (hE : YE x cc RX1 ret nm nL RM) {i z : Int} (hi : 0 ≤ i ∧ i < n 14) (hz : K 14 i 1 = z) (h0 : 0 ≤ z) (d : decode cc pc = .ok (.getfield 432, 3)) (kk : 0 ≤ z ∧ z < n 11 → Y x n α K bc bs (pc + 3) lv (.ref (α 11 z) :: st)) : Y x n α K bc bs pc lv (.ref (α 14 i) :: st) :=
  gX1_432 hE hi hz d (fun h => y_ref h0 (kk ⟨h0, h⟩))
theorem gX1_446 (hE : YE x cc RX1 ret nm nL RM) {i z : Int} (hi : 0 ≤ i ∧ i < n 17) (hz : K 17 i 0 = z) (d : decode cc pc = .ok (.getfield 446, 3)) (kk : z < n 12 → Y x n α K bc bs (pc + 3) lv (refV α 12 z :: st)) : Y x n α K bc bs pc lv (.ref (α 17 i) :: st) :=
  y_getvN hE 0 0 (C := RX17) (T := TX17) (N := 2) (ci := 15) rfl rfl rfl rfl in_X17 (by decide) q2694 (fun _ h => h) hi d (by subst hz; exact kk)
theorem gX1_446r (hE : YE x cc RX1 ret nm nL RM) {i z : Int} (hi : 0 ≤ i ∧ i < n 17) (hz : K 17 i 0 = z) (h0 : 0 ≤ z) (d : decode cc pc = .ok (.getfield 446, 3)) (kk : 0 ≤ z ∧ z < n 12 → Y x n α K bc bs (pc + 3) lv (.ref (α 12 z) :: st)) : Y x n α K bc bs pc lv (.ref (α 17 i) :: st) :=
  gX1_446 hE hi hz d (fun h => y_ref h0 (kk ⟨h0, h⟩))
theorem gX1_447 (hE : YE x cc RX1 ret nm nL RM) {i z : Int} (hi : 0 ≤ i ∧ i < n 17) (hz : K 17 i 1 = z) (d : decode cc pc = .ok (.getfield 447, 3)) (kk : z < n 38 → Y x n α K bc bs (pc + 3) lv (refV α 38 z :: st)) : Y x n α K bc bs pc lv (.ref (α 17 i) :: st) :=
  y_getvN hE 1 1 (C := RX17) (T := TX17) (N := 2) (ci := 15) rfl rfl rfl rfl in_X17 (by decide) q2696 (fun _ h => h) hi d (by subst hz; exact kk)
theorem gX1_447r (hE : YE x cc RX1 ret nm nL RM) {i z : Int} (hi : 0 ≤ i ∧ i < n 17) (hz : K 17 i 1 = z) (h0 : 0 ≤ z) (d : decode cc pc = .ok (.getfield 447, 3)) (kk : 0 ≤ z ∧ z < n 38 → Y x n α K bc bs (pc + 3) lv (.ref (α 38 z) :: st)) : Y x n α K bc bs pc lv (.ref (α 17 i) :: st) :=
  gX1_447 hE hi hz d (fun h => y_ref h0 (kk ⟨h0, h⟩))
theorem gX1_465 (hE : YE x cc RX1 ret nm nL RM) {i z : Int} (hi : 0 ≤ i ∧ i < n 18) (hz : K 18 i 1 = z) (d : decode cc pc = .ok (.getfield 465, 3)) (kk : Y x n α K bc bs (pc + 3) lv (.int (iI z) :: st)) : Y x n α K bc bs pc lv (.ref (α 18 i) :: st) :=
  y_getN hE 1 1 (C := RX16) (T := TX16) (N := 4) (ci := 14) rfl rfl rfl rfl in_X16 (by decide) q976 (fun _ h => h) hi d (by subst hz; exact kk)
theorem gX1_468 (hE : YE x cc RX1 ret nm nL RM) {i z : Int} (hi : 0 ≤ i ∧ i < n 18) (hz : K 18 i 0 = z) (d : decode cc pc = .ok (.getfield 468, 3)) (kk : z < n 27 → Y x n α K bc bs (pc + 3) lv (refV α 27 z :: st)) : Y x n α K bc bs pc lv (.ref (α 18 i) :: st) :=
  y_getvN hE 0 0 (C := RX16) (T := TX16) (N := 4) (ci := 14) rfl rfl rfl rfl in_X16 (by decide) q974 (fun _ h => h) hi d (by subst hz; exact kk)
theorem gX1_468r (hE : YE x cc RX1 ret nm nL RM) {i z : Int} (hi : 0 ≤ i ∧ i < n 18) (hz : K 18 i 0 = z) (h0 : 0 ≤ z) (d : decode cc pc = .ok (.getfield 468, 3)) (kk : 0 ≤ z ∧ z < n 27 → Y x n α K bc bs (pc + 3) lv (.ref (α 27 z) :: st)) : Y x n α K bc bs pc lv (.ref (α 18 i) :: st) :=
  gX1_468 hE hi hz d (fun h => y_ref h0 (kk ⟨h0, h⟩))
theorem gX10_9 (hE : YE x cc RX10 ret nm nL RM) {i z : Int} (htg : ¬ K 8 i 9 = 0) (hi : 0 ≤ i ∧ i < n 8) (hz : K 8 i 1 = z) (d : decode cc pc = .ok (.getfield 9, 3)) (kk : z < n 41 → Y x n α K bc bs (pc + 3) lv (refV α 41 z :: st)) : Y x n α K bc bs pc lv (.ref (α 8 i) :: st) :=
  y_getv hE 1 1 (C := RX10) (T := TX10) (N := 4) (ci := 8) (kD_line htg) rfl rfl rfl in_X10 (by decide) q2132 (fun _ h => h) hi d (by subst hz; exact kk)
theorem gX10_9r (hE : YE x cc RX10 ret nm nL RM) {i z : Int} (htg : ¬ K 8 i 9 = 0) (hi : 0 ≤ i ∧ i < n 8) (hz : K 8 i 1 = z) (h0 : 0 ≤ z) (d : decode cc pc = .ok (.getfield 9, 3)) (kk : 0 ≤ z ∧ z < n 41 → Y x n α K bc bs (pc + 3) lv (.ref (α 41 z) :: st)) : Y x n α K bc bs pc lv (.ref (α 8 i) :: st) :=
  gX10_9 hE htg hi hz d (fun h => y_ref h0 (kk ⟨h0, h⟩))
theorem pX10_9 (hE : YE x cc RX10 ret nm nL RM) {i z : Int} (htg : ¬ K 8 i 9 = 0) (hini : nm = "<init>") (hi : 0 ≤ i ∧ i < n 8) (hz : z < n 41) (d : decode cc pc = .ok (.putfield 9, 3)) (kk : Y x n α (up3 K 8 i 1 z) bc bs (pc + 3) lv st) : Y x n α K bc bs pc lv (refV α 41 z :: .ref (α 8 i) :: st) :=
  y_putF hE 1 1 (C := RX10) (T := TX10) (N := 4) (ci := 8) (by unfold kC; decide) (kD_line htg) rfl rfl rfl in_X10 tyX10 tyX10_ok nmX10 (by decide) rfl q2132 (fun _ h => h) rfl hini rfl rfl rfl nar_ra.1 nar_ra.2 hi (fun _ => hz) d kk
theorem pX10_9r (hE : YE x cc RX10 ret nm nL RM) {i z : Int} (htg : ¬ K 8 i 9 = 0) (hini : nm = "<init>") (hi : 0 ≤ i ∧ i < n 8) (hz : 0 ≤ z ∧ z < n 41) (d : decode cc pc = .ok (.putfield 9, 3)) (kk : Y x n α (up3 K 8 i 1 z) bc bs (pc + 3) lv st) : Y x n α K bc bs pc lv (.ref (α 41 z) :: .ref (α 8 i) :: st) := by
  rw [← refV_s (α := α) (j := 41) hz.1]
  exact pX10_9 hE htg hini hi hz.2 d kk
theorem gX10_15 (hE : YE x cc RX10 ret nm nL RM) {i z : Int} (htg : ¬ K 8 i 9 = 0) (hi : 0 ≤ i ∧ i < n 8) (hz : K 8 i 2 = z) (d : decode cc pc = .ok (.getfield 15, 3)) (kk : z < n 42 → Y x n α K bc bs (pc + 3) lv (refV α 42 z :: st)) : Y x n α K bc bs pc lv (.ref (α 8 i) :: st) :=
  y_getv hE 2 2 (C := RX10) (T := TX10) (N := 4) (ci := 8) (kD_line htg) rfl rfl rfl in_X10 (by decide) q2133 (fun _ h => h) hi d (by subst hz; exact kk)
theorem gX10_15r (hE : YE x cc RX10 ret nm nL RM) {i z : Int} (htg : ¬ K 8 i 9 = 0) (hi : 0 ≤ i ∧ i < n 8) (hz : K 8 i 2 = z) (h0 : 0 ≤ z) (d : decode cc pc = .ok (.getfield 15, 3)) (kk : 0 ≤ z ∧ z < n 42 → Y x n α K bc bs (pc + 3) lv (.ref (α 42 z) :: st)) : Y x n α K bc bs pc lv (.ref (α 8 i) :: st) :=
  gX10_15 hE htg hi hz d (fun h => y_ref h0 (kk ⟨h0, h⟩))
theorem pX10_15 (hE : YE x cc RX10 ret nm nL RM) {i z : Int} (htg : ¬ K 8 i 9 = 0) (hini : nm = "<init>") (hi : 0 ≤ i ∧ i < n 8) (hz : z < n 42) (d : decode cc pc = .ok (.putfield 15, 3)) (kk : Y x n α (up3 K 8 i 2 z) bc bs (pc + 3) lv st) : Y x n α K bc bs pc lv (refV α 42 z :: .ref (α 8 i) :: st) :=
  y_putF hE 2 2 (C := RX10) (T := TX10) (N := 4) (ci := 8) (by unfold kC; decide) (kD_line htg) rfl rfl rfl in_X10 tyX10 tyX10_ok nmX10 (by decide) rfl q2133 (fun _ h => h) rfl hini rfl rfl rfl nar_ra.1 nar_ra.2 hi (fun _ => hz) d kk
theorem pX10_15r (hE : YE x cc RX10 ret nm nL RM) {i z : Int} (htg : ¬ K 8 i 9 = 0) (hini : nm = "<init>") (hi : 0 ≤ i ∧ i < n 8) (hz : 0 ≤ z ∧ z < n 42) (d : decode cc pc = .ok (.putfield 15, 3)) (kk : Y x n α (up3 K 8 i 2 z) bc bs (pc + 3) lv st) : Y x n α K bc bs pc lv (.ref (α 42 z) :: .ref (α 8 i) :: st) := by
  rw [← refV_s (α := α) (j := 42) hz.1]
  exact pX10_15 hE htg hini hi hz.2 d kk
theorem gX10_19 (hE : YE x cc RX10 ret nm nL RM) {i z : Int} (htg : ¬ K 8 i 9 = 0) (hi : 0 ≤ i ∧ i < n 8) (hz : K 8 i 0 = z) (d : decode cc pc = .ok (.getfield 19, 3)) (kk : z < n 5 → Y x n α K bc bs (pc + 3) lv (refV α 5 z :: st)) : Y x n α K bc bs pc lv (.ref (α 8 i) :: st) :=
  y_getv hE 0 0 (C := RX10) (T := TX10) (N := 4) (ci := 8) (kD_line htg) rfl rfl rfl in_X10 (by decide) q2131 (fun _ h => h) hi d (by subst hz; exact kk)
theorem gX10_19r (hE : YE x cc RX10 ret nm nL RM) {i z : Int} (htg : ¬ K 8 i 9 = 0) (hi : 0 ≤ i ∧ i < n 8) (hz : K 8 i 0 = z) (h0 : 0 ≤ z) (d : decode cc pc = .ok (.getfield 19, 3)) (kk : 0 ≤ z ∧ z < n 5 → Y x n α K bc bs (pc + 3) lv (.ref (α 5 z) :: st)) : Y x n α K bc bs pc lv (.ref (α 8 i) :: st) :=
  gX10_19 hE htg hi hz d (fun h => y_ref h0 (kk ⟨h0, h⟩))
theorem pX10_19 (hE : YE x cc RX10 ret nm nL RM) {i z : Int} (htg : ¬ K 8 i 9 = 0) (hini : nm = "<init>") (hi : 0 ≤ i ∧ i < n 8) (hz : z < n 5) (d : decode cc pc = .ok (.putfield 19, 3)) (kk : Y x n α (up3 K 8 i 0 z) bc bs (pc + 3) lv st) : Y x n α K bc bs pc lv (refV α 5 z :: .ref (α 8 i) :: st) :=
  y_putF hE 0 0 (C := RX10) (T := TX10) (N := 4) (ci := 8) (by unfold kC; decide) (kD_line htg) rfl rfl rfl in_X10 tyX10 tyX10_ok nmX10 (by decide) rfl q2131 (fun _ h => h) rfl hini rfl rfl rfl nar_r.1 nar_r.2 hi (fun _ => hz) d kk
theorem pX10_19r (hE : YE x cc RX10 ret nm nL RM) {i z : Int} (htg : ¬ K 8 i 9 = 0) (hini : nm = "<init>") (hi : 0 ≤ i ∧ i < n 8) (hz : 0 ≤ z ∧ z < n 5) (d : decode cc pc = .ok (.putfield 19, 3)) (kk : Y x n α (up3 K 8 i 0 z) bc bs (pc + 3) lv st) : Y x n α K bc bs pc lv (.ref (α 5 z) :: .ref (α 8 i) :: st) := by
  rw [← refV_s (α := α) (j := 5) hz.1]
  exact pX10_19 hE htg hini hi hz.2 d kk
theorem gX10_23 (hE : YE x cc RX10 ret nm nL RM) {i z : Int} (htg : ¬ K 8 i 9 = 0) (hi : 0 ≤ i ∧ i < n 8) (hz : K 8 i 3 = z) (d : decode cc pc = .ok (.getfield 23, 3)) (kk : Y x n α K bc bs (pc + 3) lv (.int (iI z) :: st)) : Y x n α K bc bs pc lv (.ref (α 8 i) :: st) :=
  y_get hE 3 3 (C := RX10) (T := TX10) (N := 4) (ci := 8) (kD_line htg) rfl rfl rfl in_X10 (by decide) q2134 (fun _ h => h) hi d (by subst hz; exact kk)
theorem pX10_23 (hE : YE x cc RX10 ret nm nL RM) {i z : Int} (htg : ¬ K 8 i 9 = 0) (hi : 0 ≤ i ∧ i < n 8) (d : decode cc pc = .ok (.putfield 23, 3)) (kk : Y x n α (up3 K 8 i 3 z) bc bs (pc + 3) lv st) : Y x n α K bc bs pc lv (.int (iI z) :: .ref (α 8 i) :: st) :=
  y_put hE 3 3 (C := RX10) (T := TX10) (N := 4) (ci := 8) (by unfold kC; decide) (kD_line htg) rfl rfl rfl in_X10 tyX10 tyX10_ok nmX10 (by decide) rfl q2134 (fun _ h => h) rfl rfl rfl rfl rfl hi (fun h => absurd h (by decide)) d kk
theorem gX10_37 (hE : YE x cc RX10 ret nm nL RM) {i z : Int} (hi : 0 ≤ i ∧ i < n 5) (hz : K 5 i 1 = z) (d : decode cc pc = .ok (.getfield 37, 3)) (kk : Y x n α K bc bs (pc + 3) lv (.int (iI z) :: st)) : Y x n α K bc bs pc lv (.ref (α 5 i) :: st) :=
  y_getN hE 1 1 (C := RX5) (T := TX5) (N := 2) (ci := 4) rfl rfl rfl rfl in_X5 (by decide) q1953 (fun _ h => h) hi d (by subst hz; exact kk)
theorem pX11_7 (hE : YE x cc RX11 ret nm nL RM) {i z : Int} (hini : nm = "<init>") (hi : 0 ≤ i ∧ i < n 11) (d : decode cc pc = .ok (.putfield 7, 3)) (kk : Y x n α (up3 K 11 i 0 z) bc bs (pc + 3) lv st) : Y x n α K bc bs pc lv (.int (iI z) :: .ref (α 11 i) :: st) :=
  y_putF hE 0 0 (C := RX11) (T := TX11) (N := 5) (ci := 9) (by unfold kC; decide) rfl rfl rfl rfl in_X11 tyX11 tyX11_ok nmX11 (by decide) rfl q2205 (fun _ h => h) rfl hini rfl rfl rfl rfl rfl hi (fun h => absurd h (by decide)) d kk
theorem pX11_13 (hE : YE x cc RX11 ret nm nL RM) {i z : Int} (hini : nm = "<init>") (hi : 0 ≤ i ∧ i < n 11) (hz : z < n 8) (d : decode cc pc = .ok (.putfield 13, 3)) (kk : Y x n α (up3 K 11 i 1 z) bc bs (pc + 3) lv st) : Y x n α K bc bs pc lv (refV α 8 z :: .ref (α 11 i) :: st) :=
  y_putF hE 1 1 (C := RX11) (T := TX11) (N := 5) (ci := 9) (by unfold kC; decide) rfl rfl rfl rfl in_X11 tyX11 tyX11_ok nmX11 (by decide) rfl q2208 (fun _ h => h) rfl hini rfl rfl rfl nar_r.1 nar_r.2 hi (fun _ => hz) d kk
theorem pX11_13r (hE : YE x cc RX11 ret nm nL RM) {i z : Int} (hini : nm = "<init>") (hi : 0 ≤ i ∧ i < n 11) (hz : 0 ≤ z ∧ z < n 8) (d : decode cc pc = .ok (.putfield 13, 3)) (kk : Y x n α (up3 K 11 i 1 z) bc bs (pc + 3) lv st) : Y x n α K bc bs pc lv (.ref (α 8 z) :: .ref (α 11 i) :: st) := by
  rw [← refV_s (α := α) (j := 8) hz.1]
  exact pX11_13 hE hini hi hz.2 d kk
theorem pX11_17 (hE : YE x cc RX11 ret nm nL RM) {i z : Int} (hini : nm = "<init>") (hi : 0 ≤ i ∧ i < n 11) (d : decode cc pc = .ok (.putfield 17, 3)) (kk : Y x n α (up3 K 11 i 2 z) bc bs (pc + 3) lv st) : Y x n α K bc bs pc lv (.int (iI z) :: .ref (α 11 i) :: st) :=
  y_putF hE 2 2 (C := RX11) (T := TX11) (N := 5) (ci := 9) (by unfold kC; decide) rfl rfl rfl rfl in_X11 tyX11 tyX11_ok nmX11 (by decide) rfl q2211 (fun _ h => h) rfl hini rfl rfl rfl rfl rfl hi (fun h => absurd h (by decide)) d kk
theorem pX11_20 (hE : YE x cc RX11 ret nm nL RM) {i z : Int} (hini : nm = "<init>") (hi : 0 ≤ i ∧ i < n 11) (hz : z = 0 ∨ z = 1) (d : decode cc pc = .ok (.putfield 20, 3)) (kk : Y x n α (up3 K 11 i 3 z) bc bs (pc + 3) lv st) : Y x n α K bc bs pc lv (.int (iI z) :: .ref (α 11 i) :: st) :=
  y_putF hE 3 3 (C := RX11) (T := TX11) (N := 5) (ci := 9) (by unfold kC; decide) rfl rfl rfl rfl in_X11 tyX11 tyX11_ok nmX11 (by decide) rfl q2213 (fun _ h => h) rfl hini rfl rfl rfl (nar_b hz).1 (nar_b hz).2 hi (fun h => absurd h (by decide)) d kk
theorem gX11_24 (hE : YE x cc RX11 ret nm nL RM) {i z : Int} (hi : 0 ≤ i ∧ i < n 11) (hz : K 11 i 4 = z) (d : decode cc pc = .ok (.getfield 24, 3)) (kk : Y x n α K bc bs (pc + 3) lv (.int (iI z) :: st)) : Y x n α K bc bs pc lv (.ref (α 11 i) :: st) :=
  y_get hE 4 4 (C := RX11) (T := TX11) (N := 5) (ci := 9) rfl rfl rfl rfl in_X11 (by decide) q2216 (fun _ h => h) hi d (by subst hz; exact kk)
theorem pX11_24 (hE : YE x cc RX11 ret nm nL RM) {i z : Int} (hini : nm = "<init>") (hi : 0 ≤ i ∧ i < n 11) (d : decode cc pc = .ok (.putfield 24, 3)) (kk : Y x n α (up3 K 11 i 4 z) bc bs (pc + 3) lv st) : Y x n α K bc bs pc lv (.int (iI z) :: .ref (α 11 i) :: st) :=
  y_putF hE 4 4 (C := RX11) (T := TX11) (N := 5) (ci := 9) (by unfold kC; decide) rfl rfl rfl rfl in_X11 tyX11 tyX11_ok nmX11 (by decide) rfl q2216 (fun _ h => h) rfl hini rfl rfl rfl rfl rfl hi (fun h => absurd h (by decide)) d kk
theorem gX12_14 (hE : YE x cc RX12 ret nm nL RM) {i z : Int} (hi : 0 ≤ i ∧ i < n 12) (hz : K 12 i 14 = z) (d : decode cc pc = .ok (.getfield 14, 3)) (kk : z < n 1 → Y x n α K bc bs (pc + 3) lv (refV α 1 z :: st)) : Y x n α K bc bs pc lv (.ref (α 12 i) :: st) :=
  y_getv hE 14 14 (C := RX12) (T := TX12) (N := 15) (ci := 10) rfl rfl rfl rfl in_X12 (by decide) q748 (fun _ h => h) hi d (by subst hz; exact kk)
theorem gX12_14r (hE : YE x cc RX12 ret nm nL RM) {i z : Int} (hi : 0 ≤ i ∧ i < n 12) (hz : K 12 i 14 = z) (h0 : 0 ≤ z) (d : decode cc pc = .ok (.getfield 14, 3)) (kk : 0 ≤ z ∧ z < n 1 → Y x n α K bc bs (pc + 3) lv (.ref (α 1 z) :: st)) : Y x n α K bc bs pc lv (.ref (α 12 i) :: st) :=
  gX12_14 hE hi hz d (fun h => y_ref h0 (kk ⟨h0, h⟩))
theorem pX12_14 (hE : YE x cc RX12 ret nm nL RM) {i z : Int} (hini : nm = "<init>") (hi : 0 ≤ i ∧ i < n 12) (hz : z < n 1) (d : decode cc pc = .ok (.putfield 14, 3)) (kk : Y x n α (up3 K 12 i 14 z) bc bs (pc + 3) lv st) : Y x n α K bc bs pc lv (refV α 1 z :: .ref (α 12 i) :: st) :=
  y_putF hE 14 14 (C := RX12) (T := TX12) (N := 15) (ci := 10) (by unfold kC; decide) rfl rfl rfl rfl in_X12 tyX12 tyX12_ok nmX12 (by decide) rfl q748 (fun _ h => h) rfl hini rfl rfl rfl nar_r.1 nar_r.2 hi (fun _ => hz) d kk
theorem pX12_14r (hE : YE x cc RX12 ret nm nL RM) {i z : Int} (hini : nm = "<init>") (hi : 0 ≤ i ∧ i < n 12) (hz : 0 ≤ z ∧ z < n 1) (d : decode cc pc = .ok (.putfield 14, 3)) (kk : Y x n α (up3 K 12 i 14 z) bc bs (pc + 3) lv st) : Y x n α K bc bs pc lv (.ref (α 1 z) :: .ref (α 12 i) :: st) := by
  rw [← refV_s (α := α) (j := 1) hz.1]
  exact pX12_14 hE hini hi hz.2 d kk
theorem gX12_23 (hE : YE x cc RX12 ret nm nL RM) {i z : Int} (hi : 0 ≤ i ∧ i < n 12) (hz : K 12 i 2 = z) (d : decode cc pc = .ok (.getfield 23, 3)) (kk : Y x n α K bc bs (pc + 3) lv (.int (iI z) :: st)) : Y x n α K bc bs pc lv (.ref (α 12 i) :: st) :=
  y_get hE 2 2 (C := RX12) (T := TX12) (N := 15) (ci := 10) rfl rfl rfl rfl in_X12 (by decide) q729 (fun _ h => h) hi d (by subst hz; exact kk)
theorem pX12_23 (hE : YE x cc RX12 ret nm nL RM) {i z : Int} (hi : 0 ≤ i ∧ i < n 12) (d : decode cc pc = .ok (.putfield 23, 3)) (kk : Y x n α (up3 K 12 i 2 z) bc bs (pc + 3) lv st) : Y x n α K bc bs pc lv (.int (iI z) :: .ref (α 12 i) :: st) :=
  y_put hE 2 2 (C := RX12) (T := TX12) (N := 15) (ci := 10) (by unfold kC; decide) rfl rfl rfl rfl in_X12 tyX12 tyX12_ok nmX12 (by decide) rfl q729 (fun _ h => h) rfl rfl rfl rfl rfl hi (fun h => absurd h (by decide)) d kk
theorem gX12_30 (hE : YE x cc RX12 ret nm nL RM) {i z : Int} (hi : 0 ≤ i ∧ i < n 12) (hz : K 12 i 6 = z) (d : decode cc pc = .ok (.getfield 30, 3)) (kk : z < n 2 → Y x n α K bc bs (pc + 3) lv (refV α 2 z :: st)) : Y x n α K bc bs pc lv (.ref (α 12 i) :: st) :=
  y_getv hE 6 6 (C := RX12) (T := TX12) (N := 15) (ci := 10) rfl rfl rfl rfl in_X12 (by decide) q736 (fun _ h => h) hi d (by subst hz; exact kk)
theorem gX12_30r (hE : YE x cc RX12 ret nm nL RM) {i z : Int} (hi : 0 ≤ i ∧ i < n 12) (hz : K 12 i 6 = z) (h0 : 0 ≤ z) (d : decode cc pc = .ok (.getfield 30, 3)) (kk : 0 ≤ z ∧ z < n 2 → Y x n α K bc bs (pc + 3) lv (.ref (α 2 z) :: st)) : Y x n α K bc bs pc lv (.ref (α 12 i) :: st) :=
  gX12_30 hE hi hz d (fun h => y_ref h0 (kk ⟨h0, h⟩))
theorem pX12_30 (hE : YE x cc RX12 ret nm nL RM) {i z : Int} (hini : nm = "<init>") (hi : 0 ≤ i ∧ i < n 12) (hz : z < n 2) (d : decode cc pc = .ok (.putfield 30, 3)) (kk : Y x n α (up3 K 12 i 6 z) bc bs (pc + 3) lv st) : Y x n α K bc bs pc lv (refV α 2 z :: .ref (α 12 i) :: st) :=
  y_putF hE 6 6 (C := RX12) (T := TX12) (N := 15) (ci := 10) (by unfold kC; decide) rfl rfl rfl rfl in_X12 tyX12 tyX12_ok nmX12 (by decide) rfl q736 (fun _ h => h) rfl hini rfl rfl rfl nar_r.1 nar_r.2 hi (fun _ => hz) d kk
theorem pX12_30r (hE : YE x cc RX12 ret nm nL RM) {i z : Int} (hini : nm = "<init>") (hi : 0 ≤ i ∧ i < n 12) (hz : 0 ≤ z ∧ z < n 2) (d : decode cc pc = .ok (.putfield 30, 3)) (kk : Y x n α (up3 K 12 i 6 z) bc bs (pc + 3) lv st) : Y x n α K bc bs pc lv (.ref (α 2 z) :: .ref (α 12 i) :: st) := by
  rw [← refV_s (α := α) (j := 2) hz.1]
  exact pX12_30 hE hini hi hz.2 d kk
theorem gX12_34 (hE : YE x cc RX12 ret nm nL RM) {i z : Int} (hi : 0 ≤ i ∧ i < n 12) (hz : K 12 i 7 = z) (d : decode cc pc = .ok (.getfield 34, 3)) (kk : z < n 35 → Y x n α K bc bs (pc + 3) lv (refV α 35 z :: st)) : Y x n α K bc bs pc lv (.ref (α 12 i) :: st) :=
  y_getv hE 7 7 (C := RX12) (T := TX12) (N := 15) (ci := 10) rfl rfl rfl rfl in_X12 (by decide) q737 (fun _ h => h) hi d (by subst hz; exact kk)
theorem gX12_34r (hE : YE x cc RX12 ret nm nL RM) {i z : Int} (hi : 0 ≤ i ∧ i < n 12) (hz : K 12 i 7 = z) (h0 : 0 ≤ z) (d : decode cc pc = .ok (.getfield 34, 3)) (kk : 0 ≤ z ∧ z < n 35 → Y x n α K bc bs (pc + 3) lv (.ref (α 35 z) :: st)) : Y x n α K bc bs pc lv (.ref (α 12 i) :: st) :=
  gX12_34 hE hi hz d (fun h => y_ref h0 (kk ⟨h0, h⟩))
theorem pX12_34 (hE : YE x cc RX12 ret nm nL RM) {i z : Int} (hini : nm = "<init>") (hi : 0 ≤ i ∧ i < n 12) (hz : z < n 35) (d : decode cc pc = .ok (.putfield 34, 3)) (kk : Y x n α (up3 K 12 i 7 z) bc bs (pc + 3) lv st) : Y x n α K bc bs pc lv (refV α 35 z :: .ref (α 12 i) :: st) :=
  y_putF hE 7 7 (C := RX12) (T := TX12) (N := 15) (ci := 10) (by unfold kC; decide) rfl rfl rfl rfl in_X12 tyX12 tyX12_ok nmX12 (by decide) rfl q737 (fun _ h => h) rfl hini rfl rfl rfl nar_ra.1 nar_ra.2 hi (fun _ => hz) d kk
theorem pX12_34r (hE : YE x cc RX12 ret nm nL RM) {i z : Int} (hini : nm = "<init>") (hi : 0 ≤ i ∧ i < n 12) (hz : 0 ≤ z ∧ z < n 35) (d : decode cc pc = .ok (.putfield 34, 3)) (kk : Y x n α (up3 K 12 i 7 z) bc bs (pc + 3) lv st) : Y x n α K bc bs pc lv (.ref (α 35 z) :: .ref (α 12 i) :: st) := by
  rw [← refV_s (α := α) (j := 35) hz.1]
  exact pX12_34 hE hini hi hz.2 d kk
theorem gX12_38 (hE : YE x cc RX12 ret nm nL RM) {i z : Int} (hi : 0 ≤ i ∧ i < n 12) (hz : K 12 i 11 = z) (d : decode cc pc = .ok (.getfield 38, 3)) (kk : z < n 36 → Y x n α K bc bs (pc + 3) lv (refV α 36 z :: st)) : Y x n α K bc bs pc lv (.ref (α 12 i) :: st) :=
  y_getv hE 11 11 (C := RX12) (T := TX12) (N := 15) (ci := 10) rfl rfl rfl rfl in_X12 (by decide) q745 (fun _ h => h) hi d (by subst hz; exact kk)
theorem gX12_38r (hE : YE x cc RX12 ret nm nL RM) {i z : Int} (hi : 0 ≤ i ∧ i < n 12) (hz : K 12 i 11 = z) (h0 : 0 ≤ z) (d : decode cc pc = .ok (.getfield 38, 3)) (kk : 0 ≤ z ∧ z < n 36 → Y x n α K bc bs (pc + 3) lv (.ref (α 36 z) :: st)) : Y x n α K bc bs pc lv (.ref (α 12 i) :: st) :=
  gX12_38 hE hi hz d (fun h => y_ref h0 (kk ⟨h0, h⟩))
theorem pX12_38 (hE : YE x cc RX12 ret nm nL RM) {i z : Int} (hini : nm = "<init>") (hi : 0 ≤ i ∧ i < n 12) (hz : z < n 36) (d : decode cc pc = .ok (.putfield 38, 3)) (kk : Y x n α (up3 K 12 i 11 z) bc bs (pc + 3) lv st) : Y x n α K bc bs pc lv (refV α 36 z :: .ref (α 12 i) :: st) :=
  y_putF hE 11 11 (C := RX12) (T := TX12) (N := 15) (ci := 10) (by unfold kC; decide) rfl rfl rfl rfl in_X12 tyX12 tyX12_ok nmX12 (by decide) rfl q745 (fun _ h => h) rfl hini rfl rfl rfl nar_ra.1 nar_ra.2 hi (fun _ => hz) d kk
theorem pX12_38r (hE : YE x cc RX12 ret nm nL RM) {i z : Int} (hini : nm = "<init>") (hi : 0 ≤ i ∧ i < n 12) (hz : 0 ≤ z ∧ z < n 36) (d : decode cc pc = .ok (.putfield 38, 3)) (kk : Y x n α (up3 K 12 i 11 z) bc bs (pc + 3) lv st) : Y x n α K bc bs pc lv (.ref (α 36 z) :: .ref (α 12 i) :: st) := by
  rw [← refV_s (α := α) (j := 36) hz.1]
  exact pX12_38 hE hini hi hz.2 d kk
theorem gX12_41 (hE : YE x cc RX12 ret nm nL RM) {i z : Int} (hi : 0 ≤ i ∧ i < n 12) (hz : K 12 i 12 = z) (d : decode cc pc = .ok (.getfield 41, 3)) (kk : z < n 37 → Y x n α K bc bs (pc + 3) lv (refV α 37 z :: st)) : Y x n α K bc bs pc lv (.ref (α 12 i) :: st) :=
  y_getv hE 12 12 (C := RX12) (T := TX12) (N := 15) (ci := 10) rfl rfl rfl rfl in_X12 (by decide) q746 (fun _ h => h) hi d (by subst hz; exact kk)
theorem gX12_41r (hE : YE x cc RX12 ret nm nL RM) {i z : Int} (hi : 0 ≤ i ∧ i < n 12) (hz : K 12 i 12 = z) (h0 : 0 ≤ z) (d : decode cc pc = .ok (.getfield 41, 3)) (kk : 0 ≤ z ∧ z < n 37 → Y x n α K bc bs (pc + 3) lv (.ref (α 37 z) :: st)) : Y x n α K bc bs pc lv (.ref (α 12 i) :: st) :=
  gX12_41 hE hi hz d (fun h => y_ref h0 (kk ⟨h0, h⟩))
theorem pX12_41 (hE : YE x cc RX12 ret nm nL RM) {i z : Int} (hini : nm = "<init>") (hi : 0 ≤ i ∧ i < n 12) (hz : z < n 37) (d : decode cc pc = .ok (.putfield 41, 3)) (kk : Y x n α (up3 K 12 i 12 z) bc bs (pc + 3) lv st) : Y x n α K bc bs pc lv (refV α 37 z :: .ref (α 12 i) :: st) :=
  y_putF hE 12 12 (C := RX12) (T := TX12) (N := 15) (ci := 10) (by unfold kC; decide) rfl rfl rfl rfl in_X12 tyX12 tyX12_ok nmX12 (by decide) rfl q746 (fun _ h => h) rfl hini rfl rfl rfl nar_ra.1 nar_ra.2 hi (fun _ => hz) d kk
theorem pX12_41r (hE : YE x cc RX12 ret nm nL RM) {i z : Int} (hini : nm = "<init>") (hi : 0 ≤ i ∧ i < n 12) (hz : 0 ≤ z ∧ z < n 37) (d : decode cc pc = .ok (.putfield 41, 3)) (kk : Y x n α (up3 K 12 i 12 z) bc bs (pc + 3) lv st) : Y x n α K bc bs pc lv (.ref (α 37 z) :: .ref (α 12 i) :: st) := by
  rw [← refV_s (α := α) (j := 37) hz.1]
  exact pX12_41 hE hini hi hz.2 d kk
theorem gX12_45 (hE : YE x cc RX12 ret nm nL RM) {i z : Int} (hi : 0 ≤ i ∧ i < n 12) (hz : K 12 i 0 = z) (d : decode cc pc = .ok (.getfield 45, 3)) (kk : z < n 13 → Y x n α K bc bs (pc + 3) lv (refV α 13 z :: st)) : Y x n α K bc bs pc lv (.ref (α 12 i) :: st) :=
  y_getv hE 0 0 (C := RX12) (T := TX12) (N := 15) (ci := 10) rfl rfl rfl rfl in_X12 (by decide) q725 (fun _ h => h) hi d (by subst hz; exact kk)
theorem gX12_45r (hE : YE x cc RX12 ret nm nL RM) {i z : Int} (hi : 0 ≤ i ∧ i < n 12) (hz : K 12 i 0 = z) (h0 : 0 ≤ z) (d : decode cc pc = .ok (.getfield 45, 3)) (kk : 0 ≤ z ∧ z < n 13 → Y x n α K bc bs (pc + 3) lv (.ref (α 13 z) :: st)) : Y x n α K bc bs pc lv (.ref (α 12 i) :: st) :=
  gX12_45 hE hi hz d (fun h => y_ref h0 (kk ⟨h0, h⟩))
theorem pX12_45 (hE : YE x cc RX12 ret nm nL RM) {i z : Int} (hi : 0 ≤ i ∧ i < n 12) (hz : z < n 13) (d : decode cc pc = .ok (.putfield 45, 3)) (kk : Y x n α (up3 K 12 i 0 z) bc bs (pc + 3) lv st) : Y x n α K bc bs pc lv (refV α 13 z :: .ref (α 12 i) :: st) :=
  y_put hE 0 0 (C := RX12) (T := TX12) (N := 15) (ci := 10) (by unfold kC; decide) rfl rfl rfl rfl in_X12 tyX12 tyX12_ok nmX12 (by decide) rfl q725 (fun _ h => h) rfl rfl rfl nar_r.1 nar_r.2 hi (fun _ => hz) d kk
theorem pX12_45r (hE : YE x cc RX12 ret nm nL RM) {i z : Int} (hi : 0 ≤ i ∧ i < n 12) (hz : 0 ≤ z ∧ z < n 13) (d : decode cc pc = .ok (.putfield 45, 3)) (kk : Y x n α (up3 K 12 i 0 z) bc bs (pc + 3) lv st) : Y x n α K bc bs pc lv (.ref (α 13 z) :: .ref (α 12 i) :: st) := by
  rw [← refV_s (α := α) (j := 13) hz.1]
  exact pX12_45 hE hi hz.2 d kk
theorem gX12_53 (hE : YE x cc RX12 ret nm nL RM) {i z : Int} (hi : 0 ≤ i ∧ i < n 12) (hz : K 12 i 1 = z) (d : decode cc pc = .ok (.getfield 53, 3)) (kk : z < n 13 → Y x n α K bc bs (pc + 3) lv (refV α 13 z :: st)) : Y x n α K bc bs pc lv (.ref (α 12 i) :: st) :=
  y_getv hE 1 1 (C := RX12) (T := TX12) (N := 15) (ci := 10) rfl rfl rfl rfl in_X12 (by decide) q727 (fun _ h => h) hi d (by subst hz; exact kk)
theorem gX12_53r (hE : YE x cc RX12 ret nm nL RM) {i z : Int} (hi : 0 ≤ i ∧ i < n 12) (hz : K 12 i 1 = z) (h0 : 0 ≤ z) (d : decode cc pc = .ok (.getfield 53, 3)) (kk : 0 ≤ z ∧ z < n 13 → Y x n α K bc bs (pc + 3) lv (.ref (α 13 z) :: st)) : Y x n α K bc bs pc lv (.ref (α 12 i) :: st) :=
  gX12_53 hE hi hz d (fun h => y_ref h0 (kk ⟨h0, h⟩))
theorem pX12_53 (hE : YE x cc RX12 ret nm nL RM) {i z : Int} (hi : 0 ≤ i ∧ i < n 12) (hz : z < n 13) (d : decode cc pc = .ok (.putfield 53, 3)) (kk : Y x n α (up3 K 12 i 1 z) bc bs (pc + 3) lv st) : Y x n α K bc bs pc lv (refV α 13 z :: .ref (α 12 i) :: st) :=
  y_put hE 1 1 (C := RX12) (T := TX12) (N := 15) (ci := 10) (by unfold kC; decide) rfl rfl rfl rfl in_X12 tyX12 tyX12_ok nmX12 (by decide) rfl q727 (fun _ h => h) rfl rfl rfl nar_r.1 nar_r.2 hi (fun _ => hz) d kk
theorem pX12_53r (hE : YE x cc RX12 ret nm nL RM) {i z : Int} (hi : 0 ≤ i ∧ i < n 12) (hz : 0 ≤ z ∧ z < n 13) (d : decode cc pc = .ok (.putfield 53, 3)) (kk : Y x n α (up3 K 12 i 1 z) bc bs (pc + 3) lv st) : Y x n α K bc bs pc lv (.ref (α 13 z) :: .ref (α 12 i) :: st) := by
  rw [← refV_s (α := α) (j := 13) hz.1]
  exact pX12_53 hE hi hz.2 d kk
theorem gX12_56 (hE : YE x cc RX12 ret nm nL RM) {i z : Int} (hi : 0 ≤ i ∧ i < n 12) (hz : K 12 i 3 = z) (d : decode cc pc = .ok (.getfield 56, 3)) (kk : Y x n α K bc bs (pc + 3) lv (.int (iI z) :: st)) : Y x n α K bc bs pc lv (.ref (α 12 i) :: st) :=
  y_get hE 3 3 (C := RX12) (T := TX12) (N := 15) (ci := 10) rfl rfl rfl rfl in_X12 (by decide) q731 (fun _ h => h) hi d (by subst hz; exact kk)
theorem pX12_56 (hE : YE x cc RX12 ret nm nL RM) {i z : Int} (hi : 0 ≤ i ∧ i < n 12) (d : decode cc pc = .ok (.putfield 56, 3)) (kk : Y x n α (up3 K 12 i 3 z) bc bs (pc + 3) lv st) : Y x n α K bc bs pc lv (.int (iI z) :: .ref (α 12 i) :: st) :=
  y_put hE 3 3 (C := RX12) (T := TX12) (N := 15) (ci := 10) (by unfold kC; decide) rfl rfl rfl rfl in_X12 tyX12 tyX12_ok nmX12 (by decide) rfl q731 (fun _ h => h) rfl rfl rfl rfl rfl hi (fun h => absurd h (by decide)) d kk
theorem gX12_59 (hE : YE x cc RX12 ret nm nL RM) {i z : Int} (hi : 0 ≤ i ∧ i < n 12) (hz : K 12 i 4 = z) (d : decode cc pc = .ok (.getfield 59, 3)) (kk : Y x n α K bc bs (pc + 3) lv (.int (iI z) :: st)) : Y x n α K bc bs pc lv (.ref (α 12 i) :: st) :=
  y_get hE 4 4 (C := RX12) (T := TX12) (N := 15) (ci := 10) rfl rfl rfl rfl in_X12 (by decide) q733 (fun _ h => h) hi d (by subst hz; exact kk)
theorem pX12_59 (hE : YE x cc RX12 ret nm nL RM) {i z : Int} (hi : 0 ≤ i ∧ i < n 12) (d : decode cc pc = .ok (.putfield 59, 3)) (kk : Y x n α (up3 K 12 i 4 z) bc bs (pc + 3) lv st) : Y x n α K bc bs pc lv (.int (iI z) :: .ref (α 12 i) :: st) :=
  y_put hE 4 4 (C := RX12) (T := TX12) (N := 15) (ci := 10) (by unfold kC; decide) rfl rfl rfl rfl in_X12 tyX12 tyX12_ok nmX12 (by decide) rfl q733 (fun _ h => h) rfl rfl rfl rfl rfl hi (fun h => absurd h (by decide)) d kk
theorem gX12_62 (hE : YE x cc RX12 ret nm nL RM) {i z : Int} (hi : 0 ≤ i ∧ i < n 12) (hz : K 12 i 5 = z) (d : decode cc pc = .ok (.getfield 62, 3)) (kk : Y x n α K bc bs (pc + 3) lv (.int (iI z) :: st)) : Y x n α K bc bs pc lv (.ref (α 12 i) :: st) :=
  y_get hE 5 5 (C := RX12) (T := TX12) (N := 15) (ci := 10) rfl rfl rfl rfl in_X12 (by decide) q734 (fun _ h => h) hi d (by subst hz; exact kk)
theorem pX12_62 (hE : YE x cc RX12 ret nm nL RM) {i z : Int} (hi : 0 ≤ i ∧ i < n 12) (hz : z = 0 ∨ z = 1) (d : decode cc pc = .ok (.putfield 62, 3)) (kk : Y x n α (up3 K 12 i 5 z) bc bs (pc + 3) lv st) : Y x n α K bc bs pc lv (.int (iI z) :: .ref (α 12 i) :: st) :=
  y_put hE 5 5 (C := RX12) (T := TX12) (N := 15) (ci := 10) (by unfold kC; decide) rfl rfl rfl rfl in_X12 tyX12 tyX12_ok nmX12 (by decide) rfl q734 (fun _ h => h) rfl rfl rfl (nar_b hz).1 (nar_b hz).2 hi (fun h => absurd h (by decide)) d kk
theorem gX12_76 (hE : YE x cc RX12 ret nm nL RM) {i z : Int} (hi : 0 ≤ i ∧ i < n 12) (hz : K 12 i 8 = z) (d : decode cc pc = .ok (.getfield 76, 3)) (kk : Y x n α K bc bs (pc + 3) lv (.int (iI z) :: st)) : Y x n α K bc bs pc lv (.ref (α 12 i) :: st) :=
  y_get hE 8 8 (C := RX12) (T := TX12) (N := 15) (ci := 10) rfl rfl rfl rfl in_X12 (by decide) q739 (fun _ h => h) hi d (by subst hz; exact kk)
theorem pX12_76 (hE : YE x cc RX12 ret nm nL RM) {i z : Int} (hi : 0 ≤ i ∧ i < n 12) (d : decode cc pc = .ok (.putfield 76, 3)) (kk : Y x n α (up3 K 12 i 8 z) bc bs (pc + 3) lv st) : Y x n α K bc bs pc lv (.int (iI z) :: .ref (α 12 i) :: st) :=
  y_put hE 8 8 (C := RX12) (T := TX12) (N := 15) (ci := 10) (by unfold kC; decide) rfl rfl rfl rfl in_X12 tyX12 tyX12_ok nmX12 (by decide) rfl q739 (fun _ h => h) rfl rfl rfl rfl rfl hi (fun h => absurd h (by decide)) d kk
theorem gX12_79 (hE : YE x cc RX12 ret nm nL RM) {i z : Int} (hi : 0 ≤ i ∧ i < n 12) (hz : K 12 i 9 = z) (d : decode cc pc = .ok (.getfield 79, 3)) (kk : Y x n α K bc bs (pc + 3) lv (.int (iI z) :: st)) : Y x n α K bc bs pc lv (.ref (α 12 i) :: st) :=
  y_get hE 9 9 (C := RX12) (T := TX12) (N := 15) (ci := 10) rfl rfl rfl rfl in_X12 (by decide) q741 (fun _ h => h) hi d (by subst hz; exact kk)
theorem pX12_79 (hE : YE x cc RX12 ret nm nL RM) {i z : Int} (hi : 0 ≤ i ∧ i < n 12) (d : decode cc pc = .ok (.putfield 79, 3)) (kk : Y x n α (up3 K 12 i 9 z) bc bs (pc + 3) lv st) : Y x n α K bc bs pc lv (.int (iI z) :: .ref (α 12 i) :: st) :=
  y_put hE 9 9 (C := RX12) (T := TX12) (N := 15) (ci := 10) (by unfold kC; decide) rfl rfl rfl rfl in_X12 tyX12 tyX12_ok nmX12 (by decide) rfl q741 (fun _ h => h) rfl rfl rfl rfl rfl hi (fun h => absurd h (by decide)) d kk
theorem gX12_82 (hE : YE x cc RX12 ret nm nL RM) {i z : Int} (hi : 0 ≤ i ∧ i < n 12) (hz : K 12 i 10 = z) (d : decode cc pc = .ok (.getfield 82, 3)) (kk : Y x n α K bc bs (pc + 3) lv (.int (iI z) :: st)) : Y x n α K bc bs pc lv (.ref (α 12 i) :: st) :=
  y_get hE 10 10 (C := RX12) (T := TX12) (N := 15) (ci := 10) rfl rfl rfl rfl in_X12 (by decide) q743 (fun _ h => h) hi d (by subst hz; exact kk)
theorem pX12_82 (hE : YE x cc RX12 ret nm nL RM) {i z : Int} (hi : 0 ≤ i ∧ i < n 12) (d : decode cc pc = .ok (.putfield 82, 3)) (kk : Y x n α (up3 K 12 i 10 z) bc bs (pc + 3) lv st) : Y x n α K bc bs pc lv (.int (iI z) :: .ref (α 12 i) :: st) :=
  y_put hE 10 10 (C := RX12) (T := TX12) (N := 15) (ci := 10) (by unfold kC; decide) rfl rfl rfl rfl in_X12 tyX12 tyX12_ok nmX12 (by decide) rfl q743 (fun _ h => h) rfl rfl rfl rfl rfl hi (fun h => absurd h (by decide)) d kk
theorem gX12_89 (hE : YE x cc RX12 ret nm nL RM) {i z : Int} (hi : 0 ≤ i ∧ i < n 13) (hz : K 13 i 0 = z) (d : decode cc pc = .ok (.getfield 89, 3)) (kk : z < n 11 → Y x n α K bc bs (pc + 3) lv (refV α 11 z :: st)) : Y x n α K bc bs pc lv (.ref (α 13 i) :: st) :=
  y_getvN hE 0 0 (C := RX13) (T := TX13) (N := 5) (ci := 11) rfl rfl rfl rfl in_X13 (by decide) q700 (fun _ h => h) hi d (by subst hz; exact kk)
theorem gX12_89r (hE : YE x cc RX12 ret nm nL RM) {i z : Int} (hi : 0 ≤ i ∧ i < n 13) (hz : K 13 i 0 = z) (h0 : 0 ≤ z) (d : decode cc pc = .ok (.getfield 89, 3)) (kk : 0 ≤ z ∧ z < n 11 → Y x n α K bc bs (pc + 3) lv (.ref (α 11 z) :: st)) : Y x n α K bc bs pc lv (.ref (α 13 i) :: st) :=
  gX12_89 hE hi hz d (fun h => y_ref h0 (kk ⟨h0, h⟩))
theorem gX12_95 (hE : YE x cc RX12 ret nm nL RM) {i z : Int} (hi : 0 ≤ i ∧ i < n 1) (hz : K 1 i 4 = z) (d : decode cc pc = .ok (.getfield 95, 3)) (kk : z < n 24 → Y x n α K bc bs (pc + 3) lv (refV α 24 z :: st)) : Y x n α K bc bs pc lv (.ref (α 1 i) :: st) :=
  y_getvN hE 4 4 (C := RX1) (T := TX1) (N := 13) (ci := 0) rfl rfl rfl rfl in_X1 (by decide) q621 (fun _ h => h) hi d (by subst hz; exact kk)
theorem gX12_95r (hE : YE x cc RX12 ret nm nL RM) {i z : Int} (hi : 0 ≤ i ∧ i < n 1) (hz : K 1 i 4 = z) (h0 : 0 ≤ z) (d : decode cc pc = .ok (.getfield 95, 3)) (kk : 0 ≤ z ∧ z < n 24 → Y x n α K bc bs (pc + 3) lv (.ref (α 24 z) :: st)) : Y x n α K bc bs pc lv (.ref (α 1 i) :: st) :=
  gX12_95 hE hi hz d (fun h => y_ref h0 (kk ⟨h0, h⟩))
theorem gX12_107 (hE : YE x cc RX12 ret nm nL RM) {i z : Int} (hi : 0 ≤ i ∧ i < n 14) (hz : K 14 i 2 = z) (d : decode cc pc = .ok (.getfield 107, 3)) (kk : Y x n α K bc bs (pc + 3) lv (.int (iI z) :: st)) : Y x n α K bc bs pc lv (.ref (α 14 i) :: st) :=
  y_getN hE 2 2 (C := RX14) (T := TX14) (N := 9) (ci := 12) rfl rfl rfl rfl in_X14 (by decide) q1054 (fun _ h => h) hi d (by subst hz; exact kk)
theorem gX12_114 (hE : YE x cc RX12 ret nm nL RM) {i z : Int} (hi : 0 ≤ i ∧ i < n 12) (hz : K 12 i 13 = z) (d : decode cc pc = .ok (.getfield 114, 3)) (kk : Y x n α K bc bs (pc + 3) lv (.int (iI z) :: st)) : Y x n α K bc bs pc lv (.ref (α 12 i) :: st) :=
  y_get hE 13 13 (C := RX12) (T := TX12) (N := 15) (ci := 10) rfl rfl rfl rfl in_X12 (by decide) q747 (fun _ h => h) hi d (by subst hz; exact kk)
theorem pX12_114 (hE : YE x cc RX12 ret nm nL RM) {i z : Int} (hi : 0 ≤ i ∧ i < n 12) (d : decode cc pc = .ok (.putfield 114, 3)) (kk : Y x n α (up3 K 12 i 13 z) bc bs (pc + 3) lv st) : Y x n α K bc bs pc lv (.int (iI z) :: .ref (α 12 i) :: st) :=
  y_put hE 13 13 (C := RX12) (T := TX12) (N := 15) (ci := 10) (by unfold kC; decide) rfl rfl rfl rfl in_X12 tyX12 tyX12_ok nmX12 (by decide) rfl q747 (fun _ h => h) rfl rfl rfl rfl rfl hi (fun h => absurd h (by decide)) d kk
theorem gX12_117 (hE : YE x cc RX12 ret nm nL RM) {i z : Int} (hi : 0 ≤ i ∧ i < n 14) (hz : K 14 i 6 = z) (d : decode cc pc = .ok (.getfield 117, 3)) (kk : Y x n α K bc bs (pc + 3) lv (.int (iI z) :: st)) : Y x n α K bc bs pc lv (.ref (α 14 i) :: st) :=
  y_getN hE 6 6 (C := RX14) (T := TX14) (N := 9) (ci := 12) rfl rfl rfl rfl in_X14 (by decide) q1065 (fun _ h => h) hi d (by subst hz; exact kk)
theorem gX12_124 (hE : YE x cc RX12 ret nm nL RM) {i z : Int} (hi : 0 ≤ i ∧ i < n 14) (hz : K 14 i 0 = z) (d : decode cc pc = .ok (.getfield 124, 3)) (kk : z < n 11 → Y x n α K bc bs (pc + 3) lv (refV α 11 z :: st)) : Y x n α K bc bs pc lv (.ref (α 14 i) :: st) :=
  y_getvN hE 0 0 (C := RX14) (T := TX14) (N := 9) (ci := 12) rfl rfl rfl rfl in_X14 (by decide) q1047 (fun _ h => h) hi d (by subst hz; exact kk)
theorem gX12_124r (hE : YE x cc RX12 ret nm nL RM) {i z : Int} (hi : 0 ≤ i ∧ i < n 14) (hz : K 14 i 0 = z) (h0 : 0 ≤ z) (d : decode cc pc = .ok (.getfield 124, 3)) (kk : 0 ≤ z ∧ z < n 11 → Y x n α K bc bs (pc + 3) lv (.ref (α 11 z) :: st)) : Y x n α K bc bs pc lv (.ref (α 14 i) :: st) :=
  gX12_124 hE hi hz d (fun h => y_ref h0 (kk ⟨h0, h⟩))
theorem gX12_127 (hE : YE x cc RX12 ret nm nL RM) {i z : Int} (hi : 0 ≤ i ∧ i < n 14) (hz : K 14 i 1 = z) (d : decode cc pc = .ok (.getfield 127, 3)) (kk : z < n 11 → Y x n α K bc bs (pc + 3) lv (refV α 11 z :: st)) : Y x n α K bc bs pc lv (.ref (α 14 i) :: st) :=
  y_getvN hE 1 1 (C := RX14) (T := TX14) (N := 9) (ci := 12) rfl rfl rfl rfl in_X14 (by decide) q1051 (fun _ h => h) hi d (by subst hz; exact kk)
theorem gX12_127r (hE : YE x cc RX12 ret nm nL RM) {i z : Int} (hi : 0 ≤ i ∧ i < n 14) (hz : K 14 i 1 = z) (h0 : 0 ≤ z) (d : decode cc pc = .ok (.getfield 127, 3)) (kk : 0 ≤ z ∧ z < n 11 → Y x n α K bc bs (pc + 3) lv (.ref (α 11 z) :: st)) : Y x n α K bc bs pc lv (.ref (α 14 i) :: st) :=
  gX12_127 hE hi hz d (fun h => y_ref h0 (kk ⟨h0, h⟩))
theorem gX12_142 (hE : YE x cc RX12 ret nm nL RM) {i z : Int} (hi : 0 ≤ i ∧ i < n 14) (hz : K 14 i 5 = z) (d : decode cc pc = .ok (.getfield 142, 3)) (kk : Y x n α K bc bs (pc + 3) lv (.int (iI z) :: st)) : Y x n α K bc bs pc lv (.ref (α 14 i) :: st) :=
  y_getN hE 5 5 (C := RX14) (T := TX14) (N := 9) (ci := 12) rfl rfl rfl rfl in_X14 (by decide) q1062 (fun _ h => h) hi d (by subst hz; exact kk)
theorem gX12_145 (hE : YE x cc RX12 ret nm nL RM) {i z : Int} (hi : 0 ≤ i ∧ i < n 14) (hz : K 14 i 3 = z) (d : decode cc pc = .ok (.getfield 145, 3)) (kk : Y x n α K bc bs (pc + 3) lv (.int (iI z) :: st)) : Y x n α K bc bs pc lv (.ref (α 14 i) :: st) :=
  y_getN hE 3 3 (C := RX14) (T := TX14) (N := 9) (ci := 12) rfl rfl rfl rfl in_X14 (by decide) q1057 (fun _ h => h) hi d (by subst hz; exact kk)
theorem gX12_178 (hE : YE x cc RX12 ret nm nL RM) {i z : Int} (hi : 0 ≤ i ∧ i < n 1) (hz : K 1 i 7 = z) (d : decode cc pc = .ok (.getfield 178, 3)) (kk : z < n 2 → Y x n α K bc bs (pc + 3) lv (refV α 2 z :: st)) : Y x n α K bc bs pc lv (.ref (α 1 i) :: st) :=
  y_getvN hE 7 7 (C := RX1) (T := TX1) (N := 13) (ci := 0) rfl rfl rfl rfl in_X1 (by decide) q628 (fun _ h => h) hi d (by subst hz; exact kk)
theorem gX12_178r (hE : YE x cc RX12 ret nm nL RM) {i z : Int} (hi : 0 ≤ i ∧ i < n 1) (hz : K 1 i 7 = z) (h0 : 0 ≤ z) (d : decode cc pc = .ok (.getfield 178, 3)) (kk : 0 ≤ z ∧ z < n 2 → Y x n α K bc bs (pc + 3) lv (.ref (α 2 z) :: st)) : Y x n α K bc bs pc lv (.ref (α 1 i) :: st) :=
  gX12_178 hE hi hz d (fun h => y_ref h0 (kk ⟨h0, h⟩))
theorem gX12_187 (hE : YE x cc RX12 ret nm nL RM) {i z : Int} (hi : 0 ≤ i ∧ i < n 13) (hz : K 13 i 2 = z) (d : decode cc pc = .ok (.getfield 187, 3)) (kk : Y x n α K bc bs (pc + 3) lv (.int (iI z) :: st)) : Y x n α K bc bs pc lv (.ref (α 13 i) :: st) :=
  y_getN hE 2 2 (C := RX13) (T := TX13) (N := 5) (ci := 11) rfl rfl rfl rfl in_X13 (by decide) q704 (fun _ h => h) hi d (by subst hz; exact kk)
theorem gX12_190 (hE : YE x cc RX12 ret nm nL RM) {i z : Int} (hi : 0 ≤ i ∧ i < n 14) (hz : K 14 i 4 = z) (d : decode cc pc = .ok (.getfield 190, 3)) (kk : Y x n α K bc bs (pc + 3) lv (.int (iI z) :: st)) : Y x n α K bc bs pc lv (.ref (α 14 i) :: st) :=
  y_getN hE 4 4 (C := RX14) (T := TX14) (N := 9) (ci := 12) rfl rfl rfl rfl in_X14 (by decide) q1060 (fun _ h => h) hi d (by subst hz; exact kk)
theorem gX12_193 (hE : YE x cc RX12 ret nm nL RM) {i z : Int} (hi : 0 ≤ i ∧ i < n 11) (hz : K 11 i 3 = z) (d : decode cc pc = .ok (.getfield 193, 3)) (kk : Y x n α K bc bs (pc + 3) lv (.int (iI z) :: st)) : Y x n α K bc bs pc lv (.ref (α 11 i) :: st) :=
  y_getN hE 3 3 (C := RX11) (T := TX11) (N := 5) (ci := 9) rfl rfl rfl rfl in_X11 (by decide) q2215 (fun _ h => h) hi d (by subst hz; exact kk)
theorem gX12_208 (hE : YE x cc RX12 ret nm nL RM) {i z : Int} (hi : 0 ≤ i ∧ i < n 11) (hz : K 11 i 2 = z) (d : decode cc pc = .ok (.getfield 208, 3)) (kk : Y x n α K bc bs (pc + 3) lv (.int (iI z) :: st)) : Y x n α K bc bs pc lv (.ref (α 11 i) :: st) :=
  y_getN hE 2 2 (C := RX11) (T := TX11) (N := 5) (ci := 9) rfl rfl rfl rfl in_X11 (by decide) q2212 (fun _ h => h) hi d (by subst hz; exact kk)
theorem gX12_244 (hE : YE x cc RX12 ret nm nL RM) {i z : Int} (hi : 0 ≤ i ∧ i < n 1) (hz : K 1 i 9 = z) (d : decode cc pc = .ok (.getfield 244, 3)) (kk : z < n 3 → Y x n α K bc bs (pc + 3) lv (refV α 3 z :: st)) : Y x n α K bc bs pc lv (.ref (α 1 i) :: st) :=
  y_getvN hE 9 9 (C := RX1) (T := TX1) (N := 13) (ci := 0) rfl rfl rfl rfl in_X1 (by decide) q632 (fun _ h => h) hi d (by subst hz; exact kk)
theorem gX12_244r (hE : YE x cc RX12 ret nm nL RM) {i z : Int} (hi : 0 ≤ i ∧ i < n 1) (hz : K 1 i 9 = z) (h0 : 0 ≤ z) (d : decode cc pc = .ok (.getfield 244, 3)) (kk : 0 ≤ z ∧ z < n 3 → Y x n α K bc bs (pc + 3) lv (.ref (α 3 z) :: st)) : Y x n α K bc bs pc lv (.ref (α 1 i) :: st) :=
  gX12_244 hE hi hz d (fun h => y_ref h0 (kk ⟨h0, h⟩))
theorem gX12_248 (hE : YE x cc RX12 ret nm nL RM) {i z : Int} (hi : 0 ≤ i ∧ i < n 11) (hz : K 11 i 1 = z) (d : decode cc pc = .ok (.getfield 248, 3)) (kk : z < n 8 → Y x n α K bc bs (pc + 3) lv (refV α 8 z :: st)) : Y x n α K bc bs pc lv (.ref (α 11 i) :: st) :=
  y_getvN hE 1 1 (C := RX11) (T := TX11) (N := 5) (ci := 9) rfl rfl rfl rfl in_X11 (by decide) q2209 (fun _ h => h) hi d (by subst hz; exact kk)
theorem gX12_248r (hE : YE x cc RX12 ret nm nL RM) {i z : Int} (hi : 0 ≤ i ∧ i < n 11) (hz : K 11 i 1 = z) (h0 : 0 ≤ z) (d : decode cc pc = .ok (.getfield 248, 3)) (kk : 0 ≤ z ∧ z < n 8 → Y x n α K bc bs (pc + 3) lv (.ref (α 8 z) :: st)) : Y x n α K bc bs pc lv (.ref (α 11 i) :: st) :=
  gX12_248 hE hi hz d (fun h => y_ref h0 (kk ⟨h0, h⟩))
theorem gX12_256 (hE : YE x cc RX12 ret nm nL RM) {i z : Int} (hi : 0 ≤ i ∧ i < n 1) (hz : K 1 i 1 = z) (d : decode cc pc = .ok (.getfield 256, 3)) (kk : z < n 21 → Y x n α K bc bs (pc + 3) lv (refV α 21 z :: st)) : Y x n α K bc bs pc lv (.ref (α 1 i) :: st) :=
  y_getvN hE 1 1 (C := RX1) (T := TX1) (N := 13) (ci := 0) rfl rfl rfl rfl in_X1 (by decide) q617 (fun _ h => h) hi d (by subst hz; exact kk)
theorem gX12_256r (hE : YE x cc RX12 ret nm nL RM) {i z : Int} (hi : 0 ≤ i ∧ i < n 1) (hz : K 1 i 1 = z) (h0 : 0 ≤ z) (d : decode cc pc = .ok (.getfield 256, 3)) (kk : 0 ≤ z ∧ z < n 21 → Y x n α K bc bs (pc + 3) lv (.ref (α 21 z) :: st)) : Y x n α K bc bs pc lv (.ref (α 1 i) :: st) :=
  gX12_256 hE hi hz d (fun h => y_ref h0 (kk ⟨h0, h⟩))
theorem gX12_259 (hE : YE x cc RX12 ret nm nL RM) {i z : Int} (hi : 0 ≤ i ∧ i < n 3) (hz : K 3 i 0 = z) (d : decode cc pc = .ok (.getfield 259, 3)) (kk : z < n 34 → Y x n α K bc bs (pc + 3) lv (refV α 34 z :: st)) : Y x n α K bc bs pc lv (.ref (α 3 i) :: st) :=
  y_getvN hE 0 0 (C := RX3) (T := TX3) (N := 2) (ci := 2) rfl rfl rfl rfl in_X3 (by decide) q552 (fun _ h => h) hi d (by subst hz; exact kk)
theorem gX12_259r (hE : YE x cc RX12 ret nm nL RM) {i z : Int} (hi : 0 ≤ i ∧ i < n 3) (hz : K 3 i 0 = z) (h0 : 0 ≤ z) (d : decode cc pc = .ok (.getfield 259, 3)) (kk : 0 ≤ z ∧ z < n 34 → Y x n α K bc bs (pc + 3) lv (.ref (α 34 z) :: st)) : Y x n α K bc bs pc lv (.ref (α 3 i) :: st) :=
  gX12_259 hE hi hz d (fun h => y_ref h0 (kk ⟨h0, h⟩))
theorem gX12_264 (hE : YE x cc RX12 ret nm nL RM) {i z : Int} (hi : 0 ≤ i ∧ i < n 1) (hz : K 1 i 5 = z) (d : decode cc pc = .ok (.getfield 264, 3)) (kk : Y x n α K bc bs (pc + 3) lv (.int (iI z) :: st)) : Y x n α K bc bs pc lv (.ref (α 1 i) :: st) :=
  y_getN hE 5 5 (C := RX1) (T := TX1) (N := 13) (ci := 0) rfl rfl rfl rfl in_X1 (by decide) q625 (fun _ h => h) hi d (by subst hz; exact kk)
theorem pX12_272 (hE : YE x cc RX12 ret nm nL RM) {i z : Int} (hi : 0 ≤ i ∧ i < n 13) (hz : z = 0 ∨ z = 1) (d : decode cc pc = .ok (.putfield 272, 3)) (kk : Y x n α (up3 K 13 i 3 z) bc bs (pc + 3) lv st) : Y x n α K bc bs pc lv (.int (iI z) :: .ref (α 13 i) :: st) :=
  y_putN hE 3 3 (C := RX13) (T := TX13) (N := 5) (ci := 11) (by unfold kC; decide) rfl rfl rfl rfl in_X13 tyX13 tyX13_ok nmX13 (by decide) rfl q706 (fun _ h => h) rfl rfl rfl (nar_b hz).1 (nar_b hz).2 hi (fun h => absurd h (by decide)) d kk
theorem gX12_275 (hE : YE x cc RX12 ret nm nL RM) {i z : Int} (hi : 0 ≤ i ∧ i < n 6) (hz : K 6 i 2 = z) (d : decode cc pc = .ok (.getfield 275, 3)) (kk : z < n 26 → Y x n α K bc bs (pc + 3) lv (refV α 26 z :: st)) : Y x n α K bc bs pc lv (.ref (α 6 i) :: st) :=
  y_getvN hE 2 2 (C := RX6) (T := TX6) (N := 3) (ci := 5) rfl rfl rfl rfl in_X6 (by decide) q2032 (fun _ h => h) hi d (by subst hz; exact kk)
theorem gX12_275r (hE : YE x cc RX12 ret nm nL RM) {i z : Int} (hi : 0 ≤ i ∧ i < n 6) (hz : K 6 i 2 = z) (h0 : 0 ≤ z) (d : decode cc pc = .ok (.getfield 275, 3)) (kk : 0 ≤ z ∧ z < n 26 → Y x n α K bc bs (pc + 3) lv (.ref (α 26 z) :: st)) : Y x n α K bc bs pc lv (.ref (α 6 i) :: st) :=
  gX12_275 hE hi hz d (fun h => y_ref h0 (kk ⟨h0, h⟩))
theorem gX12_279 (hE : YE x cc RX12 ret nm nL RM) {i z : Int} (hi : 0 ≤ i ∧ i < n 7) (hz : K 7 i 0 = z) (d : decode cc pc = .ok (.getfield 279, 3)) (kk : Y x n α K bc bs (pc + 3) lv (.int (iI z) :: st)) : Y x n α K bc bs pc lv (.ref (α 7 i) :: st) :=
  y_getN hE 0 0 (C := RX7) (T := TX7) (N := 2) (ci := 6) rfl rfl rfl rfl in_X7 (by decide) q2060 (fun _ h => h) hi d (by subst hz; exact kk)
theorem gX12_282 (hE : YE x cc RX12 ret nm nL RM) {i z : Int} (hi : 0 ≤ i ∧ i < n 6) (hz : K 6 i 1 = z) (d : decode cc pc = .ok (.getfield 282, 3)) (kk : Y x n α K bc bs (pc + 3) lv (.int (iI z) :: st)) : Y x n α K bc bs pc lv (.ref (α 6 i) :: st) :=
  y_getN hE 1 1 (C := RX6) (T := TX6) (N := 3) (ci := 5) rfl rfl rfl rfl in_X6 (by decide) q2029 (fun _ h => h) hi d (by subst hz; exact kk)
theorem gX12_288 (hE : YE x cc RX12 ret nm nL RM) {i z : Int} (hi : 0 ≤ i ∧ i < n 7) (hz : K 7 i 1 = z) (d : decode cc pc = .ok (.getfield 288, 3)) (kk : Y x n α K bc bs (pc + 3) lv (.int (iI z) :: st)) : Y x n α K bc bs pc lv (.ref (α 7 i) :: st) :=
  y_getN hE 1 1 (C := RX7) (T := TX7) (N := 2) (ci := 6) rfl rfl rfl rfl in_X7 (by decide) q2062 (fun _ h => h) hi d (by subst hz; exact kk)
theorem gX12_291 (hE : YE x cc RX12 ret nm nL RM) {i z : Int} (hi : 0 ≤ i ∧ i < n 6) (hz : K 6 i 0 = z) (d : decode cc pc = .ok (.getfield 291, 3)) (kk : Y x n α K bc bs (pc + 3) lv (.int (iI z) :: st)) : Y x n α K bc bs pc lv (.ref (α 6 i) :: st) :=
  y_getN hE 0 0 (C := RX6) (T := TX6) (N := 3) (ci := 5) rfl rfl rfl rfl in_X6 (by decide) q2025 (fun _ h => h) hi d (by subst hz; exact kk)
theorem gX12_294 (hE : YE x cc RX12 ret nm nL RM) {i z : Int} (hi : 0 ≤ i ∧ i < n 11) (hz : K 11 i 0 = z) (d : decode cc pc = .ok (.getfield 294, 3)) (kk : Y x n α K bc bs (pc + 3) lv (.int (iI z) :: st)) : Y x n α K bc bs pc lv (.ref (α 11 i) :: st) :=
  y_getN hE 0 0 (C := RX11) (T := TX11) (N := 5) (ci := 9) rfl rfl rfl rfl in_X11 (by decide) q2207 (fun _ h => h) hi d (by subst hz; exact kk)
theorem gX12_299 (hE : YE x cc RX12 ret nm nL RM) {i z : Int} (hi : 0 ≤ i ∧ i < n 1) (hz : K 1 i 8 = z) (d : decode cc pc = .ok (.getfield 299, 3)) (kk : z < n 3 → Y x n α K bc bs (pc + 3) lv (refV α 3 z :: st)) : Y x n α K bc bs pc lv (.ref (α 1 i) :: st) :=
  y_getvN hE 8 8 (C := RX1) (T := TX1) (N := 13) (ci := 0) rfl rfl rfl rfl in_X1 (by decide) q630 (fun _ h => h) hi d (by subst hz; exact kk)
theorem gX12_299r (hE : YE x cc RX12 ret nm nL RM) {i z : Int} (hi : 0 ≤ i ∧ i < n 1) (hz : K 1 i 8 = z) (h0 : 0 ≤ z) (d : decode cc pc = .ok (.getfield 299, 3)) (kk : 0 ≤ z ∧ z < n 3 → Y x n α K bc bs (pc + 3) lv (.ref (α 3 z) :: st)) : Y x n α K bc bs pc lv (.ref (α 1 i) :: st) :=
  gX12_299 hE hi hz d (fun h => y_ref h0 (kk ⟨h0, h⟩))
theorem gX12_308 (hE : YE x cc RX12 ret nm nL RM) {i z : Int} (hi : 0 ≤ i ∧ i < n 2) (hz : K 2 i 3 = z) (d : decode cc pc = .ok (.getfield 308, 3)) (kk : Y x n α K bc bs (pc + 3) lv (.int (iI z) :: st)) : Y x n α K bc bs pc lv (.ref (α 2 i) :: st) :=
  y_getN hE 3 3 (C := RX2) (T := TX2) (N := 4) (ci := 1) rfl rfl rfl rfl in_X2 (by decide) q533 (fun _ h => h) hi d (by subst hz; exact kk)
theorem pX12_308 (hE : YE x cc RX12 ret nm nL RM) {i z : Int} (hi : 0 ≤ i ∧ i < n 2) (d : decode cc pc = .ok (.putfield 308, 3)) (kk : Y x n α (up3 K 2 i 3 z) bc bs (pc + 3) lv st) : Y x n α K bc bs pc lv (.int (iI z) :: .ref (α 2 i) :: st) :=
  y_putN hE 3 3 (C := RX2) (T := TX2) (N := 4) (ci := 1) (by unfold kC; decide) rfl rfl rfl rfl in_X2 tyX2 tyX2_ok nmX2 (by decide) rfl q533 (fun _ h => h) rfl rfl rfl rfl rfl hi (fun h => absurd h (by decide)) d kk
theorem gX12_311 (hE : YE x cc RX12 ret nm nL RM) {i z : Int} (hi : 0 ≤ i ∧ i < n 2) (hz : K 2 i 2 = z) (d : decode cc pc = .ok (.getfield 311, 3)) (kk : z < n 33 → Y x n α K bc bs (pc + 3) lv (refV α 33 z :: st)) : Y x n α K bc bs pc lv (.ref (α 2 i) :: st) :=
  y_getvN hE 2 2 (C := RX2) (T := TX2) (N := 4) (ci := 1) rfl rfl rfl rfl in_X2 (by decide) q530 (fun _ h => h) hi d (by subst hz; exact kk)
theorem gX12_311r (hE : YE x cc RX12 ret nm nL RM) {i z : Int} (hi : 0 ≤ i ∧ i < n 2) (hz : K 2 i 2 = z) (h0 : 0 ≤ z) (d : decode cc pc = .ok (.getfield 311, 3)) (kk : 0 ≤ z ∧ z < n 33 → Y x n α K bc bs (pc + 3) lv (.ref (α 33 z) :: st)) : Y x n α K bc bs pc lv (.ref (α 2 i) :: st) :=
  gX12_311 hE hi hz d (fun h => y_ref h0 (kk ⟨h0, h⟩))
theorem gX12_312 (hE : YE x cc RX12 ret nm nL RM) {i z : Int} (hi : 0 ≤ i ∧ i < n 2) (hz : K 2 i 0 = z) (d : decode cc pc = .ok (.getfield 312, 3)) (kk : z < n 31 → Y x n α K bc bs (pc + 3) lv (refV α 31 z :: st)) : Y x n α K bc bs pc lv (.ref (α 2 i) :: st) :=
  y_getvN hE 0 0 (C := RX2) (T := TX2) (N := 4) (ci := 1) rfl rfl rfl rfl in_X2 (by decide) q524 (fun _ h => h) hi d (by subst hz; exact kk)
theorem gX12_312r (hE : YE x cc RX12 ret nm nL RM) {i z : Int} (hi : 0 ≤ i ∧ i < n 2) (hz : K 2 i 0 = z) (h0 : 0 ≤ z) (d : decode cc pc = .ok (.getfield 312, 3)) (kk : 0 ≤ z ∧ z < n 31 → Y x n α K bc bs (pc + 3) lv (.ref (α 31 z) :: st)) : Y x n α K bc bs pc lv (.ref (α 2 i) :: st) :=
  gX12_312 hE hi hz d (fun h => y_ref h0 (kk ⟨h0, h⟩))
theorem gX12_315 (hE : YE x cc RX12 ret nm nL RM) {i z : Int} (hi : 0 ≤ i ∧ i < n 2) (hz : K 2 i 1 = z) (d : decode cc pc = .ok (.getfield 315, 3)) (kk : z < n 32 → Y x n α K bc bs (pc + 3) lv (refV α 32 z :: st)) : Y x n α K bc bs pc lv (.ref (α 2 i) :: st) :=
  y_getvN hE 1 1 (C := RX2) (T := TX2) (N := 4) (ci := 1) rfl rfl rfl rfl in_X2 (by decide) q527 (fun _ h => h) hi d (by subst hz; exact kk)
theorem gX12_315r (hE : YE x cc RX12 ret nm nL RM) {i z : Int} (hi : 0 ≤ i ∧ i < n 2) (hz : K 2 i 1 = z) (h0 : 0 ≤ z) (d : decode cc pc = .ok (.getfield 315, 3)) (kk : 0 ≤ z ∧ z < n 32 → Y x n α K bc bs (pc + 3) lv (.ref (α 32 z) :: st)) : Y x n α K bc bs pc lv (.ref (α 2 i) :: st) :=
  gX12_315 hE hi hz d (fun h => y_ref h0 (kk ⟨h0, h⟩))
theorem gX13_9 (hE : YE x cc RX13 ret nm nL RM) {i z : Int} (hi : 0 ≤ i ∧ i < n 13) (hz : K 13 i 3 = z) (d : decode cc pc = .ok (.getfield 9, 3)) (kk : Y x n α K bc bs (pc + 3) lv (.int (iI z) :: st)) : Y x n α K bc bs pc lv (.ref (α 13 i) :: st) :=
  y_get hE 3 3 (C := RX13) (T := TX13) (N := 5) (ci := 11) rfl rfl rfl rfl in_X13 (by decide) q705 (fun _ h => h) hi d (by subst hz; exact kk)
theorem pX13_9 (hE : YE x cc RX13 ret nm nL RM) {i z : Int} (hi : 0 ≤ i ∧ i < n 13) (hz : z = 0 ∨ z = 1) (d : decode cc pc = .ok (.putfield 9, 3)) (kk : Y x n α (up3 K 13 i 3 z) bc bs (pc + 3) lv st) : Y x n α K bc bs pc lv (.int (iI z) :: .ref (α 13 i) :: st) :=
  y_put hE 3 3 (C := RX13) (T := TX13) (N := 5) (ci := 11) (by unfold kC; decide) rfl rfl rfl rfl in_X13 tyX13 tyX13_ok nmX13 (by decide) rfl q705 (fun _ h => h) rfl rfl rfl (nar_b hz).1 (nar_b hz).2 hi (fun h => absurd h (by decide)) d kk
theorem gX13_15 (hE : YE x cc RX13 ret nm nL RM) {i z : Int} (hi : 0 ≤ i ∧ i < n 13) (hz : K 13 i 0 = z) (d : decode cc pc = .ok (.getfield 15, 3)) (kk : z < n 11 → Y x n α K bc bs (pc + 3) lv (refV α 11 z :: st)) : Y x n α K bc bs pc lv (.ref (α 13 i) :: st) :=
  y_getv hE 0 0 (C := RX13) (T := TX13) (N := 5) (ci := 11) rfl rfl rfl rfl in_X13 (by decide) q699 (fun _ h => h) hi d (by subst hz; exact kk)
theorem gX13_15r (hE : YE x cc RX13 ret nm nL RM) {i z : Int} (hi : 0 ≤ i ∧ i < n 13) (hz : K 13 i 0 = z) (h0 : 0 ≤ z) (d : decode cc pc = .ok (.getfield 15, 3)) (kk : 0 ≤ z ∧ z < n 11 → Y x n α K bc bs (pc + 3) lv (.ref (α 11 z) :: st)) : Y x n α K bc bs pc lv (.ref (α 13 i) :: st) :=
  gX13_15 hE hi hz d (fun h => y_ref h0 (kk ⟨h0, h⟩))
theorem pX13_15 (hE : YE x cc RX13 ret nm nL RM) {i z : Int} (hini : nm = "<init>") (hi : 0 ≤ i ∧ i < n 13) (hz : z < n 11) (d : decode cc pc = .ok (.putfield 15, 3)) (kk : Y x n α (up3 K 13 i 0 z) bc bs (pc + 3) lv st) : Y x n α K bc bs pc lv (refV α 11 z :: .ref (α 13 i) :: st) :=
  y_putF hE 0 0 (C := RX13) (T := TX13) (N := 5) (ci := 11) (by unfold kC; decide) rfl rfl rfl rfl in_X13 tyX13 tyX13_ok nmX13 (by decide) rfl q699 (fun _ h => h) rfl hini rfl rfl rfl nar_r.1 nar_r.2 hi (fun _ => hz) d kk
theorem pX13_15r (hE : YE x cc RX13 ret nm nL RM) {i z : Int} (hini : nm = "<init>") (hi : 0 ≤ i ∧ i < n 13) (hz : 0 ≤ z ∧ z < n 11) (d : decode cc pc = .ok (.putfield 15, 3)) (kk : Y x n α (up3 K 13 i 0 z) bc bs (pc + 3) lv st) : Y x n α K bc bs pc lv (.ref (α 11 z) :: .ref (α 13 i) :: st) := by
  rw [← refV_s (α := α) (j := 11) hz.1]
  exact pX13_15 hE hini hi hz.2 d kk
theorem gX13_19 (hE : YE x cc RX13 ret nm nL RM) {i z : Int} (hi : 0 ≤ i ∧ i < n 13) (hz : K 13 i 2 = z) (d : decode cc pc = .ok (.getfield 19, 3)) (kk : Y x n α K bc bs (pc + 3) lv (.int (iI z) :: st)) : Y x n α K bc bs pc lv (.ref (α 13 i) :: st) :=
  y_get hE 2 2 (C := RX13) (T := TX13) (N := 5) (ci := 11) rfl rfl rfl rfl in_X13 (by decide) q703 (fun _ h => h) hi d (by subst hz; exact kk)
theorem pX13_19 (hE : YE x cc RX13 ret nm nL RM) {i z : Int} (hi : 0 ≤ i ∧ i < n 13) (d : decode cc pc = .ok (.putfield 19, 3)) (kk : Y x n α (up3 K 13 i 2 z) bc bs (pc + 3) lv st) : Y x n α K bc bs pc lv (.int (iI z) :: .ref (α 13 i) :: st) :=
  y_put hE 2 2 (C := RX13) (T := TX13) (N := 5) (ci := 11) (by unfold kC; decide) rfl rfl rfl rfl in_X13 tyX13 tyX13_ok nmX13 (by decide) rfl q703 (fun _ h => h) rfl rfl rfl rfl rfl hi (fun h => absurd h (by decide)) d kk
theorem gX13_26 (hE : YE x cc RX13 ret nm nL RM) {i z : Int} (hi : 0 ≤ i ∧ i < n 13) (hz : K 13 i 1 = z) (d : decode cc pc = .ok (.getfield 26, 3)) (kk : Y x n α K bc bs (pc + 3) lv (.int (iI z) :: st)) : Y x n α K bc bs pc lv (.ref (α 13 i) :: st) :=
  y_get hE 1 1 (C := RX13) (T := TX13) (N := 5) (ci := 11) rfl rfl rfl rfl in_X13 (by decide) q702 (fun _ h => h) hi d (by subst hz; exact kk)
theorem pX13_26 (hE : YE x cc RX13 ret nm nL RM) {i z : Int} (hi : 0 ≤ i ∧ i < n 13) (d : decode cc pc = .ok (.putfield 26, 3)) (kk : Y x n α (up3 K 13 i 1 z) bc bs (pc + 3) lv st) : Y x n α K bc bs pc lv (.int (iI z) :: .ref (α 13 i) :: st) :=
  y_put hE 1 1 (C := RX13) (T := TX13) (N := 5) (ci := 11) (by unfold kC; decide) rfl rfl rfl rfl in_X13 tyX13 tyX13_ok nmX13 (by decide) rfl q702 (fun _ h => h) rfl rfl rfl rfl rfl hi (fun h => absurd h (by decide)) d kk
theorem gX13_29 (hE : YE x cc RX13 ret nm nL RM) {i z : Int} (hi : 0 ≤ i ∧ i < n 13) (hz : K 13 i 4 = z) (d : decode cc pc = .ok (.getfield 29, 3)) (kk : Y x n α K bc bs (pc + 3) lv (.long (iL z) :: st)) : Y x n α K bc bs pc lv (.ref (α 13 i) :: st) :=
  y_get hE 4 4 (C := RX13) (T := TX13) (N := 5) (ci := 11) rfl rfl rfl rfl in_X13 (by decide) q707 (fun _ h => h) hi d (by subst hz; exact kk)
theorem pX13_29 (hE : YE x cc RX13 ret nm nL RM) {i z : Int} (hi : 0 ≤ i ∧ i < n 13) (d : decode cc pc = .ok (.putfield 29, 3)) (kk : Y x n α (up3 K 13 i 4 z) bc bs (pc + 3) lv st) : Y x n α K bc bs pc lv (.long (iL z) :: .ref (α 13 i) :: st) :=
  y_put hE 4 4 (C := RX13) (T := TX13) (N := 5) (ci := 11) (by unfold kC; decide) rfl rfl rfl rfl in_X13 tyX13 tyX13_ok nmX13 (by decide) rfl q707 (fun _ h => h) rfl rfl rfl rfl rfl hi (fun h => absurd h (by decide)) d kk
theorem gX13_39 (hE : YE x cc RX13 ret nm nL RM) {i z : Int} (hi : 0 ≤ i ∧ i < n 11) (hz : K 11 i 3 = z) (d : decode cc pc = .ok (.getfield 39, 3)) (kk : Y x n α K bc bs (pc + 3) lv (.int (iI z) :: st)) : Y x n α K bc bs pc lv (.ref (α 11 i) :: st) :=
  y_getN hE 3 3 (C := RX11) (T := TX11) (N := 5) (ci := 9) rfl rfl rfl rfl in_X11 (by decide) q2214 (fun _ h => h) hi d (by subst hz; exact kk)
theorem gX14_11 (hE : YE x cc RX14 ret nm nL RM) {i z : Int} (hi : 0 ≤ i ∧ i < n 14) (hz : K 14 i 7 = z) (d : decode cc pc = .ok (.getfield 11, 3)) (kk : z < n 40 → Y x n α K bc bs (pc + 3) lv (refV α 40 z :: st)) : Y x n α K bc bs pc lv (.ref (α 14 i) :: st) :=
  y_getv hE 7 7 (C := RX14) (T := TX14) (N := 9) (ci := 12) rfl rfl rfl rfl in_X14 (by decide) q1068 (fun _ h => h) hi d (by subst hz; exact kk)
theorem gX14_11r (hE : YE x cc RX14 ret nm nL RM) {i z : Int} (hi : 0 ≤ i ∧ i < n 14) (hz : K 14 i 7 = z) (h0 : 0 ≤ z) (d : decode cc pc = .ok (.getfield 11, 3)) (kk : 0 ≤ z ∧ z < n 40 → Y x n α K bc bs (pc + 3) lv (.ref (α 40 z) :: st)) : Y x n α K bc bs pc lv (.ref (α 14 i) :: st) :=
  gX14_11 hE hi hz d (fun h => y_ref h0 (kk ⟨h0, h⟩))
theorem pX14_11 (hE : YE x cc RX14 ret nm nL RM) {i z : Int} (hini : nm = "<init>") (hi : 0 ≤ i ∧ i < n 14) (hz : z < n 40) (d : decode cc pc = .ok (.putfield 11, 3)) (kk : Y x n α (up3 K 14 i 7 z) bc bs (pc + 3) lv st) : Y x n α K bc bs pc lv (refV α 40 z :: .ref (α 14 i) :: st) :=
  y_putF hE 7 7 (C := RX14) (T := TX14) (N := 9) (ci := 12) (by unfold kC; decide) rfl rfl rfl rfl in_X14 tyX14 tyX14_ok nmX14 (by decide) rfl q1068 (fun _ h => h) rfl hini rfl rfl rfl nar_ra.1 nar_ra.2 hi (fun _ => hz) d kk
theorem pX14_11r (hE : YE x cc RX14 ret nm nL RM) {i z : Int} (hini : nm = "<init>") (hi : 0 ≤ i ∧ i < n 14) (hz : 0 ≤ z ∧ z < n 40) (d : decode cc pc = .ok (.putfield 11, 3)) (kk : Y x n α (up3 K 14 i 7 z) bc bs (pc + 3) lv st) : Y x n α K bc bs pc lv (.ref (α 40 z) :: .ref (α 14 i) :: st) := by
  rw [← refV_s (α := α) (j := 40) hz.1]
  exact pX14_11 hE hini hi hz.2 d kk
theorem pX14_17 (hE : YE x cc RX14 ret nm nL RM) {i z : Int} (hi : 0 ≤ i ∧ i < n 14) (d : decode cc pc = .ok (.putfield 17, 3)) (kk : Y x n α (up3 K 14 i 3 z) bc bs (pc + 3) lv st) : Y x n α K bc bs pc lv (.int (iI z) :: .ref (α 14 i) :: st) :=
  y_put hE 3 3 (C := RX14) (T := TX14) (N := 9) (ci := 12) (by unfold kC; decide) rfl rfl rfl rfl in_X14 tyX14 tyX14_ok nmX14 (by decide) rfl q1055 (fun _ h => h) rfl rfl rfl rfl rfl hi (fun h => absurd h (by decide)) d kk
theorem pX14_21 (hE : YE x cc RX14 ret nm nL RM) {i z : Int} (hini : nm = "<init>") (hi : 0 ≤ i ∧ i < n 14) (hz : z < n 11) (d : decode cc pc = .ok (.putfield 21, 3)) (kk : Y x n α (up3 K 14 i 0 z) bc bs (pc + 3) lv st) : Y x n α K bc bs pc lv (refV α 11 z :: .ref (α 14 i) :: st) :=
  y_putF hE 0 0 (C := RX14) (T := TX14) (N := 9) (ci := 12) (by unfold kC; decide) rfl rfl rfl rfl in_X14 tyX14 tyX14_ok nmX14 (by decide) rfl q1046 (fun _ h => h) rfl hini rfl rfl rfl nar_r.1 nar_r.2 hi (fun _ => hz) d kk
theorem pX14_21r (hE : YE x cc RX14 ret nm nL RM) {i z : Int} (hini : nm = "<init>") (hi : 0 ≤ i ∧ i < n 14) (hz : 0 ≤ z ∧ z < n 11) (d : decode cc pc = .ok (.putfield 21, 3)) (kk : Y x n α (up3 K 14 i 0 z) bc bs (pc + 3) lv st) : Y x n α K bc bs pc lv (.ref (α 11 z) :: .ref (α 14 i) :: st) := by
  rw [← refV_s (α := α) (j := 11) hz.1]
  exact pX14_21 hE hini hi hz.2 d kk
theorem pX14_25 (hE : YE x cc RX14 ret nm nL RM) {i z : Int} (hini : nm = "<init>") (hi : 0 ≤ i ∧ i < n 14) (hz : z < n 11) (d : decode cc pc = .ok (.putfield 25, 3)) (kk : Y x n α (up3 K 14 i 1 z) bc bs (pc + 3) lv st) : Y x n α K bc bs pc lv (refV α 11 z :: .ref (α 14 i) :: st) :=
  y_putF hE 1 1 (C := RX14) (T := TX14) (N := 9) (ci := 12) (by unfold kC; decide) rfl rfl rfl rfl in_X14 tyX14 tyX14_ok nmX14 (by decide) rfl q1050 (fun _ h => h) rfl hini rfl rfl rfl nar_r.1 nar_r.2 hi (fun _ => hz) d kk
theorem pX14_25r (hE : YE x cc RX14 ret nm nL RM) {i z : Int} (hini : nm = "<init>") (hi : 0 ≤ i ∧ i < n 14) (hz : 0 ≤ z ∧ z < n 11) (d : decode cc pc = .ok (.putfield 25, 3)) (kk : Y x n α (up3 K 14 i 1 z) bc bs (pc + 3) lv st) : Y x n α K bc bs pc lv (.ref (α 11 z) :: .ref (α 14 i) :: st) := by
  rw [← refV_s (α := α) (j := 11) hz.1]
  exact pX14_25 hE hini hi hz.2 d kk
theorem pX14_28 (hE : YE x cc RX14 ret nm nL RM) {i z : Int} (hini : nm = "<init>") (hi : 0 ≤ i ∧ i < n 14) (d : decode cc pc = .ok (.putfield 28, 3)) (kk : Y x n α (up3 K 14 i 2 z) bc bs (pc + 3) lv st) : Y x n α K bc bs pc lv (.int (iI z) :: .ref (α 14 i) :: st) :=
  y_putF hE 2 2 (C := RX14) (T := TX14) (N := 9) (ci := 12) (by unfold kC; decide) rfl rfl rfl rfl in_X14 tyX14 tyX14_ok nmX14 (by decide) rfl q1053 (fun _ h => h) rfl hini rfl rfl rfl rfl rfl hi (fun h => absurd h (by decide)) d kk
theorem gX14_31 (hE : YE x cc RX14 ret nm nL RM) {i z : Int} (hi : 0 ≤ i ∧ i < n 14) (hz : K 14 i 8 = z) (d : decode cc pc = .ok (.getfield 31, 3)) (kk : Y x n α K bc bs (pc + 3) lv (.int (iI z) :: st)) : Y x n α K bc bs pc lv (.ref (α 14 i) :: st) :=
  y_get hE 8 8 (C := RX14) (T := TX14) (N := 9) (ci := 12) rfl rfl rfl rfl in_X14 (by decide) q1069 (fun _ h => h) hi d (by subst hz; exact kk)
theorem pX14_31 (hE : YE x cc RX14 ret nm nL RM) {i z : Int} (hi : 0 ≤ i ∧ i < n 14) (d : decode cc pc = .ok (.putfield 31, 3)) (kk : Y x n α (up3 K 14 i 8 z) bc bs (pc + 3) lv st) : Y x n α K bc bs pc lv (.int (iI z) :: .ref (α 14 i) :: st) :=
  y_put hE 8 8 (C := RX14) (T := TX14) (N := 9) (ci := 12) (by unfold kC; decide) rfl rfl rfl rfl in_X14 tyX14 tyX14_ok nmX14 (by decide) rfl q1069 (fun _ h => h) rfl rfl rfl rfl rfl hi (fun h => absurd h (by decide)) d kk
theorem gX14_38 (hE : YE x cc RX14 ret nm nL RM) {i z : Int} (hi : 0 ≤ i ∧ i < n 15) (hz : K 15 i 0 = z) (d : decode cc pc = .ok (.getfield 38, 3)) (kk : z < n 5 → Y x n α K bc bs (pc + 3) lv (refV α 5 z :: st)) : Y x n α K bc bs pc lv (.ref (α 15 i) :: st) :=
  y_getvN hE 0 0 (C := RX15) (T := TX15) (N := 2) (ci := 13) rfl rfl rfl rfl in_X15 (by decide) q1883 (fun _ h => h) hi d (by subst hz; exact kk)
theorem gX14_38r (hE : YE x cc RX14 ret nm nL RM) {i z : Int} (hi : 0 ≤ i ∧ i < n 15) (hz : K 15 i 0 = z) (h0 : 0 ≤ z) (d : decode cc pc = .ok (.getfield 38, 3)) (kk : 0 ≤ z ∧ z < n 5 → Y x n α K bc bs (pc + 3) lv (.ref (α 5 z) :: st)) : Y x n α K bc bs pc lv (.ref (α 15 i) :: st) :=
  gX14_38 hE hi hz d (fun h => y_ref h0 (kk ⟨h0, h⟩))
theorem gX14_42 (hE : YE x cc RX14 ret nm nL RM) {i z : Int} (hi : 0 ≤ i ∧ i < n 5) (hz : K 5 i 0 = z) (d : decode cc pc = .ok (.getfield 42, 3)) (kk : Y x n α K bc bs (pc + 3) lv (.int (iI z) :: st)) : Y x n α K bc bs pc lv (.ref (α 5 i) :: st) :=
  y_getN hE 0 0 (C := RX5) (T := TX5) (N := 2) (ci := 4) rfl rfl rfl rfl in_X5 (by decide) q1948 (fun _ h => h) hi d (by subst hz; exact kk)
theorem gX14_47 (hE : YE x cc RX14 ret nm nL RM) {i z : Int} (hi : 0 ≤ i ∧ i < n 5) (hz : K 5 i 1 = z) (d : decode cc pc = .ok (.getfield 47, 3)) (kk : Y x n α K bc bs (pc + 3) lv (.int (iI z) :: st)) : Y x n α K bc bs pc lv (.ref (α 5 i) :: st) :=
  y_getN hE 1 1 (C := RX5) (T := TX5) (N := 2) (ci := 4) rfl rfl rfl rfl in_X5 (by decide) q1952 (fun _ h => h) hi d (by subst hz; exact kk)
theorem pX14_47 (hE : YE x cc RX14 ret nm nL RM) {i z : Int} (hi : 0 ≤ i ∧ i < n 5) (d : decode cc pc = .ok (.putfield 47, 3)) (kk : Y x n α (up3 K 5 i 1 z) bc bs (pc + 3) lv st) : Y x n α K bc bs pc lv (.int (iI z) :: .ref (α 5 i) :: st) :=
  y_putN hE 1 1 (C := RX5) (T := TX5) (N := 2) (ci := 4) (by unfold kC; decide) rfl rfl rfl rfl in_X5 tyX5 tyX5_ok nmX5 (by decide) rfl q1952 (fun _ h => h) rfl rfl rfl rfl rfl hi (fun h => absurd h (by decide)) d kk
theorem gX15_7 (hE : YE x cc RX15 ret nm nL RM) {i z : Int} (hi : 0 ≤ i ∧ i < n 15) (hz : K 15 i 0 = z) (d : decode cc pc = .ok (.getfield 7, 3)) (kk : z < n 5 → Y x n α K bc bs (pc + 3) lv (refV α 5 z :: st)) : Y x n α K bc bs pc lv (.ref (α 15 i) :: st) :=
  y_getv hE 0 0 (C := RX15) (T := TX15) (N := 2) (ci := 13) rfl rfl rfl rfl in_X15 (by decide) q1882 (fun _ h => h) hi d (by subst hz; exact kk)
theorem gX15_7r (hE : YE x cc RX15 ret nm nL RM) {i z : Int} (hi : 0 ≤ i ∧ i < n 15) (hz : K 15 i 0 = z) (h0 : 0 ≤ z) (d : decode cc pc = .ok (.getfield 7, 3)) (kk : 0 ≤ z ∧ z < n 5 → Y x n α K bc bs (pc + 3) lv (.ref (α 5 z) :: st)) : Y x n α K bc bs pc lv (.ref (α 15 i) :: st) :=
  gX15_7 hE hi hz d (fun h => y_ref h0 (kk ⟨h0, h⟩))
theorem pX15_7 (hE : YE x cc RX15 ret nm nL RM) {i z : Int} (hini : nm = "<init>") (hi : 0 ≤ i ∧ i < n 15) (hz : z < n 5) (d : decode cc pc = .ok (.putfield 7, 3)) (kk : Y x n α (up3 K 15 i 0 z) bc bs (pc + 3) lv st) : Y x n α K bc bs pc lv (refV α 5 z :: .ref (α 15 i) :: st) :=
  y_putF hE 0 0 (C := RX15) (T := TX15) (N := 2) (ci := 13) (by unfold kC; decide) rfl rfl rfl rfl in_X15 tyX15 tyX15_ok nmX15 (by decide) rfl q1882 (fun _ h => h) rfl hini rfl rfl rfl nar_r.1 nar_r.2 hi (fun _ => hz) d kk
theorem pX15_7r (hE : YE x cc RX15 ret nm nL RM) {i z : Int} (hini : nm = "<init>") (hi : 0 ≤ i ∧ i < n 15) (hz : 0 ≤ z ∧ z < n 5) (d : decode cc pc = .ok (.putfield 7, 3)) (kk : Y x n α (up3 K 15 i 0 z) bc bs (pc + 3) lv st) : Y x n α K bc bs pc lv (.ref (α 5 z) :: .ref (α 15 i) :: st) := by
  rw [← refV_s (α := α) (j := 5) hz.1]
  exact pX15_7 hE hini hi hz.2 d kk
theorem gX15_13 (hE : YE x cc RX15 ret nm nL RM) {i z : Int} (hi : 0 ≤ i ∧ i < n 15) (hz : K 15 i 1 = z) (d : decode cc pc = .ok (.getfield 13, 3)) (kk : z < n 16 → Y x n α K bc bs (pc + 3) lv (refV α 16 z :: st)) : Y x n α K bc bs pc lv (.ref (α 15 i) :: st) :=
  y_getv hE 1 1 (C := RX15) (T := TX15) (N := 2) (ci := 13) rfl rfl rfl rfl in_X15 (by decide) q1884 (fun _ h => h) hi d (by subst hz; exact kk)
theorem gX15_13r (hE : YE x cc RX15 ret nm nL RM) {i z : Int} (hi : 0 ≤ i ∧ i < n 15) (hz : K 15 i 1 = z) (h0 : 0 ≤ z) (d : decode cc pc = .ok (.getfield 13, 3)) (kk : 0 ≤ z ∧ z < n 16 → Y x n α K bc bs (pc + 3) lv (.ref (α 16 z) :: st)) : Y x n α K bc bs pc lv (.ref (α 15 i) :: st) :=
  gX15_13 hE hi hz d (fun h => y_ref h0 (kk ⟨h0, h⟩))
theorem pX15_13 (hE : YE x cc RX15 ret nm nL RM) {i z : Int} (hini : nm = "<init>") (hi : 0 ≤ i ∧ i < n 15) (hz : z < n 16) (d : decode cc pc = .ok (.putfield 13, 3)) (kk : Y x n α (up3 K 15 i 1 z) bc bs (pc + 3) lv st) : Y x n α K bc bs pc lv (refV α 16 z :: .ref (α 15 i) :: st) :=
  y_putF hE 1 1 (C := RX15) (T := TX15) (N := 2) (ci := 13) (by unfold kC; decide) rfl rfl rfl rfl in_X15 tyX15 tyX15_ok nmX15 (by decide) rfl q1884 (fun _ h => h) rfl hini rfl rfl rfl nar_r.1 nar_r.2 hi (fun _ => hz) d kk
theorem pX15_13r (hE : YE x cc RX15 ret nm nL RM) {i z : Int} (hini : nm = "<init>") (hi : 0 ≤ i ∧ i < n 15) (hz : 0 ≤ z ∧ z < n 16) (d : decode cc pc = .ok (.putfield 13, 3)) (kk : Y x n α (up3 K 15 i 1 z) bc bs (pc + 3) lv st) : Y x n α K bc bs pc lv (.ref (α 16 z) :: .ref (α 15 i) :: st) := by
  rw [← refV_s (α := α) (j := 16) hz.1]
  exact pX15_13 hE hini hi hz.2 d kk
theorem gX15_17 (hE : YE x cc RX15 ret nm nL RM) {i z : Int} (hi : 0 ≤ i ∧ i < n 5) (hz : K 5 i 1 = z) (d : decode cc pc = .ok (.getfield 17, 3)) (kk : Y x n α K bc bs (pc + 3) lv (.int (iI z) :: st)) : Y x n α K bc bs pc lv (.ref (α 5 i) :: st) :=
  y_getN hE 1 1 (C := RX5) (T := TX5) (N := 2) (ci := 4) rfl rfl rfl rfl in_X5 (by decide) q1951 (fun _ h => h) hi d (by subst hz; exact kk)
theorem gX16_3 (hE : YE x cc RX16 ret nm nL RM) {i z : Int} (hi : 0 ≤ i ∧ i < n 18) (hz : K 18 i 3 = z) (d : decode cc pc = .ok (.getfield 3, 3)) (kk : z < n 1 → Y x n α K bc bs (pc + 3) lv (refV α 1 z :: st)) : Y x n α K bc bs pc lv (.ref (α 18 i) :: st) :=
  y_getv hE 3 3 (C := RX16) (T := TX16) (N := 4) (ci := 14) rfl rfl rfl rfl in_X16 (by decide) q978 (fun _ h => h) hi d (by subst hz; exact kk)
theorem gX16_3r (hE : YE x cc RX16 ret nm nL RM) {i z : Int} (hi : 0 ≤ i ∧ i < n 18) (hz : K 18 i 3 = z) (h0 : 0 ≤ z) (d : decode cc pc = .ok (.getfield 3, 3)) (kk : 0 ≤ z ∧ z < n 1 → Y x n α K bc bs (pc + 3) lv (.ref (α 1 z) :: st)) : Y x n α K bc bs pc lv (.ref (α 18 i) :: st) :=
  gX16_3 hE hi hz d (fun h => y_ref h0 (kk ⟨h0, h⟩))
theorem pX16_3 (hE : YE x cc RX16 ret nm nL RM) {i z : Int} (hini : nm = "<init>") (hi : 0 ≤ i ∧ i < n 18) (hz : z < n 1) (d : decode cc pc = .ok (.putfield 3, 3)) (kk : Y x n α (up3 K 18 i 3 z) bc bs (pc + 3) lv st) : Y x n α K bc bs pc lv (refV α 1 z :: .ref (α 18 i) :: st) :=
  y_putF hE 3 3 (C := RX16) (T := TX16) (N := 4) (ci := 14) (by unfold kC; decide) rfl rfl rfl rfl in_X16 tyX16 tyX16_ok nmX16 (by decide) rfl q978 (fun _ h => h) rfl hini rfl rfl rfl nar_r.1 nar_r.2 hi (fun _ => hz) d kk
theorem pX16_3r (hE : YE x cc RX16 ret nm nL RM) {i z : Int} (hini : nm = "<init>") (hi : 0 ≤ i ∧ i < n 18) (hz : 0 ≤ z ∧ z < n 1) (d : decode cc pc = .ok (.putfield 3, 3)) (kk : Y x n α (up3 K 18 i 3 z) bc bs (pc + 3) lv st) : Y x n α K bc bs pc lv (.ref (α 1 z) :: .ref (α 18 i) :: st) := by
  rw [← refV_s (α := α) (j := 1) hz.1]
  exact pX16_3 hE hini hi hz.2 d kk
theorem gX16_18 (hE : YE x cc RX16 ret nm nL RM) {i z : Int} (hi : 0 ≤ i ∧ i < n 18) (hz : K 18 i 0 = z) (d : decode cc pc = .ok (.getfield 18, 3)) (kk : z < n 27 → Y x n α K bc bs (pc + 3) lv (refV α 27 z :: st)) : Y x n α K bc bs pc lv (.ref (α 18 i) :: st) :=
  y_getv hE 0 0 (C := RX16) (T := TX16) (N := 4) (ci := 14) rfl rfl rfl rfl in_X16 (by decide) q973 (fun _ h => h) hi d (by subst hz; exact kk)
theorem gX16_18r (hE : YE x cc RX16 ret nm nL RM) {i z : Int} (hi : 0 ≤ i ∧ i < n 18) (hz : K 18 i 0 = z) (h0 : 0 ≤ z) (d : decode cc pc = .ok (.getfield 18, 3)) (kk : 0 ≤ z ∧ z < n 27 → Y x n α K bc bs (pc + 3) lv (.ref (α 27 z) :: st)) : Y x n α K bc bs pc lv (.ref (α 18 i) :: st) :=
  gX16_18 hE hi hz d (fun h => y_ref h0 (kk ⟨h0, h⟩))
theorem pX16_18 (hE : YE x cc RX16 ret nm nL RM) {i z : Int} (hini : nm = "<init>") (hi : 0 ≤ i ∧ i < n 18) (hz : z < n 27) (d : decode cc pc = .ok (.putfield 18, 3)) (kk : Y x n α (up3 K 18 i 0 z) bc bs (pc + 3) lv st) : Y x n α K bc bs pc lv (refV α 27 z :: .ref (α 18 i) :: st) :=
  y_putF hE 0 0 (C := RX16) (T := TX16) (N := 4) (ci := 14) (by unfold kC; decide) rfl rfl rfl rfl in_X16 tyX16 tyX16_ok nmX16 (by decide) rfl q973 (fun _ h => h) rfl hini rfl rfl rfl nar_r.1 nar_r.2 hi (fun _ => hz) d kk
theorem pX16_18r (hE : YE x cc RX16 ret nm nL RM) {i z : Int} (hini : nm = "<init>") (hi : 0 ≤ i ∧ i < n 18) (hz : 0 ≤ z ∧ z < n 27) (d : decode cc pc = .ok (.putfield 18, 3)) (kk : Y x n α (up3 K 18 i 0 z) bc bs (pc + 3) lv st) : Y x n α K bc bs pc lv (.ref (α 27 z) :: .ref (α 18 i) :: st) := by
  rw [← refV_s (α := α) (j := 27) hz.1]
  exact pX16_18 hE hini hi hz.2 d kk
theorem gX16_22 (hE : YE x cc RX16 ret nm nL RM) {i z : Int} (hi : 0 ≤ i ∧ i < n 18) (hz : K 18 i 1 = z) (d : decode cc pc = .ok (.getfield 22, 3)) (kk : Y x n α K bc bs (pc + 3) lv (.int (iI z) :: st)) : Y x n α K bc bs pc lv (.ref (α 18 i) :: st) :=
  y_get hE 1 1 (C := RX16) (T := TX16) (N := 4) (ci := 14) rfl rfl rfl rfl in_X16 (by decide) q975 (fun _ h => h) hi d (by subst hz; exact kk)
theorem pX16_22 (hE : YE x cc RX16 ret nm nL RM) {i z : Int} (hi : 0 ≤ i ∧ i < n 18) (d : decode cc pc = .ok (.putfield 22, 3)) (kk : Y x n α (up3 K 18 i 1 z) bc bs (pc + 3) lv st) : Y x n α K bc bs pc lv (.int (iI z) :: .ref (α 18 i) :: st) :=
  y_put hE 1 1 (C := RX16) (T := TX16) (N := 4) (ci := 14) (by unfold kC; decide) rfl rfl rfl rfl in_X16 tyX16 tyX16_ok nmX16 (by decide) rfl q975 (fun _ h => h) rfl rfl rfl rfl rfl hi (fun h => absurd h (by decide)) d kk
theorem gX16_26 (hE : YE x cc RX16 ret nm nL RM) {i z : Int} (hi : 0 ≤ i ∧ i < n 1) (hz : K 1 i 12 = z) (d : decode cc pc = .ok (.getfield 26, 3)) (kk : z < n 28 → Y x n α K bc bs (pc + 3) lv (refV α 28 z :: st)) : Y x n α K bc bs pc lv (.ref (α 1 i) :: st) :=
  y_getvN hE 12 12 (C := RX1) (T := TX1) (N := 13) (ci := 0) rfl rfl rfl rfl in_X1 (by decide) q635 (fun _ h => h) hi d (by subst hz; exact kk)
theorem gX16_26r (hE : YE x cc RX16 ret nm nL RM) {i z : Int} (hi : 0 ≤ i ∧ i < n 1) (hz : K 1 i 12 = z) (h0 : 0 ≤ z) (d : decode cc pc = .ok (.getfield 26, 3)) (kk : 0 ≤ z ∧ z < n 28 → Y x n α K bc bs (pc + 3) lv (.ref (α 28 z) :: st)) : Y x n α K bc bs pc lv (.ref (α 1 i) :: st) :=
  gX16_26 hE hi hz d (fun h => y_ref h0 (kk ⟨h0, h⟩))
theorem gX16_55 (hE : YE x cc RX16 ret nm nL RM) {i z : Int} (hi : 0 ≤ i ∧ i < n 18) (hz : K 18 i 2 = z) (d : decode cc pc = .ok (.getfield 55, 3)) (kk : Y x n α K bc bs (pc + 3) lv (.int (iI z) :: st)) : Y x n α K bc bs pc lv (.ref (α 18 i) :: st) :=
  y_get hE 2 2 (C := RX16) (T := TX16) (N := 4) (ci := 14) rfl rfl rfl rfl in_X16 (by decide) q977 (fun _ h => h) hi d (by subst hz; exact kk)
theorem pX16_55 (hE : YE x cc RX16 ret nm nL RM) {i z : Int} (hi : 0 ≤ i ∧ i < n 18) (d : decode cc pc = .ok (.putfield 55, 3)) (kk : Y x n α (up3 K 18 i 2 z) bc bs (pc + 3) lv st) : Y x n α K bc bs pc lv (.int (iI z) :: .ref (α 18 i) :: st) :=
  y_put hE 2 2 (C := RX16) (T := TX16) (N := 4) (ci := 14) (by unfold kC; decide) rfl rfl rfl rfl in_X16 tyX16 tyX16_ok nmX16 (by decide) rfl q977 (fun _ h => h) rfl rfl rfl rfl rfl hi (fun h => absurd h (by decide)) d kk
theorem gX16_58 (hE : YE x cc RX16 ret nm nL RM) {i z : Int} (hi : 0 ≤ i ∧ i < n 1) (hz : K 1 i 3 = z) (d : decode cc pc = .ok (.getfield 58, 3)) (kk : z < n 23 → Y x n α K bc bs (pc + 3) lv (refV α 23 z :: st)) : Y x n α K bc bs pc lv (.ref (α 1 i) :: st) :=
  y_getvN hE 3 3 (C := RX1) (T := TX1) (N := 13) (ci := 0) rfl rfl rfl rfl in_X1 (by decide) q619 (fun _ h => h) hi d (by subst hz; exact kk)
theorem gX16_58r (hE : YE x cc RX16 ret nm nL RM) {i z : Int} (hi : 0 ≤ i ∧ i < n 1) (hz : K 1 i 3 = z) (h0 : 0 ≤ z) (d : decode cc pc = .ok (.getfield 58, 3)) (kk : 0 ≤ z ∧ z < n 23 → Y x n α K bc bs (pc + 3) lv (.ref (α 23 z) :: st)) : Y x n α K bc bs pc lv (.ref (α 1 i) :: st) :=
  gX16_58 hE hi hz d (fun h => y_ref h0 (kk ⟨h0, h⟩))
theorem gX16_70 (hE : YE x cc RX16 ret nm nL RM) {i z : Int} (hi : 0 ≤ i ∧ i < n 1) (hz : K 1 i 0 = z) (d : decode cc pc = .ok (.getfield 70, 3)) (kk : z < n 20 → Y x n α K bc bs (pc + 3) lv (refV α 20 z :: st)) : Y x n α K bc bs pc lv (.ref (α 1 i) :: st) :=
  y_getvN hE 0 0 (C := RX1) (T := TX1) (N := 13) (ci := 0) rfl rfl rfl rfl in_X1 (by decide) q614 (fun _ h => h) hi d (by subst hz; exact kk)
theorem gX16_70r (hE : YE x cc RX16 ret nm nL RM) {i z : Int} (hi : 0 ≤ i ∧ i < n 1) (hz : K 1 i 0 = z) (h0 : 0 ≤ z) (d : decode cc pc = .ok (.getfield 70, 3)) (kk : 0 ≤ z ∧ z < n 20 → Y x n α K bc bs (pc + 3) lv (.ref (α 20 z) :: st)) : Y x n α K bc bs pc lv (.ref (α 1 i) :: st) :=
  gX16_70 hE hi hz d (fun h => y_ref h0 (kk ⟨h0, h⟩))
theorem gX16_82 (hE : YE x cc RX16 ret nm nL RM) {i z : Int} (hi : 0 ≤ i ∧ i < n 5) (hz : K 5 i 0 = z) (d : decode cc pc = .ok (.getfield 82, 3)) (kk : Y x n α K bc bs (pc + 3) lv (.int (iI z) :: st)) : Y x n α K bc bs pc lv (.ref (α 5 i) :: st) :=
  y_getN hE 0 0 (C := RX5) (T := TX5) (N := 2) (ci := 4) rfl rfl rfl rfl in_X5 (by decide) q1949 (fun _ h => h) hi d (by subst hz; exact kk)
theorem pX16_112 (hE : YE x cc RX16 ret nm nL RM) {i z : Int} (hi : 0 ≤ i ∧ i < n 14) (d : decode cc pc = .ok (.putfield 112, 3)) (kk : Y x n α (up3 K 14 i 3 z) bc bs (pc + 3) lv st) : Y x n α K bc bs pc lv (.int (iI z) :: .ref (α 14 i) :: st) :=
  y_putN hE 3 3 (C := RX14) (T := TX14) (N := 9) (ci := 12) (by unfold kC; decide) rfl rfl rfl rfl in_X14 tyX14 tyX14_ok nmX14 (by decide) rfl q1056 (fun _ h => h) rfl rfl rfl rfl rfl hi (fun h => absurd h (by decide)) d kk
theorem pX16_115 (hE : YE x cc RX16 ret nm nL RM) {i z : Int} (hi : 0 ≤ i ∧ i < n 14) (d : decode cc pc = .ok (.putfield 115, 3)) (kk : Y x n α (up3 K 14 i 4 z) bc bs (pc + 3) lv st) : Y x n α K bc bs pc lv (.int (iI z) :: .ref (α 14 i) :: st) :=
  y_putN hE 4 4 (C := RX14) (T := TX14) (N := 9) (ci := 12) (by unfold kC; decide) rfl rfl rfl rfl in_X14 tyX14 tyX14_ok nmX14 (by decide) rfl q1059 (fun _ h => h) rfl rfl rfl rfl rfl hi (fun h => absurd h (by decide)) d kk
theorem pX16_118 (hE : YE x cc RX16 ret nm nL RM) {i z : Int} (hi : 0 ≤ i ∧ i < n 14) (d : decode cc pc = .ok (.putfield 118, 3)) (kk : Y x n α (up3 K 14 i 5 z) bc bs (pc + 3) lv st) : Y x n α K bc bs pc lv (.int (iI z) :: .ref (α 14 i) :: st) :=
  y_putN hE 5 5 (C := RX14) (T := TX14) (N := 9) (ci := 12) (by unfold kC; decide) rfl rfl rfl rfl in_X14 tyX14 tyX14_ok nmX14 (by decide) rfl q1063 (fun _ h => h) rfl rfl rfl rfl rfl hi (fun h => absurd h (by decide)) d kk
theorem pX16_121 (hE : YE x cc RX16 ret nm nL RM) {i z : Int} (hi : 0 ≤ i ∧ i < n 14) (hz : z = 0 ∨ z = 1) (d : decode cc pc = .ok (.putfield 121, 3)) (kk : Y x n α (up3 K 14 i 6 z) bc bs (pc + 3) lv st) : Y x n α K bc bs pc lv (.int (iI z) :: .ref (α 14 i) :: st) :=
  y_putN hE 6 6 (C := RX14) (T := TX14) (N := 9) (ci := 12) (by unfold kC; decide) rfl rfl rfl rfl in_X14 tyX14 tyX14_ok nmX14 (by decide) rfl q1066 (fun _ h => h) rfl rfl rfl (nar_b hz).1 (nar_b hz).2 hi (fun h => absurd h (by decide)) d kk
theorem gX16_130 (hE : YE x cc RX16 ret nm nL RM) {i z : Int} (hi : 0 ≤ i ∧ i < n 14) (hz : K 14 i 8 = z) (d : decode cc pc = .ok (.getfield 130, 3)) (kk : Y x n α K bc bs (pc + 3) lv (.int (iI z) :: st)) : Y x n α K bc bs pc lv (.ref (α 14 i) :: st) :=
  y_getN hE 8 8 (C := RX14) (T := TX14) (N := 9) (ci := 12) rfl rfl rfl rfl in_X14 (by decide) q1070 (fun _ h => h) hi d (by subst hz; exact kk)
theorem gX16_143 (hE : YE x cc RX16 ret nm nL RM) {i z : Int} (hi : 0 ≤ i ∧ i < n 14) (hz : K 14 i 0 = z) (d : decode cc pc = .ok (.getfield 143, 3)) (kk : z < n 11 → Y x n α K bc bs (pc + 3) lv (refV α 11 z :: st)) : Y x n α K bc bs pc lv (.ref (α 14 i) :: st) :=
  y_getvN hE 0 0 (C := RX14) (T := TX14) (N := 9) (ci := 12) rfl rfl rfl rfl in_X14 (by decide) q1048 (fun _ h => h) hi d (by subst hz; exact kk)
theorem gX16_143r (hE : YE x cc RX16 ret nm nL RM) {i z : Int} (hi : 0 ≤ i ∧ i < n 14) (hz : K 14 i 0 = z) (h0 : 0 ≤ z) (d : decode cc pc = .ok (.getfield 143, 3)) (kk : 0 ≤ z ∧ z < n 11 → Y x n α K bc bs (pc + 3) lv (.ref (α 11 z) :: st)) : Y x n α K bc bs pc lv (.ref (α 14 i) :: st) :=
  gX16_143 hE hi hz d (fun h => y_ref h0 (kk ⟨h0, h⟩))
theorem gX16_157 (hE : YE x cc RX16 ret nm nL RM) {i z : Int} (hi : 0 ≤ i ∧ i < n 1) (hz : K 1 i 4 = z) (d : decode cc pc = .ok (.getfield 157, 3)) (kk : z < n 24 → Y x n α K bc bs (pc + 3) lv (refV α 24 z :: st)) : Y x n α K bc bs pc lv (.ref (α 1 i) :: st) :=
  y_getvN hE 4 4 (C := RX1) (T := TX1) (N := 13) (ci := 0) rfl rfl rfl rfl in_X1 (by decide) q623 (fun _ h => h) hi d (by subst hz; exact kk)
theorem gX16_157r (hE : YE x cc RX16 ret nm nL RM) {i z : Int} (hi : 0 ≤ i ∧ i < n 1) (hz : K 1 i 4 = z) (h0 : 0 ≤ z) (d : decode cc pc = .ok (.getfield 157, 3)) (kk : 0 ≤ z ∧ z < n 24 → Y x n α K bc bs (pc + 3) lv (.ref (α 24 z) :: st)) : Y x n α K bc bs pc lv (.ref (α 1 i) :: st) :=
  gX16_157 hE hi hz d (fun h => y_ref h0 (kk ⟨h0, h⟩))
theorem pX17_7 (hE : YE x cc RX17 ret nm nL RM) {i z : Int} (hini : nm = "<init>") (hi : 0 ≤ i ∧ i < n 17) (hz : z < n 12) (d : decode cc pc = .ok (.putfield 7, 3)) (kk : Y x n α (up3 K 17 i 0 z) bc bs (pc + 3) lv st) : Y x n α K bc bs pc lv (refV α 12 z :: .ref (α 17 i) :: st) :=
  y_putF hE 0 0 (C := RX17) (T := TX17) (N := 2) (ci := 15) (by unfold kC; decide) rfl rfl rfl rfl in_X17 tyX17 tyX17_ok nmX17 (by decide) rfl q2693 (fun _ h => h) rfl hini rfl rfl rfl nar_r.1 nar_r.2 hi (fun _ => hz) d kk
theorem pX17_7r (hE : YE x cc RX17 ret nm nL RM) {i z : Int} (hini : nm = "<init>") (hi : 0 ≤ i ∧ i < n 17) (hz : 0 ≤ z ∧ z < n 12) (d : decode cc pc = .ok (.putfield 7, 3)) (kk : Y x n α (up3 K 17 i 0 z) bc bs (pc + 3) lv st) : Y x n α K bc bs pc lv (.ref (α 12 z) :: .ref (α 17 i) :: st) := by
  rw [← refV_s (α := α) (j := 12) hz.1]
  exact pX17_7 hE hini hi hz.2 d kk
theorem pX17_13 (hE : YE x cc RX17 ret nm nL RM) {i z : Int} (hini : nm = "<init>") (hi : 0 ≤ i ∧ i < n 17) (hz : z < n 38) (d : decode cc pc = .ok (.putfield 13, 3)) (kk : Y x n α (up3 K 17 i 1 z) bc bs (pc + 3) lv st) : Y x n α K bc bs pc lv (refV α 38 z :: .ref (α 17 i) :: st) :=
  y_putF hE 1 1 (C := RX17) (T := TX17) (N := 2) (ci := 15) (by unfold kC; decide) rfl rfl rfl rfl in_X17 tyX17 tyX17_ok nmX17 (by decide) rfl q2695 (fun _ h => h) rfl hini rfl rfl rfl nar_ra.1 nar_ra.2 hi (fun _ => hz) d kk
theorem pX17_13r (hE : YE x cc RX17 ret nm nL RM) {i z : Int} (hini : nm = "<init>") (hi : 0 ≤ i ∧ i < n 17) (hz : 0 ≤ z ∧ z < n 38) (d : decode cc pc = .ok (.putfield 13, 3)) (kk : Y x n α (up3 K 17 i 1 z) bc bs (pc + 3) lv st) : Y x n α K bc bs pc lv (.ref (α 38 z) :: .ref (α 17 i) :: st) := by
  rw [← refV_s (α := α) (j := 38) hz.1]
  exact pX17_13 hE hini hi hz.2 d kk
theorem gX2_9 (hE : YE x cc RX2 ret nm nL RM) {i z : Int} (hi : 0 ≤ i ∧ i < n 2) (hz : K 2 i 0 = z) (d : decode cc pc = .ok (.getfield 9, 3)) (kk : z < n 31 → Y x n α K bc bs (pc + 3) lv (refV α 31 z :: st)) : Y x n α K bc bs pc lv (.ref (α 2 i) :: st) :=
  y_getv hE 0 0 (C := RX2) (T := TX2) (N := 4) (ci := 1) rfl rfl rfl rfl in_X2 (by decide) q523 (fun _ h => h) hi d (by subst hz; exact kk)
theorem gX2_9r (hE : YE x cc RX2 ret nm nL RM) {i z : Int} (hi : 0 ≤ i ∧ i < n 2) (hz : K 2 i 0 = z) (h0 : 0 ≤ z) (d : decode cc pc = .ok (.getfield 9, 3)) (kk : 0 ≤ z ∧ z < n 31 → Y x n α K bc bs (pc + 3) lv (.ref (α 31 z) :: st)) : Y x n α K bc bs pc lv (.ref (α 2 i) :: st) :=
  gX2_9 hE hi hz d (fun h => y_ref h0 (kk ⟨h0, h⟩))
theorem pX2_9 (hE : YE x cc RX2 ret nm nL RM) {i z : Int} (hini : nm = "<init>") (hi : 0 ≤ i ∧ i < n 2) (hz : z < n 31) (d : decode cc pc = .ok (.putfield 9, 3)) (kk : Y x n α (up3 K 2 i 0 z) bc bs (pc + 3) lv st) : Y x n α K bc bs pc lv (refV α 31 z :: .ref (α 2 i) :: st) :=
  y_putF hE 0 0 (C := RX2) (T := TX2) (N := 4) (ci := 1) (by unfold kC; decide) rfl rfl rfl rfl in_X2 tyX2 tyX2_ok nmX2 (by decide) rfl q523 (fun _ h => h) rfl hini rfl rfl rfl nar_ra.1 nar_ra.2 hi (fun _ => hz) d kk
theorem pX2_9r (hE : YE x cc RX2 ret nm nL RM) {i z : Int} (hini : nm = "<init>") (hi : 0 ≤ i ∧ i < n 2) (hz : 0 ≤ z ∧ z < n 31) (d : decode cc pc = .ok (.putfield 9, 3)) (kk : Y x n α (up3 K 2 i 0 z) bc bs (pc + 3) lv st) : Y x n α K bc bs pc lv (.ref (α 31 z) :: .ref (α 2 i) :: st) := by
  rw [← refV_s (α := α) (j := 31) hz.1]
  exact pX2_9 hE hini hi hz.2 d kk
theorem gX2_13 (hE : YE x cc RX2 ret nm nL RM) {i z : Int} (hi : 0 ≤ i ∧ i < n 2) (hz : K 2 i 1 = z) (d : decode cc pc = .ok (.getfield 13, 3)) (kk : z < n 32 → Y x n α K bc bs (pc + 3) lv (refV α 32 z :: st)) : Y x n α K bc bs pc lv (.ref (α 2 i) :: st) :=
  y_getv hE 1 1 (C := RX2) (T := TX2) (N := 4) (ci := 1) rfl rfl rfl rfl in_X2 (by decide) q526 (fun _ h => h) hi d (by subst hz; exact kk)
theorem gX2_13r (hE : YE x cc RX2 ret nm nL RM) {i z : Int} (hi : 0 ≤ i ∧ i < n 2) (hz : K 2 i 1 = z) (h0 : 0 ≤ z) (d : decode cc pc = .ok (.getfield 13, 3)) (kk : 0 ≤ z ∧ z < n 32 → Y x n α K bc bs (pc + 3) lv (.ref (α 32 z) :: st)) : Y x n α K bc bs pc lv (.ref (α 2 i) :: st) :=
  gX2_13 hE hi hz d (fun h => y_ref h0 (kk ⟨h0, h⟩))
theorem pX2_13 (hE : YE x cc RX2 ret nm nL RM) {i z : Int} (hini : nm = "<init>") (hi : 0 ≤ i ∧ i < n 2) (hz : z < n 32) (d : decode cc pc = .ok (.putfield 13, 3)) (kk : Y x n α (up3 K 2 i 1 z) bc bs (pc + 3) lv st) : Y x n α K bc bs pc lv (refV α 32 z :: .ref (α 2 i) :: st) :=
  y_putF hE 1 1 (C := RX2) (T := TX2) (N := 4) (ci := 1) (by unfold kC; decide) rfl rfl rfl rfl in_X2 tyX2 tyX2_ok nmX2 (by decide) rfl q526 (fun _ h => h) rfl hini rfl rfl rfl nar_ra.1 nar_ra.2 hi (fun _ => hz) d kk
theorem pX2_13r (hE : YE x cc RX2 ret nm nL RM) {i z : Int} (hini : nm = "<init>") (hi : 0 ≤ i ∧ i < n 2) (hz : 0 ≤ z ∧ z < n 32) (d : decode cc pc = .ok (.putfield 13, 3)) (kk : Y x n α (up3 K 2 i 1 z) bc bs (pc + 3) lv st) : Y x n α K bc bs pc lv (.ref (α 32 z) :: .ref (α 2 i) :: st) := by
  rw [← refV_s (α := α) (j := 32) hz.1]
  exact pX2_13 hE hini hi hz.2 d kk
theorem gX2_16 (hE : YE x cc RX2 ret nm nL RM) {i z : Int} (hi : 0 ≤ i ∧ i < n 2) (hz : K 2 i 2 = z) (d : decode cc pc = .ok (.getfield 16, 3)) (kk : z < n 33 → Y x n α K bc bs (pc + 3) lv (refV α 33 z :: st)) : Y x n α K bc bs pc lv (.ref (α 2 i) :: st) :=
  y_getv hE 2 2 (C := RX2) (T := TX2) (N := 4) (ci := 1) rfl rfl rfl rfl in_X2 (by decide) q529 (fun _ h => h) hi d (by subst hz; exact kk)
theorem gX2_16r (hE : YE x cc RX2 ret nm nL RM) {i z : Int} (hi : 0 ≤ i ∧ i < n 2) (hz : K 2 i 2 = z) (h0 : 0 ≤ z) (d : decode cc pc = .ok (.getfield 16, 3)) (kk : 0 ≤ z ∧ z < n 33 → Y x n α K bc bs (pc + 3) lv (.ref (α 33 z) :: st)) : Y x n α K bc bs pc lv (.ref (α 2 i) :: st) :=
  gX2_16 hE hi hz d (fun h => y_ref h0 (kk ⟨h0, h⟩))
theorem pX2_16 (hE : YE x cc RX2 ret nm nL RM) {i z : Int} (hini : nm = "<init>") (hi : 0 ≤ i ∧ i < n 2) (hz : z < n 33) (d : decode cc pc = .ok (.putfield 16, 3)) (kk : Y x n α (up3 K 2 i 2 z) bc bs (pc + 3) lv st) : Y x n α K bc bs pc lv (refV α 33 z :: .ref (α 2 i) :: st) :=
  y_putF hE 2 2 (C := RX2) (T := TX2) (N := 4) (ci := 1) (by unfold kC; decide) rfl rfl rfl rfl in_X2 tyX2 tyX2_ok nmX2 (by decide) rfl q529 (fun _ h => h) rfl hini rfl rfl rfl nar_ra.1 nar_ra.2 hi (fun _ => hz) d kk
theorem pX2_16r (hE : YE x cc RX2 ret nm nL RM) {i z : Int} (hini : nm = "<init>") (hi : 0 ≤ i ∧ i < n 2) (hz : 0 ≤ z ∧ z < n 33) (d : decode cc pc = .ok (.putfield 16, 3)) (kk : Y x n α (up3 K 2 i 2 z) bc bs (pc + 3) lv st) : Y x n α K bc bs pc lv (.ref (α 33 z) :: .ref (α 2 i) :: st) := by
  rw [← refV_s (α := α) (j := 33) hz.1]
  exact pX2_16 hE hini hi hz.2 d kk
theorem gX2_25 (hE : YE x cc RX2 ret nm nL RM) {i z : Int} (hi : 0 ≤ i ∧ i < n 2) (hz : K 2 i 3 = z) (d : decode cc pc = .ok (.getfield 25, 3)) (kk : Y x n α K bc bs (pc + 3) lv (.int (iI z) :: st)) : Y x n α K bc bs pc lv (.ref (α 2 i) :: st) :=
  y_get hE 3 3 (C := RX2) (T := TX2) (N := 4) (ci := 1) rfl rfl rfl rfl in_X2 (by decide) q532 (fun _ h => h) hi d (by subst hz; exact kk)
theorem pX2_25 (hE : YE x cc RX2 ret nm nL RM) {i z : Int} (hi : 0 ≤ i ∧ i < n 2) (d : decode cc pc = .ok (.putfield 25, 3)) (kk : Y x n α (up3 K 2 i 3 z) bc bs (pc + 3) lv st) : Y x n α K bc bs pc lv (.int (iI z) :: .ref (α 2 i) :: st) :=
  y_put hE 3 3 (C := RX2) (T := TX2) (N := 4) (ci := 1) (by unfold kC; decide) rfl rfl rfl rfl in_X2 tyX2 tyX2_ok nmX2 (by decide) rfl q532 (fun _ h => h) rfl rfl rfl rfl rfl hi (fun h => absurd h (by decide)) d kk
theorem gX3_3 (hE : YE x cc RX3 ret nm nL RM) {i z : Int} (hi : 0 ≤ i ∧ i < n 3) (hz : K 3 i 1 = z) (d : decode cc pc = .ok (.getfield 3, 3)) (kk : z < n 1 → Y x n α K bc bs (pc + 3) lv (refV α 1 z :: st)) : Y x n α K bc bs pc lv (.ref (α 3 i) :: st) :=
  y_getv hE 1 1 (C := RX3) (T := TX3) (N := 2) (ci := 2) rfl rfl rfl rfl in_X3 (by decide) q554 (fun _ h => h) hi d (by subst hz; exact kk)
theorem gX3_3r (hE : YE x cc RX3 ret nm nL RM) {i z : Int} (hi : 0 ≤ i ∧ i < n 3) (hz : K 3 i 1 = z) (h0 : 0 ≤ z) (d : decode cc pc = .ok (.getfield 3, 3)) (kk : 0 ≤ z ∧ z < n 1 → Y x n α K bc bs (pc + 3) lv (.ref (α 1 z) :: st)) : Y x n α K bc bs pc lv (.ref (α 3 i) :: st) :=
  gX3_3 hE hi hz d (fun h => y_ref h0 (kk ⟨h0, h⟩))
theorem pX3_3 (hE : YE x cc RX3 ret nm nL RM) {i z : Int} (hini : nm = "<init>") (hi : 0 ≤ i ∧ i < n 3) (hz : z < n 1) (d : decode cc pc = .ok (.putfield 3, 3)) (kk : Y x n α (up3 K 3 i 1 z) bc bs (pc + 3) lv st) : Y x n α K bc bs pc lv (refV α 1 z :: .ref (α 3 i) :: st) :=
  y_putF hE 1 1 (C := RX3) (T := TX3) (N := 2) (ci := 2) (by unfold kC; decide) rfl rfl rfl rfl in_X3 tyX3 tyX3_ok nmX3 (by decide) rfl q554 (fun _ h => h) rfl hini rfl rfl rfl nar_r.1 nar_r.2 hi (fun _ => hz) d kk
theorem pX3_3r (hE : YE x cc RX3 ret nm nL RM) {i z : Int} (hini : nm = "<init>") (hi : 0 ≤ i ∧ i < n 3) (hz : 0 ≤ z ∧ z < n 1) (d : decode cc pc = .ok (.putfield 3, 3)) (kk : Y x n α (up3 K 3 i 1 z) bc bs (pc + 3) lv st) : Y x n α K bc bs pc lv (.ref (α 1 z) :: .ref (α 3 i) :: st) := by
  rw [← refV_s (α := α) (j := 1) hz.1]
  exact pX3_3 hE hini hi hz.2 d kk
theorem gX3_15 (hE : YE x cc RX3 ret nm nL RM) {i z : Int} (hi : 0 ≤ i ∧ i < n 3) (hz : K 3 i 0 = z) (d : decode cc pc = .ok (.getfield 15, 3)) (kk : z < n 34 → Y x n α K bc bs (pc + 3) lv (refV α 34 z :: st)) : Y x n α K bc bs pc lv (.ref (α 3 i) :: st) :=
  y_getv hE 0 0 (C := RX3) (T := TX3) (N := 2) (ci := 2) rfl rfl rfl rfl in_X3 (by decide) q551 (fun _ h => h) hi d (by subst hz; exact kk)
theorem gX3_15r (hE : YE x cc RX3 ret nm nL RM) {i z : Int} (hi : 0 ≤ i ∧ i < n 3) (hz : K 3 i 0 = z) (h0 : 0 ≤ z) (d : decode cc pc = .ok (.getfield 15, 3)) (kk : 0 ≤ z ∧ z < n 34 → Y x n α K bc bs (pc + 3) lv (.ref (α 34 z) :: st)) : Y x n α K bc bs pc lv (.ref (α 3 i) :: st) :=
  gX3_15 hE hi hz d (fun h => y_ref h0 (kk ⟨h0, h⟩))
theorem pX3_15 (hE : YE x cc RX3 ret nm nL RM) {i z : Int} (hini : nm = "<init>") (hi : 0 ≤ i ∧ i < n 3) (hz : z < n 34) (d : decode cc pc = .ok (.putfield 15, 3)) (kk : Y x n α (up3 K 3 i 0 z) bc bs (pc + 3) lv st) : Y x n α K bc bs pc lv (refV α 34 z :: .ref (α 3 i) :: st) :=
  y_putF hE 0 0 (C := RX3) (T := TX3) (N := 2) (ci := 2) (by unfold kC; decide) rfl rfl rfl rfl in_X3 tyX3 tyX3_ok nmX3 (by decide) rfl q551 (fun _ h => h) rfl hini rfl rfl rfl nar_ra.1 nar_ra.2 hi (fun _ => hz) d kk
theorem pX3_15r (hE : YE x cc RX3 ret nm nL RM) {i z : Int} (hini : nm = "<init>") (hi : 0 ≤ i ∧ i < n 3) (hz : 0 ≤ z ∧ z < n 34) (d : decode cc pc = .ok (.putfield 15, 3)) (kk : Y x n α (up3 K 3 i 0 z) bc bs (pc + 3) lv st) : Y x n α K bc bs pc lv (.ref (α 34 z) :: .ref (α 3 i) :: st) := by
  rw [← refV_s (α := α) (j := 34) hz.1]
  exact pX3_15 hE hini hi hz.2 d kk
theorem gX3_19 (hE : YE x cc RX3 ret nm nL RM) {i z : Int} (hi : 0 ≤ i ∧ i < n 1) (hz : K 1 i 1 = z) (d : decode cc pc = .ok (.getfield 19, 3)) (kk : z < n 21 → Y x n α K bc bs (pc + 3) lv (refV α 21 z :: st)) : Y x n α K bc bs pc lv (.ref (α 1 i) :: st) :=
  y_getvN hE 1 1 (C := RX1) (T := TX1) (N := 13) (ci := 0) rfl rfl rfl rfl in_X1 (by decide) q615 (fun _ h => h) hi d (by subst hz; exact kk)
theorem gX3_19r (hE : YE x cc RX3 ret nm nL RM) {i z : Int} (hi : 0 ≤ i ∧ i < n 1) (hz : K 1 i 1 = z) (h0 : 0 ≤ z) (d : decode cc pc = .ok (.getfield 19, 3)) (kk : 0 ≤ z ∧ z < n 21 → Y x n α K bc bs (pc + 3) lv (.ref (α 21 z) :: st)) : Y x n α K bc bs pc lv (.ref (α 1 i) :: st) :=
  gX3_19 hE hi hz d (fun h => y_ref h0 (kk ⟨h0, h⟩))
theorem gX3_35 (hE : YE x cc RX3 ret nm nL RM) {i z : Int} (hi : 0 ≤ i ∧ i < n 6) (hz : K 6 i 1 = z) (d : decode cc pc = .ok (.getfield 35, 3)) (kk : Y x n α K bc bs (pc + 3) lv (.int (iI z) :: st)) : Y x n α K bc bs pc lv (.ref (α 6 i) :: st) :=
  y_getN hE 1 1 (C := RX6) (T := TX6) (N := 3) (ci := 5) rfl rfl rfl rfl in_X6 (by decide) q2027 (fun _ h => h) hi d (by subst hz; exact kk)
theorem gX4_7 (hE : YE x cc RX4 ret nm nL RM) {i z : Int} (hi : 0 ≤ i ∧ i < n 4) (hz : K 4 i 0 = z) (d : decode cc pc = .ok (.getfield 7, 3)) (kk : z < n 100 → Y x n α K bc bs (pc + 3) lv (refV α 100 z :: st)) : Y x n α K bc bs pc lv (.ref (α 4 i) :: st) :=
  y_getv hE 0 0 (C := RX4) (T := TX4) (N := 42) (ci := 3) rfl rfl rfl rfl in_X4 (by decide) q2731 (fun _ h => h) hi d (by subst hz; exact kk)
theorem gX4_7r (hE : YE x cc RX4 ret nm nL RM) {i z : Int} (hi : 0 ≤ i ∧ i < n 4) (hz : K 4 i 0 = z) (h0 : 0 ≤ z) (d : decode cc pc = .ok (.getfield 7, 3)) (kk : 0 ≤ z ∧ z < n 100 → Y x n α K bc bs (pc + 3) lv (.ref (α 100 z) :: st)) : Y x n α K bc bs pc lv (.ref (α 4 i) :: st) :=
  gX4_7 hE hi hz d (fun h => y_ref h0 (kk ⟨h0, h⟩))
theorem pX4_7 (hE : YE x cc RX4 ret nm nL RM) {i z : Int} (hini : nm = "<init>") (hi : 0 ≤ i ∧ i < n 4) (hz : z < n 100) (d : decode cc pc = .ok (.putfield 7, 3)) (kk : Y x n α (up3 K 4 i 0 z) bc bs (pc + 3) lv st) : Y x n α K bc bs pc lv (refV α 100 z :: .ref (α 4 i) :: st) :=
  y_putF hE 0 0 (C := RX4) (T := TX4) (N := 42) (ci := 3) (by unfold kC; decide) rfl rfl rfl rfl in_X4 tyX4 tyX4_ok nmX4 (by decide) rfl q2731 (fun _ h => h) rfl hini rfl rfl rfl nar_ra.1 nar_ra.2 hi (fun _ => hz) d kk
theorem pX4_7r (hE : YE x cc RX4 ret nm nL RM) {i z : Int} (hini : nm = "<init>") (hi : 0 ≤ i ∧ i < n 4) (hz : 0 ≤ z ∧ z < n 100) (d : decode cc pc = .ok (.putfield 7, 3)) (kk : Y x n α (up3 K 4 i 0 z) bc bs (pc + 3) lv st) : Y x n α K bc bs pc lv (.ref (α 100 z) :: .ref (α 4 i) :: st) := by
  rw [← refV_s (α := α) (j := 100) hz.1]
  exact pX4_7 hE hini hi hz.2 d kk
theorem gX4_13 (hE : YE x cc RX4 ret nm nL RM) {i z : Int} (hi : 0 ≤ i ∧ i < n 4) (hz : K 4 i 1 = z) (d : decode cc pc = .ok (.getfield 13, 3)) (kk : z < n 101 → Y x n α K bc bs (pc + 3) lv (refV α 101 z :: st)) : Y x n α K bc bs pc lv (.ref (α 4 i) :: st) :=
  y_getv hE 1 1 (C := RX4) (T := TX4) (N := 42) (ci := 3) rfl rfl rfl rfl in_X4 (by decide) q2732 (fun _ h => h) hi d (by subst hz; exact kk)
theorem gX4_13r (hE : YE x cc RX4 ret nm nL RM) {i z : Int} (hi : 0 ≤ i ∧ i < n 4) (hz : K 4 i 1 = z) (h0 : 0 ≤ z) (d : decode cc pc = .ok (.getfield 13, 3)) (kk : 0 ≤ z ∧ z < n 101 → Y x n α K bc bs (pc + 3) lv (.ref (α 101 z) :: st)) : Y x n α K bc bs pc lv (.ref (α 4 i) :: st) :=
  gX4_13 hE hi hz d (fun h => y_ref h0 (kk ⟨h0, h⟩))
theorem pX4_13 (hE : YE x cc RX4 ret nm nL RM) {i z : Int} (hini : nm = "<init>") (hi : 0 ≤ i ∧ i < n 4) (hz : z < n 101) (d : decode cc pc = .ok (.putfield 13, 3)) (kk : Y x n α (up3 K 4 i 1 z) bc bs (pc + 3) lv st) : Y x n α K bc bs pc lv (refV α 101 z :: .ref (α 4 i) :: st) :=
  y_putF hE 1 1 (C := RX4) (T := TX4) (N := 42) (ci := 3) (by unfold kC; decide) rfl rfl rfl rfl in_X4 tyX4 tyX4_ok nmX4 (by decide) rfl q2732 (fun _ h => h) rfl hini rfl rfl rfl nar_ra.1 nar_ra.2 hi (fun _ => hz) d kk
theorem pX4_13r (hE : YE x cc RX4 ret nm nL RM) {i z : Int} (hini : nm = "<init>") (hi : 0 ≤ i ∧ i < n 4) (hz : 0 ≤ z ∧ z < n 101) (d : decode cc pc = .ok (.putfield 13, 3)) (kk : Y x n α (up3 K 4 i 1 z) bc bs (pc + 3) lv st) : Y x n α K bc bs pc lv (.ref (α 101 z) :: .ref (α 4 i) :: st) := by
  rw [← refV_s (α := α) (j := 101) hz.1]
  exact pX4_13 hE hini hi hz.2 d kk
theorem gX4_17 (hE : YE x cc RX4 ret nm nL RM) {i z : Int} (hi : 0 ≤ i ∧ i < n 4) (hz : K 4 i 2 = z) (d : decode cc pc = .ok (.getfield 17, 3)) (kk : z < n 102 → Y x n α K bc bs (pc + 3) lv (refV α 102 z :: st)) : Y x n α K bc bs pc lv (.ref (α 4 i) :: st) :=
  y_getv hE 2 2 (C := RX4) (T := TX4) (N := 42) (ci := 3) rfl rfl rfl rfl in_X4 (by decide) q2733 (fun _ h => h) hi d (by subst hz; exact kk)
theorem gX4_17r (hE : YE x cc RX4 ret nm nL RM) {i z : Int} (hi : 0 ≤ i ∧ i < n 4) (hz : K 4 i 2 = z) (h0 : 0 ≤ z) (d : decode cc pc = .ok (.getfield 17, 3)) (kk : 0 ≤ z ∧ z < n 102 → Y x n α K bc bs (pc + 3) lv (.ref (α 102 z) :: st)) : Y x n α K bc bs pc lv (.ref (α 4 i) :: st) :=
  gX4_17 hE hi hz d (fun h => y_ref h0 (kk ⟨h0, h⟩))
theorem pX4_17 (hE : YE x cc RX4 ret nm nL RM) {i z : Int} (hini : nm = "<init>") (hi : 0 ≤ i ∧ i < n 4) (hz : z < n 102) (d : decode cc pc = .ok (.putfield 17, 3)) (kk : Y x n α (up3 K 4 i 2 z) bc bs (pc + 3) lv st) : Y x n α K bc bs pc lv (refV α 102 z :: .ref (α 4 i) :: st) :=
  y_putF hE 2 2 (C := RX4) (T := TX4) (N := 42) (ci := 3) (by unfold kC; decide) rfl rfl rfl rfl in_X4 tyX4 tyX4_ok nmX4 (by decide) rfl q2733 (fun _ h => h) rfl hini rfl rfl rfl nar_ra.1 nar_ra.2 hi (fun _ => hz) d kk
theorem pX4_17r (hE : YE x cc RX4 ret nm nL RM) {i z : Int} (hini : nm = "<init>") (hi : 0 ≤ i ∧ i < n 4) (hz : 0 ≤ z ∧ z < n 102) (d : decode cc pc = .ok (.putfield 17, 3)) (kk : Y x n α (up3 K 4 i 2 z) bc bs (pc + 3) lv st) : Y x n α K bc bs pc lv (.ref (α 102 z) :: .ref (α 4 i) :: st) := by
  rw [← refV_s (α := α) (j := 102) hz.1]
  exact pX4_17 hE hini hi hz.2 d kk
theorem gX4_20 (hE : YE x cc RX4 ret nm nL RM) {i z : Int} (hi : 0 ≤ i ∧ i < n 4) (hz : K 4 i 4 = z) (d : decode cc pc = .ok (.getfield 20, 3)) (kk : z < n 104 → Y x n α K bc bs (pc + 3) lv (refV α 104 z :: st)) : Y x n α K bc bs pc lv (.ref (α 4 i) :: st) :=
  y_getv hE 4 4 (C := RX4) (T := TX4) (N := 42) (ci := 3) rfl rfl rfl rfl in_X4 (by decide) q2735 (fun _ h => h) hi d (by subst hz; exact kk)
theorem gX4_20r (hE : YE x cc RX4 ret nm nL RM) {i z : Int} (hi : 0 ≤ i ∧ i < n 4) (hz : K 4 i 4 = z) (h0 : 0 ≤ z) (d : decode cc pc = .ok (.getfield 20, 3)) (kk : 0 ≤ z ∧ z < n 104 → Y x n α K bc bs (pc + 3) lv (.ref (α 104 z) :: st)) : Y x n α K bc bs pc lv (.ref (α 4 i) :: st) :=
  gX4_20 hE hi hz d (fun h => y_ref h0 (kk ⟨h0, h⟩))
theorem pX4_20 (hE : YE x cc RX4 ret nm nL RM) {i z : Int} (hini : nm = "<init>") (hi : 0 ≤ i ∧ i < n 4) (hz : z < n 104) (d : decode cc pc = .ok (.putfield 20, 3)) (kk : Y x n α (up3 K 4 i 4 z) bc bs (pc + 3) lv st) : Y x n α K bc bs pc lv (refV α 104 z :: .ref (α 4 i) :: st) :=
  y_putF hE 4 4 (C := RX4) (T := TX4) (N := 42) (ci := 3) (by unfold kC; decide) rfl rfl rfl rfl in_X4 tyX4 tyX4_ok nmX4 (by decide) rfl q2735 (fun _ h => h) rfl hini rfl rfl rfl nar_ra.1 nar_ra.2 hi (fun _ => hz) d kk
theorem pX4_20r (hE : YE x cc RX4 ret nm nL RM) {i z : Int} (hini : nm = "<init>") (hi : 0 ≤ i ∧ i < n 4) (hz : 0 ≤ z ∧ z < n 104) (d : decode cc pc = .ok (.putfield 20, 3)) (kk : Y x n α (up3 K 4 i 4 z) bc bs (pc + 3) lv st) : Y x n α K bc bs pc lv (.ref (α 104 z) :: .ref (α 4 i) :: st) := by
  rw [← refV_s (α := α) (j := 104) hz.1]
  exact pX4_20 hE hini hi hz.2 d kk
theorem gX4_23 (hE : YE x cc RX4 ret nm nL RM) {i z : Int} (hi : 0 ≤ i ∧ i < n 4) (hz : K 4 i 5 = z) (d : decode cc pc = .ok (.getfield 23, 3)) (kk : z < n 105 → Y x n α K bc bs (pc + 3) lv (refV α 105 z :: st)) : Y x n α K bc bs pc lv (.ref (α 4 i) :: st) :=
  y_getv hE 5 5 (C := RX4) (T := TX4) (N := 42) (ci := 3) rfl rfl rfl rfl in_X4 (by decide) q2736 (fun _ h => h) hi d (by subst hz; exact kk)
theorem gX4_23r (hE : YE x cc RX4 ret nm nL RM) {i z : Int} (hi : 0 ≤ i ∧ i < n 4) (hz : K 4 i 5 = z) (h0 : 0 ≤ z) (d : decode cc pc = .ok (.getfield 23, 3)) (kk : 0 ≤ z ∧ z < n 105 → Y x n α K bc bs (pc + 3) lv (.ref (α 105 z) :: st)) : Y x n α K bc bs pc lv (.ref (α 4 i) :: st) :=
  gX4_23 hE hi hz d (fun h => y_ref h0 (kk ⟨h0, h⟩))
theorem pX4_23 (hE : YE x cc RX4 ret nm nL RM) {i z : Int} (hini : nm = "<init>") (hi : 0 ≤ i ∧ i < n 4) (hz : z < n 105) (d : decode cc pc = .ok (.putfield 23, 3)) (kk : Y x n α (up3 K 4 i 5 z) bc bs (pc + 3) lv st) : Y x n α K bc bs pc lv (refV α 105 z :: .ref (α 4 i) :: st) :=
  y_putF hE 5 5 (C := RX4) (T := TX4) (N := 42) (ci := 3) (by unfold kC; decide) rfl rfl rfl rfl in_X4 tyX4 tyX4_ok nmX4 (by decide) rfl q2736 (fun _ h => h) rfl hini rfl rfl rfl nar_ra.1 nar_ra.2 hi (fun _ => hz) d kk
theorem pX4_23r (hE : YE x cc RX4 ret nm nL RM) {i z : Int} (hini : nm = "<init>") (hi : 0 ≤ i ∧ i < n 4) (hz : 0 ≤ z ∧ z < n 105) (d : decode cc pc = .ok (.putfield 23, 3)) (kk : Y x n α (up3 K 4 i 5 z) bc bs (pc + 3) lv st) : Y x n α K bc bs pc lv (.ref (α 105 z) :: .ref (α 4 i) :: st) := by
  rw [← refV_s (α := α) (j := 105) hz.1]
  exact pX4_23 hE hini hi hz.2 d kk
theorem gX4_26 (hE : YE x cc RX4 ret nm nL RM) {i z : Int} (hi : 0 ≤ i ∧ i < n 4) (hz : K 4 i 6 = z) (d : decode cc pc = .ok (.getfield 26, 3)) (kk : z < n 106 → Y x n α K bc bs (pc + 3) lv (refV α 106 z :: st)) : Y x n α K bc bs pc lv (.ref (α 4 i) :: st) :=
  y_getv hE 6 6 (C := RX4) (T := TX4) (N := 42) (ci := 3) rfl rfl rfl rfl in_X4 (by decide) q2737 (fun _ h => h) hi d (by subst hz; exact kk)
theorem gX4_26r (hE : YE x cc RX4 ret nm nL RM) {i z : Int} (hi : 0 ≤ i ∧ i < n 4) (hz : K 4 i 6 = z) (h0 : 0 ≤ z) (d : decode cc pc = .ok (.getfield 26, 3)) (kk : 0 ≤ z ∧ z < n 106 → Y x n α K bc bs (pc + 3) lv (.ref (α 106 z) :: st)) : Y x n α K bc bs pc lv (.ref (α 4 i) :: st) :=
  gX4_26 hE hi hz d (fun h => y_ref h0 (kk ⟨h0, h⟩))
theorem pX4_26 (hE : YE x cc RX4 ret nm nL RM) {i z : Int} (hini : nm = "<init>") (hi : 0 ≤ i ∧ i < n 4) (hz : z < n 106) (d : decode cc pc = .ok (.putfield 26, 3)) (kk : Y x n α (up3 K 4 i 6 z) bc bs (pc + 3) lv st) : Y x n α K bc bs pc lv (refV α 106 z :: .ref (α 4 i) :: st) :=
  y_putF hE 6 6 (C := RX4) (T := TX4) (N := 42) (ci := 3) (by unfold kC; decide) rfl rfl rfl rfl in_X4 tyX4 tyX4_ok nmX4 (by decide) rfl q2737 (fun _ h => h) rfl hini rfl rfl rfl nar_ra.1 nar_ra.2 hi (fun _ => hz) d kk
theorem pX4_26r (hE : YE x cc RX4 ret nm nL RM) {i z : Int} (hini : nm = "<init>") (hi : 0 ≤ i ∧ i < n 4) (hz : 0 ≤ z ∧ z < n 106) (d : decode cc pc = .ok (.putfield 26, 3)) (kk : Y x n α (up3 K 4 i 6 z) bc bs (pc + 3) lv st) : Y x n α K bc bs pc lv (.ref (α 106 z) :: .ref (α 4 i) :: st) := by
  rw [← refV_s (α := α) (j := 106) hz.1]
  exact pX4_26 hE hini hi hz.2 d kk
theorem gX4_29 (hE : YE x cc RX4 ret nm nL RM) {i z : Int} (hi : 0 ≤ i ∧ i < n 4) (hz : K 4 i 7 = z) (d : decode cc pc = .ok (.getfield 29, 3)) (kk : z < n 107 → Y x n α K bc bs (pc + 3) lv (refV α 107 z :: st)) : Y x n α K bc bs pc lv (.ref (α 4 i) :: st) :=
  y_getv hE 7 7 (C := RX4) (T := TX4) (N := 42) (ci := 3) rfl rfl rfl rfl in_X4 (by decide) q2738 (fun _ h => h) hi d (by subst hz; exact kk)
theorem gX4_29r (hE : YE x cc RX4 ret nm nL RM) {i z : Int} (hi : 0 ≤ i ∧ i < n 4) (hz : K 4 i 7 = z) (h0 : 0 ≤ z) (d : decode cc pc = .ok (.getfield 29, 3)) (kk : 0 ≤ z ∧ z < n 107 → Y x n α K bc bs (pc + 3) lv (.ref (α 107 z) :: st)) : Y x n α K bc bs pc lv (.ref (α 4 i) :: st) :=
  gX4_29 hE hi hz d (fun h => y_ref h0 (kk ⟨h0, h⟩))
theorem pX4_29 (hE : YE x cc RX4 ret nm nL RM) {i z : Int} (hini : nm = "<init>") (hi : 0 ≤ i ∧ i < n 4) (hz : z < n 107) (d : decode cc pc = .ok (.putfield 29, 3)) (kk : Y x n α (up3 K 4 i 7 z) bc bs (pc + 3) lv st) : Y x n α K bc bs pc lv (refV α 107 z :: .ref (α 4 i) :: st) :=
  y_putF hE 7 7 (C := RX4) (T := TX4) (N := 42) (ci := 3) (by unfold kC; decide) rfl rfl rfl rfl in_X4 tyX4 tyX4_ok nmX4 (by decide) rfl q2738 (fun _ h => h) rfl hini rfl rfl rfl nar_ra.1 nar_ra.2 hi (fun _ => hz) d kk
theorem pX4_29r (hE : YE x cc RX4 ret nm nL RM) {i z : Int} (hini : nm = "<init>") (hi : 0 ≤ i ∧ i < n 4) (hz : 0 ≤ z ∧ z < n 107) (d : decode cc pc = .ok (.putfield 29, 3)) (kk : Y x n α (up3 K 4 i 7 z) bc bs (pc + 3) lv st) : Y x n α K bc bs pc lv (.ref (α 107 z) :: .ref (α 4 i) :: st) := by
  rw [← refV_s (α := α) (j := 107) hz.1]
  exact pX4_29 hE hini hi hz.2 d kk
theorem gX4_32 (hE : YE x cc RX4 ret nm nL RM) {i z : Int} (hi : 0 ≤ i ∧ i < n 4) (hz : K 4 i 9 = z) (d : decode cc pc = .ok (.getfield 32, 3)) (kk : z < n 109 → Y x n α K bc bs (pc + 3) lv (refV α 109 z :: st)) : Y x n α K bc bs pc lv (.ref (α 4 i) :: st) :=
  y_getv hE 9 9 (C := RX4) (T := TX4) (N := 42) (ci := 3) rfl rfl rfl rfl in_X4 (by decide) q2740 (fun _ h => h) hi d (by subst hz; exact kk)
theorem gX4_32r (hE : YE x cc RX4 ret nm nL RM) {i z : Int} (hi : 0 ≤ i ∧ i < n 4) (hz : K 4 i 9 = z) (h0 : 0 ≤ z) (d : decode cc pc = .ok (.getfield 32, 3)) (kk : 0 ≤ z ∧ z < n 109 → Y x n α K bc bs (pc + 3) lv (.ref (α 109 z) :: st)) : Y x n α K bc bs pc lv (.ref (α 4 i) :: st) :=
  gX4_32 hE hi hz d (fun h => y_ref h0 (kk ⟨h0, h⟩))
theorem pX4_32 (hE : YE x cc RX4 ret nm nL RM) {i z : Int} (hini : nm = "<init>") (hi : 0 ≤ i ∧ i < n 4) (hz : z < n 109) (d : decode cc pc = .ok (.putfield 32, 3)) (kk : Y x n α (up3 K 4 i 9 z) bc bs (pc + 3) lv st) : Y x n α K bc bs pc lv (refV α 109 z :: .ref (α 4 i) :: st) :=
  y_putF hE 9 9 (C := RX4) (T := TX4) (N := 42) (ci := 3) (by unfold kC; decide) rfl rfl rfl rfl in_X4 tyX4 tyX4_ok nmX4 (by decide) rfl q2740 (fun _ h => h) rfl hini rfl rfl rfl nar_ra.1 nar_ra.2 hi (fun _ => hz) d kk
theorem pX4_32r (hE : YE x cc RX4 ret nm nL RM) {i z : Int} (hini : nm = "<init>") (hi : 0 ≤ i ∧ i < n 4) (hz : 0 ≤ z ∧ z < n 109) (d : decode cc pc = .ok (.putfield 32, 3)) (kk : Y x n α (up3 K 4 i 9 z) bc bs (pc + 3) lv st) : Y x n α K bc bs pc lv (.ref (α 109 z) :: .ref (α 4 i) :: st) := by
  rw [← refV_s (α := α) (j := 109) hz.1]
  exact pX4_32 hE hini hi hz.2 d kk
theorem gX4_35 (hE : YE x cc RX4 ret nm nL RM) {i z : Int} (hi : 0 ≤ i ∧ i < n 4) (hz : K 4 i 10 = z) (d : decode cc pc = .ok (.getfield 35, 3)) (kk : z < n 110 → Y x n α K bc bs (pc + 3) lv (refV α 110 z :: st)) : Y x n α K bc bs pc lv (.ref (α 4 i) :: st) :=
  y_getv hE 10 10 (C := RX4) (T := TX4) (N := 42) (ci := 3) rfl rfl rfl rfl in_X4 (by decide) q2741 (fun _ h => h) hi d (by subst hz; exact kk)
theorem gX4_35r (hE : YE x cc RX4 ret nm nL RM) {i z : Int} (hi : 0 ≤ i ∧ i < n 4) (hz : K 4 i 10 = z) (h0 : 0 ≤ z) (d : decode cc pc = .ok (.getfield 35, 3)) (kk : 0 ≤ z ∧ z < n 110 → Y x n α K bc bs (pc + 3) lv (.ref (α 110 z) :: st)) : Y x n α K bc bs pc lv (.ref (α 4 i) :: st) :=
  gX4_35 hE hi hz d (fun h => y_ref h0 (kk ⟨h0, h⟩))
theorem pX4_35 (hE : YE x cc RX4 ret nm nL RM) {i z : Int} (hini : nm = "<init>") (hi : 0 ≤ i ∧ i < n 4) (hz : z < n 110) (d : decode cc pc = .ok (.putfield 35, 3)) (kk : Y x n α (up3 K 4 i 10 z) bc bs (pc + 3) lv st) : Y x n α K bc bs pc lv (refV α 110 z :: .ref (α 4 i) :: st) :=
  y_putF hE 10 10 (C := RX4) (T := TX4) (N := 42) (ci := 3) (by unfold kC; decide) rfl rfl rfl rfl in_X4 tyX4 tyX4_ok nmX4 (by decide) rfl q2741 (fun _ h => h) rfl hini rfl rfl rfl nar_ra.1 nar_ra.2 hi (fun _ => hz) d kk
theorem pX4_35r (hE : YE x cc RX4 ret nm nL RM) {i z : Int} (hini : nm = "<init>") (hi : 0 ≤ i ∧ i < n 4) (hz : 0 ≤ z ∧ z < n 110) (d : decode cc pc = .ok (.putfield 35, 3)) (kk : Y x n α (up3 K 4 i 10 z) bc bs (pc + 3) lv st) : Y x n α K bc bs pc lv (.ref (α 110 z) :: .ref (α 4 i) :: st) := by
  rw [← refV_s (α := α) (j := 110) hz.1]
  exact pX4_35 hE hini hi hz.2 d kk
theorem gX4_38 (hE : YE x cc RX4 ret nm nL RM) {i z : Int} (hi : 0 ≤ i ∧ i < n 4) (hz : K 4 i 11 = z) (d : decode cc pc = .ok (.getfield 38, 3)) (kk : z < n 111 → Y x n α K bc bs (pc + 3) lv (refV α 111 z :: st)) : Y x n α K bc bs pc lv (.ref (α 4 i) :: st) :=
  y_getv hE 11 11 (C := RX4) (T := TX4) (N := 42) (ci := 3) rfl rfl rfl rfl in_X4 (by decide) q2742 (fun _ h => h) hi d (by subst hz; exact kk)
theorem gX4_38r (hE : YE x cc RX4 ret nm nL RM) {i z : Int} (hi : 0 ≤ i ∧ i < n 4) (hz : K 4 i 11 = z) (h0 : 0 ≤ z) (d : decode cc pc = .ok (.getfield 38, 3)) (kk : 0 ≤ z ∧ z < n 111 → Y x n α K bc bs (pc + 3) lv (.ref (α 111 z) :: st)) : Y x n α K bc bs pc lv (.ref (α 4 i) :: st) :=
  gX4_38 hE hi hz d (fun h => y_ref h0 (kk ⟨h0, h⟩))
theorem pX4_38 (hE : YE x cc RX4 ret nm nL RM) {i z : Int} (hini : nm = "<init>") (hi : 0 ≤ i ∧ i < n 4) (hz : z < n 111) (d : decode cc pc = .ok (.putfield 38, 3)) (kk : Y x n α (up3 K 4 i 11 z) bc bs (pc + 3) lv st) : Y x n α K bc bs pc lv (refV α 111 z :: .ref (α 4 i) :: st) :=
  y_putF hE 11 11 (C := RX4) (T := TX4) (N := 42) (ci := 3) (by unfold kC; decide) rfl rfl rfl rfl in_X4 tyX4 tyX4_ok nmX4 (by decide) rfl q2742 (fun _ h => h) rfl hini rfl rfl rfl nar_ra.1 nar_ra.2 hi (fun _ => hz) d kk
theorem pX4_38r (hE : YE x cc RX4 ret nm nL RM) {i z : Int} (hini : nm = "<init>") (hi : 0 ≤ i ∧ i < n 4) (hz : 0 ≤ z ∧ z < n 111) (d : decode cc pc = .ok (.putfield 38, 3)) (kk : Y x n α (up3 K 4 i 11 z) bc bs (pc + 3) lv st) : Y x n α K bc bs pc lv (.ref (α 111 z) :: .ref (α 4 i) :: st) := by
  rw [← refV_s (α := α) (j := 111) hz.1]
  exact pX4_38 hE hini hi hz.2 d kk
theorem gX4_41 (hE : YE x cc RX4 ret nm nL RM) {i z : Int} (hi : 0 ≤ i ∧ i < n 4) (hz : K 4 i 12 = z) (d : decode cc pc = .ok (.getfield 41, 3)) (kk : z < n 112 → Y x n α K bc bs (pc + 3) lv (refV α 112 z :: st)) : Y x n α K bc bs pc lv (.ref (α 4 i) :: st) :=
  y_getv hE 12 12 (C := RX4) (T := TX4) (N := 42) (ci := 3) rfl rfl rfl rfl in_X4 (by decide) q2743 (fun _ h => h) hi d (by subst hz; exact kk)
theorem gX4_41r (hE : YE x cc RX4 ret nm nL RM) {i z : Int} (hi : 0 ≤ i ∧ i < n 4) (hz : K 4 i 12 = z) (h0 : 0 ≤ z) (d : decode cc pc = .ok (.getfield 41, 3)) (kk : 0 ≤ z ∧ z < n 112 → Y x n α K bc bs (pc + 3) lv (.ref (α 112 z) :: st)) : Y x n α K bc bs pc lv (.ref (α 4 i) :: st) :=
  gX4_41 hE hi hz d (fun h => y_ref h0 (kk ⟨h0, h⟩))
theorem pX4_41 (hE : YE x cc RX4 ret nm nL RM) {i z : Int} (hini : nm = "<init>") (hi : 0 ≤ i ∧ i < n 4) (hz : z < n 112) (d : decode cc pc = .ok (.putfield 41, 3)) (kk : Y x n α (up3 K 4 i 12 z) bc bs (pc + 3) lv st) : Y x n α K bc bs pc lv (refV α 112 z :: .ref (α 4 i) :: st) :=
  y_putF hE 12 12 (C := RX4) (T := TX4) (N := 42) (ci := 3) (by unfold kC; decide) rfl rfl rfl rfl in_X4 tyX4 tyX4_ok nmX4 (by decide) rfl q2743 (fun _ h => h) rfl hini rfl rfl rfl nar_ra.1 nar_ra.2 hi (fun _ => hz) d kk
theorem pX4_41r (hE : YE x cc RX4 ret nm nL RM) {i z : Int} (hini : nm = "<init>") (hi : 0 ≤ i ∧ i < n 4) (hz : 0 ≤ z ∧ z < n 112) (d : decode cc pc = .ok (.putfield 41, 3)) (kk : Y x n α (up3 K 4 i 12 z) bc bs (pc + 3) lv st) : Y x n α K bc bs pc lv (.ref (α 112 z) :: .ref (α 4 i) :: st) := by
  rw [← refV_s (α := α) (j := 112) hz.1]
  exact pX4_41 hE hini hi hz.2 d kk
theorem gX4_44 (hE : YE x cc RX4 ret nm nL RM) {i z : Int} (hi : 0 ≤ i ∧ i < n 4) (hz : K 4 i 13 = z) (d : decode cc pc = .ok (.getfield 44, 3)) (kk : z < n 113 → Y x n α K bc bs (pc + 3) lv (refV α 113 z :: st)) : Y x n α K bc bs pc lv (.ref (α 4 i) :: st) :=
  y_getv hE 13 13 (C := RX4) (T := TX4) (N := 42) (ci := 3) rfl rfl rfl rfl in_X4 (by decide) q2744 (fun _ h => h) hi d (by subst hz; exact kk)
theorem gX4_44r (hE : YE x cc RX4 ret nm nL RM) {i z : Int} (hi : 0 ≤ i ∧ i < n 4) (hz : K 4 i 13 = z) (h0 : 0 ≤ z) (d : decode cc pc = .ok (.getfield 44, 3)) (kk : 0 ≤ z ∧ z < n 113 → Y x n α K bc bs (pc + 3) lv (.ref (α 113 z) :: st)) : Y x n α K bc bs pc lv (.ref (α 4 i) :: st) :=
  gX4_44 hE hi hz d (fun h => y_ref h0 (kk ⟨h0, h⟩))
theorem pX4_44 (hE : YE x cc RX4 ret nm nL RM) {i z : Int} (hini : nm = "<init>") (hi : 0 ≤ i ∧ i < n 4) (hz : z < n 113) (d : decode cc pc = .ok (.putfield 44, 3)) (kk : Y x n α (up3 K 4 i 13 z) bc bs (pc + 3) lv st) : Y x n α K bc bs pc lv (refV α 113 z :: .ref (α 4 i) :: st) :=
  y_putF hE 13 13 (C := RX4) (T := TX4) (N := 42) (ci := 3) (by unfold kC; decide) rfl rfl rfl rfl in_X4 tyX4 tyX4_ok nmX4 (by decide) rfl q2744 (fun _ h => h) rfl hini rfl rfl rfl nar_ra.1 nar_ra.2 hi (fun _ => hz) d kk
theorem pX4_44r (hE : YE x cc RX4 ret nm nL RM) {i z : Int} (hini : nm = "<init>") (hi : 0 ≤ i ∧ i < n 4) (hz : 0 ≤ z ∧ z < n 113) (d : decode cc pc = .ok (.putfield 44, 3)) (kk : Y x n α (up3 K 4 i 13 z) bc bs (pc + 3) lv st) : Y x n α K bc bs pc lv (.ref (α 113 z) :: .ref (α 4 i) :: st) := by
  rw [← refV_s (α := α) (j := 113) hz.1]
  exact pX4_44 hE hini hi hz.2 d kk
theorem gX4_47 (hE : YE x cc RX4 ret nm nL RM) {i z : Int} (hi : 0 ≤ i ∧ i < n 4) (hz : K 4 i 15 = z) (d : decode cc pc = .ok (.getfield 47, 3)) (kk : z < n 115 → Y x n α K bc bs (pc + 3) lv (refV α 115 z :: st)) : Y x n α K bc bs pc lv (.ref (α 4 i) :: st) :=
  y_getv hE 15 15 (C := RX4) (T := TX4) (N := 42) (ci := 3) rfl rfl rfl rfl in_X4 (by decide) q2746 (fun _ h => h) hi d (by subst hz; exact kk)
theorem gX4_47r (hE : YE x cc RX4 ret nm nL RM) {i z : Int} (hi : 0 ≤ i ∧ i < n 4) (hz : K 4 i 15 = z) (h0 : 0 ≤ z) (d : decode cc pc = .ok (.getfield 47, 3)) (kk : 0 ≤ z ∧ z < n 115 → Y x n α K bc bs (pc + 3) lv (.ref (α 115 z) :: st)) : Y x n α K bc bs pc lv (.ref (α 4 i) :: st) :=
  gX4_47 hE hi hz d (fun h => y_ref h0 (kk ⟨h0, h⟩))
theorem pX4_47 (hE : YE x cc RX4 ret nm nL RM) {i z : Int} (hini : nm = "<init>") (hi : 0 ≤ i ∧ i < n 4) (hz : z < n 115) (d : decode cc pc = .ok (.putfield 47, 3)) (kk : Y x n α (up3 K 4 i 15 z) bc bs (pc + 3) lv st) : Y x n α K bc bs pc lv (refV α 115 z :: .ref (α 4 i) :: st) :=
  y_putF hE 15 15 (C := RX4) (T := TX4) (N := 42) (ci := 3) (by unfold kC; decide) rfl rfl rfl rfl in_X4 tyX4 tyX4_ok nmX4 (by decide) rfl q2746 (fun _ h => h) rfl hini rfl rfl rfl nar_ra.1 nar_ra.2 hi (fun _ => hz) d kk
theorem pX4_47r (hE : YE x cc RX4 ret nm nL RM) {i z : Int} (hini : nm = "<init>") (hi : 0 ≤ i ∧ i < n 4) (hz : 0 ≤ z ∧ z < n 115) (d : decode cc pc = .ok (.putfield 47, 3)) (kk : Y x n α (up3 K 4 i 15 z) bc bs (pc + 3) lv st) : Y x n α K bc bs pc lv (.ref (α 115 z) :: .ref (α 4 i) :: st) := by
  rw [← refV_s (α := α) (j := 115) hz.1]
  exact pX4_47 hE hini hi hz.2 d kk
theorem gX4_50 (hE : YE x cc RX4 ret nm nL RM) {i z : Int} (hi : 0 ≤ i ∧ i < n 4) (hz : K 4 i 16 = z) (d : decode cc pc = .ok (.getfield 50, 3)) (kk : z < n 116 → Y x n α K bc bs (pc + 3) lv (refV α 116 z :: st)) : Y x n α K bc bs pc lv (.ref (α 4 i) :: st) :=
  y_getv hE 16 16 (C := RX4) (T := TX4) (N := 42) (ci := 3) rfl rfl rfl rfl in_X4 (by decide) q2747 (fun _ h => h) hi d (by subst hz; exact kk)
theorem gX4_50r (hE : YE x cc RX4 ret nm nL RM) {i z : Int} (hi : 0 ≤ i ∧ i < n 4) (hz : K 4 i 16 = z) (h0 : 0 ≤ z) (d : decode cc pc = .ok (.getfield 50, 3)) (kk : 0 ≤ z ∧ z < n 116 → Y x n α K bc bs (pc + 3) lv (.ref (α 116 z) :: st)) : Y x n α K bc bs pc lv (.ref (α 4 i) :: st) :=
  gX4_50 hE hi hz d (fun h => y_ref h0 (kk ⟨h0, h⟩))
theorem pX4_50 (hE : YE x cc RX4 ret nm nL RM) {i z : Int} (hini : nm = "<init>") (hi : 0 ≤ i ∧ i < n 4) (hz : z < n 116) (d : decode cc pc = .ok (.putfield 50, 3)) (kk : Y x n α (up3 K 4 i 16 z) bc bs (pc + 3) lv st) : Y x n α K bc bs pc lv (refV α 116 z :: .ref (α 4 i) :: st) :=
  y_putF hE 16 16 (C := RX4) (T := TX4) (N := 42) (ci := 3) (by unfold kC; decide) rfl rfl rfl rfl in_X4 tyX4 tyX4_ok nmX4 (by decide) rfl q2747 (fun _ h => h) rfl hini rfl rfl rfl nar_ra.1 nar_ra.2 hi (fun _ => hz) d kk
theorem pX4_50r (hE : YE x cc RX4 ret nm nL RM) {i z : Int} (hini : nm = "<init>") (hi : 0 ≤ i ∧ i < n 4) (hz : 0 ≤ z ∧ z < n 116) (d : decode cc pc = .ok (.putfield 50, 3)) (kk : Y x n α (up3 K 4 i 16 z) bc bs (pc + 3) lv st) : Y x n α K bc bs pc lv (.ref (α 116 z) :: .ref (α 4 i) :: st) := by
  rw [← refV_s (α := α) (j := 116) hz.1]
  exact pX4_50 hE hini hi hz.2 d kk
theorem gX4_53 (hE : YE x cc RX4 ret nm nL RM) {i z : Int} (hi : 0 ≤ i ∧ i < n 4) (hz : K 4 i 17 = z) (d : decode cc pc = .ok (.getfield 53, 3)) (kk : z < n 117 → Y x n α K bc bs (pc + 3) lv (refV α 117 z :: st)) : Y x n α K bc bs pc lv (.ref (α 4 i) :: st) :=
  y_getv hE 17 17 (C := RX4) (T := TX4) (N := 42) (ci := 3) rfl rfl rfl rfl in_X4 (by decide) q2748 (fun _ h => h) hi d (by subst hz; exact kk)
theorem gX4_53r (hE : YE x cc RX4 ret nm nL RM) {i z : Int} (hi : 0 ≤ i ∧ i < n 4) (hz : K 4 i 17 = z) (h0 : 0 ≤ z) (d : decode cc pc = .ok (.getfield 53, 3)) (kk : 0 ≤ z ∧ z < n 117 → Y x n α K bc bs (pc + 3) lv (.ref (α 117 z) :: st)) : Y x n α K bc bs pc lv (.ref (α 4 i) :: st) :=
  gX4_53 hE hi hz d (fun h => y_ref h0 (kk ⟨h0, h⟩))
theorem pX4_53 (hE : YE x cc RX4 ret nm nL RM) {i z : Int} (hini : nm = "<init>") (hi : 0 ≤ i ∧ i < n 4) (hz : z < n 117) (d : decode cc pc = .ok (.putfield 53, 3)) (kk : Y x n α (up3 K 4 i 17 z) bc bs (pc + 3) lv st) : Y x n α K bc bs pc lv (refV α 117 z :: .ref (α 4 i) :: st) :=
  y_putF hE 17 17 (C := RX4) (T := TX4) (N := 42) (ci := 3) (by unfold kC; decide) rfl rfl rfl rfl in_X4 tyX4 tyX4_ok nmX4 (by decide) rfl q2748 (fun _ h => h) rfl hini rfl rfl rfl nar_ra.1 nar_ra.2 hi (fun _ => hz) d kk
theorem pX4_53r (hE : YE x cc RX4 ret nm nL RM) {i z : Int} (hini : nm = "<init>") (hi : 0 ≤ i ∧ i < n 4) (hz : 0 ≤ z ∧ z < n 117) (d : decode cc pc = .ok (.putfield 53, 3)) (kk : Y x n α (up3 K 4 i 17 z) bc bs (pc + 3) lv st) : Y x n α K bc bs pc lv (.ref (α 117 z) :: .ref (α 4 i) :: st) := by
  rw [← refV_s (α := α) (j := 117) hz.1]
  exact pX4_53 hE hini hi hz.2 d kk
theorem gX4_56 (hE : YE x cc RX4 ret nm nL RM) {i z : Int} (hi : 0 ≤ i ∧ i < n 4) (hz : K 4 i 18 = z) (d : decode cc pc = .ok (.getfield 56, 3)) (kk : z < n 118 → Y x n α K bc bs (pc + 3) lv (refV α 118 z :: st)) : Y x n α K bc bs pc lv (.ref (α 4 i) :: st) :=
  y_getv hE 18 18 (C := RX4) (T := TX4) (N := 42) (ci := 3) rfl rfl rfl rfl in_X4 (by decide) q2749 (fun _ h => h) hi d (by subst hz; exact kk)
theorem gX4_56r (hE : YE x cc RX4 ret nm nL RM) {i z : Int} (hi : 0 ≤ i ∧ i < n 4) (hz : K 4 i 18 = z) (h0 : 0 ≤ z) (d : decode cc pc = .ok (.getfield 56, 3)) (kk : 0 ≤ z ∧ z < n 118 → Y x n α K bc bs (pc + 3) lv (.ref (α 118 z) :: st)) : Y x n α K bc bs pc lv (.ref (α 4 i) :: st) :=
  gX4_56 hE hi hz d (fun h => y_ref h0 (kk ⟨h0, h⟩))
theorem pX4_56 (hE : YE x cc RX4 ret nm nL RM) {i z : Int} (hini : nm = "<init>") (hi : 0 ≤ i ∧ i < n 4) (hz : z < n 118) (d : decode cc pc = .ok (.putfield 56, 3)) (kk : Y x n α (up3 K 4 i 18 z) bc bs (pc + 3) lv st) : Y x n α K bc bs pc lv (refV α 118 z :: .ref (α 4 i) :: st) :=
  y_putF hE 18 18 (C := RX4) (T := TX4) (N := 42) (ci := 3) (by unfold kC; decide) rfl rfl rfl rfl in_X4 tyX4 tyX4_ok nmX4 (by decide) rfl q2749 (fun _ h => h) rfl hini rfl rfl rfl nar_ra.1 nar_ra.2 hi (fun _ => hz) d kk
theorem pX4_56r (hE : YE x cc RX4 ret nm nL RM) {i z : Int} (hini : nm = "<init>") (hi : 0 ≤ i ∧ i < n 4) (hz : 0 ≤ z ∧ z < n 118) (d : decode cc pc = .ok (.putfield 56, 3)) (kk : Y x n α (up3 K 4 i 18 z) bc bs (pc + 3) lv st) : Y x n α K bc bs pc lv (.ref (α 118 z) :: .ref (α 4 i) :: st) := by
  rw [← refV_s (α := α) (j := 118) hz.1]
  exact pX4_56 hE hini hi hz.2 d kk
theorem gX4_59 (hE : YE x cc RX4 ret nm nL RM) {i z : Int} (hi : 0 ≤ i ∧ i < n 4) (hz : K 4 i 20 = z) (d : decode cc pc = .ok (.getfield 59, 3)) (kk : z < n 120 → Y x n α K bc bs (pc + 3) lv (refV α 120 z :: st)) : Y x n α K bc bs pc lv (.ref (α 4 i) :: st) :=
  y_getv hE 20 20 (C := RX4) (T := TX4) (N := 42) (ci := 3) rfl rfl rfl rfl in_X4 (by decide) q2751 (fun _ h => h) hi d (by subst hz; exact kk)
theorem gX4_59r (hE : YE x cc RX4 ret nm nL RM) {i z : Int} (hi : 0 ≤ i ∧ i < n 4) (hz : K 4 i 20 = z) (h0 : 0 ≤ z) (d : decode cc pc = .ok (.getfield 59, 3)) (kk : 0 ≤ z ∧ z < n 120 → Y x n α K bc bs (pc + 3) lv (.ref (α 120 z) :: st)) : Y x n α K bc bs pc lv (.ref (α 4 i) :: st) :=
  gX4_59 hE hi hz d (fun h => y_ref h0 (kk ⟨h0, h⟩))
theorem pX4_59 (hE : YE x cc RX4 ret nm nL RM) {i z : Int} (hini : nm = "<init>") (hi : 0 ≤ i ∧ i < n 4) (hz : z < n 120) (d : decode cc pc = .ok (.putfield 59, 3)) (kk : Y x n α (up3 K 4 i 20 z) bc bs (pc + 3) lv st) : Y x n α K bc bs pc lv (refV α 120 z :: .ref (α 4 i) :: st) :=
  y_putF hE 20 20 (C := RX4) (T := TX4) (N := 42) (ci := 3) (by unfold kC; decide) rfl rfl rfl rfl in_X4 tyX4 tyX4_ok nmX4 (by decide) rfl q2751 (fun _ h => h) rfl hini rfl rfl rfl nar_ra.1 nar_ra.2 hi (fun _ => hz) d kk
theorem pX4_59r (hE : YE x cc RX4 ret nm nL RM) {i z : Int} (hini : nm = "<init>") (hi : 0 ≤ i ∧ i < n 4) (hz : 0 ≤ z ∧ z < n 120) (d : decode cc pc = .ok (.putfield 59, 3)) (kk : Y x n α (up3 K 4 i 20 z) bc bs (pc + 3) lv st) : Y x n α K bc bs pc lv (.ref (α 120 z) :: .ref (α 4 i) :: st) := by
  rw [← refV_s (α := α) (j := 120) hz.1]
  exact pX4_59 hE hini hi hz.2 d kk
theorem gX4_62 (hE : YE x cc RX4 ret nm nL RM) {i z : Int} (hi : 0 ≤ i ∧ i < n 4) (hz : K 4 i 22 = z) (d : decode cc pc = .ok (.getfield 62, 3)) (kk : Y x n α K bc bs (pc + 3) lv (.int (iI z) :: st)) : Y x n α K bc bs pc lv (.ref (α 4 i) :: st) :=
  y_get hE 22 22 (C := RX4) (T := TX4) (N := 42) (ci := 3) rfl rfl rfl rfl in_X4 (by decide) q2753 (fun _ h => h) hi d (by subst hz; exact kk)
theorem pX4_62 (hE : YE x cc RX4 ret nm nL RM) {i z : Int} (hi : 0 ≤ i ∧ i < n 4) (d : decode cc pc = .ok (.putfield 62, 3)) (kk : Y x n α (up3 K 4 i 22 z) bc bs (pc + 3) lv st) : Y x n α K bc bs pc lv (.int (iI z) :: .ref (α 4 i) :: st) :=
  y_put hE 22 22 (C := RX4) (T := TX4) (N := 42) (ci := 3) (by unfold kC; decide) rfl rfl rfl rfl in_X4 tyX4 tyX4_ok nmX4 (by decide) rfl q2753 (fun _ h => h) rfl rfl rfl rfl rfl hi (fun h => absurd h (by decide)) d kk
theorem gX4_66 (hE : YE x cc RX4 ret nm nL RM) {i z : Int} (hi : 0 ≤ i ∧ i < n 4) (hz : K 4 i 23 = z) (d : decode cc pc = .ok (.getfield 66, 3)) (kk : z < n 123 → Y x n α K bc bs (pc + 3) lv (refV α 123 z :: st)) : Y x n α K bc bs pc lv (.ref (α 4 i) :: st) :=
  y_getv hE 23 23 (C := RX4) (T := TX4) (N := 42) (ci := 3) rfl rfl rfl rfl in_X4 (by decide) q2754 (fun _ h => h) hi d (by subst hz; exact kk)
theorem gX4_66r (hE : YE x cc RX4 ret nm nL RM) {i z : Int} (hi : 0 ≤ i ∧ i < n 4) (hz : K 4 i 23 = z) (h0 : 0 ≤ z) (d : decode cc pc = .ok (.getfield 66, 3)) (kk : 0 ≤ z ∧ z < n 123 → Y x n α K bc bs (pc + 3) lv (.ref (α 123 z) :: st)) : Y x n α K bc bs pc lv (.ref (α 4 i) :: st) :=
  gX4_66 hE hi hz d (fun h => y_ref h0 (kk ⟨h0, h⟩))
theorem pX4_66 (hE : YE x cc RX4 ret nm nL RM) {i z : Int} (hini : nm = "<init>") (hi : 0 ≤ i ∧ i < n 4) (hz : z < n 123) (d : decode cc pc = .ok (.putfield 66, 3)) (kk : Y x n α (up3 K 4 i 23 z) bc bs (pc + 3) lv st) : Y x n α K bc bs pc lv (refV α 123 z :: .ref (α 4 i) :: st) :=
  y_putF hE 23 23 (C := RX4) (T := TX4) (N := 42) (ci := 3) (by unfold kC; decide) rfl rfl rfl rfl in_X4 tyX4 tyX4_ok nmX4 (by decide) rfl q2754 (fun _ h => h) rfl hini rfl rfl rfl nar_ra.1 nar_ra.2 hi (fun _ => hz) d kk
theorem pX4_66r (hE : YE x cc RX4 ret nm nL RM) {i z : Int} (hini : nm = "<init>") (hi : 0 ≤ i ∧ i < n 4) (hz : 0 ≤ z ∧ z < n 123) (d : decode cc pc = .ok (.putfield 66, 3)) (kk : Y x n α (up3 K 4 i 23 z) bc bs (pc + 3) lv st) : Y x n α K bc bs pc lv (.ref (α 123 z) :: .ref (α 4 i) :: st) := by
  rw [← refV_s (α := α) (j := 123) hz.1]
  exact pX4_66 hE hini hi hz.2 d kk
theorem gX4_69 (hE : YE x cc RX4 ret nm nL RM) {i z : Int} (hi : 0 ≤ i ∧ i < n 4) (hz : K 4 i 26 = z) (d : decode cc pc = .ok (.getfield 69, 3)) (kk : z < n 126 → Y x n α K bc bs (pc + 3) lv (refV α 126 z :: st)) : Y x n α K bc bs pc lv (.ref (α 4 i) :: st) :=
  y_getv hE 26 26 (C := RX4) (T := TX4) (N := 42) (ci := 3) rfl rfl rfl rfl in_X4 (by decide) q2757 (fun _ h => h) hi d (by subst hz; exact kk)
theorem gX4_69r (hE : YE x cc RX4 ret nm nL RM) {i z : Int} (hi : 0 ≤ i ∧ i < n 4) (hz : K 4 i 26 = z) (h0 : 0 ≤ z) (d : decode cc pc = .ok (.getfield 69, 3)) (kk : 0 ≤ z ∧ z < n 126 → Y x n α K bc bs (pc + 3) lv (.ref (α 126 z) :: st)) : Y x n α K bc bs pc lv (.ref (α 4 i) :: st) :=
  gX4_69 hE hi hz d (fun h => y_ref h0 (kk ⟨h0, h⟩))
theorem pX4_69 (hE : YE x cc RX4 ret nm nL RM) {i z : Int} (hini : nm = "<init>") (hi : 0 ≤ i ∧ i < n 4) (hz : z < n 126) (d : decode cc pc = .ok (.putfield 69, 3)) (kk : Y x n α (up3 K 4 i 26 z) bc bs (pc + 3) lv st) : Y x n α K bc bs pc lv (refV α 126 z :: .ref (α 4 i) :: st) :=
  y_putF hE 26 26 (C := RX4) (T := TX4) (N := 42) (ci := 3) (by unfold kC; decide) rfl rfl rfl rfl in_X4 tyX4 tyX4_ok nmX4 (by decide) rfl q2757 (fun _ h => h) rfl hini rfl rfl rfl nar_ra.1 nar_ra.2 hi (fun _ => hz) d kk
theorem pX4_69r (hE : YE x cc RX4 ret nm nL RM) {i z : Int} (hini : nm = "<init>") (hi : 0 ≤ i ∧ i < n 4) (hz : 0 ≤ z ∧ z < n 126) (d : decode cc pc = .ok (.putfield 69, 3)) (kk : Y x n α (up3 K 4 i 26 z) bc bs (pc + 3) lv st) : Y x n α K bc bs pc lv (.ref (α 126 z) :: .ref (α 4 i) :: st) := by
  rw [← refV_s (α := α) (j := 126) hz.1]
  exact pX4_69 hE hini hi hz.2 d kk
theorem gX4_72 (hE : YE x cc RX4 ret nm nL RM) {i z : Int} (hi : 0 ≤ i ∧ i < n 4) (hz : K 4 i 27 = z) (d : decode cc pc = .ok (.getfield 72, 3)) (kk : z < n 127 → Y x n α K bc bs (pc + 3) lv (refV α 127 z :: st)) : Y x n α K bc bs pc lv (.ref (α 4 i) :: st) :=
  y_getv hE 27 27 (C := RX4) (T := TX4) (N := 42) (ci := 3) rfl rfl rfl rfl in_X4 (by decide) q2758 (fun _ h => h) hi d (by subst hz; exact kk)
theorem gX4_72r (hE : YE x cc RX4 ret nm nL RM) {i z : Int} (hi : 0 ≤ i ∧ i < n 4) (hz : K 4 i 27 = z) (h0 : 0 ≤ z) (d : decode cc pc = .ok (.getfield 72, 3)) (kk : 0 ≤ z ∧ z < n 127 → Y x n α K bc bs (pc + 3) lv (.ref (α 127 z) :: st)) : Y x n α K bc bs pc lv (.ref (α 4 i) :: st) :=
  gX4_72 hE hi hz d (fun h => y_ref h0 (kk ⟨h0, h⟩))
theorem pX4_72 (hE : YE x cc RX4 ret nm nL RM) {i z : Int} (hini : nm = "<init>") (hi : 0 ≤ i ∧ i < n 4) (hz : z < n 127) (d : decode cc pc = .ok (.putfield 72, 3)) (kk : Y x n α (up3 K 4 i 27 z) bc bs (pc + 3) lv st) : Y x n α K bc bs pc lv (refV α 127 z :: .ref (α 4 i) :: st) :=
  y_putF hE 27 27 (C := RX4) (T := TX4) (N := 42) (ci := 3) (by unfold kC; decide) rfl rfl rfl rfl in_X4 tyX4 tyX4_ok nmX4 (by decide) rfl q2758 (fun _ h => h) rfl hini rfl rfl rfl nar_ra.1 nar_ra.2 hi (fun _ => hz) d kk
theorem pX4_72r (hE : YE x cc RX4 ret nm nL RM) {i z : Int} (hini : nm = "<init>") (hi : 0 ≤ i ∧ i < n 4) (hz : 0 ≤ z ∧ z < n 127) (d : decode cc pc = .ok (.putfield 72, 3)) (kk : Y x n α (up3 K 4 i 27 z) bc bs (pc + 3) lv st) : Y x n α K bc bs pc lv (.ref (α 127 z) :: .ref (α 4 i) :: st) := by
  rw [← refV_s (α := α) (j := 127) hz.1]
  exact pX4_72 hE hini hi hz.2 d kk
theorem gX4_76 (hE : YE x cc RX4 ret nm nL RM) {i z : Int} (hi : 0 ≤ i ∧ i < n 4) (hz : K 4 i 28 = z) (d : decode cc pc = .ok (.getfield 76, 3)) (kk : z < n 128 → Y x n α K bc bs (pc + 3) lv (refV α 128 z :: st)) : Y x n α K bc bs pc lv (.ref (α 4 i) :: st) :=
  y_getv hE 28 28 (C := RX4) (T := TX4) (N := 42) (ci := 3) rfl rfl rfl rfl in_X4 (by decide) q2759 (fun _ h => h) hi d (by subst hz; exact kk)
theorem gX4_76r (hE : YE x cc RX4 ret nm nL RM) {i z : Int} (hi : 0 ≤ i ∧ i < n 4) (hz : K 4 i 28 = z) (h0 : 0 ≤ z) (d : decode cc pc = .ok (.getfield 76, 3)) (kk : 0 ≤ z ∧ z < n 128 → Y x n α K bc bs (pc + 3) lv (.ref (α 128 z) :: st)) : Y x n α K bc bs pc lv (.ref (α 4 i) :: st) :=
  gX4_76 hE hi hz d (fun h => y_ref h0 (kk ⟨h0, h⟩))
theorem pX4_76 (hE : YE x cc RX4 ret nm nL RM) {i z : Int} (hini : nm = "<init>") (hi : 0 ≤ i ∧ i < n 4) (hz : z < n 128) (d : decode cc pc = .ok (.putfield 76, 3)) (kk : Y x n α (up3 K 4 i 28 z) bc bs (pc + 3) lv st) : Y x n α K bc bs pc lv (refV α 128 z :: .ref (α 4 i) :: st) :=
  y_putF hE 28 28 (C := RX4) (T := TX4) (N := 42) (ci := 3) (by unfold kC; decide) rfl rfl rfl rfl in_X4 tyX4 tyX4_ok nmX4 (by decide) rfl q2759 (fun _ h => h) rfl hini rfl rfl rfl nar_ra.1 nar_ra.2 hi (fun _ => hz) d kk
theorem pX4_76r (hE : YE x cc RX4 ret nm nL RM) {i z : Int} (hini : nm = "<init>") (hi : 0 ≤ i ∧ i < n 4) (hz : 0 ≤ z ∧ z < n 128) (d : decode cc pc = .ok (.putfield 76, 3)) (kk : Y x n α (up3 K 4 i 28 z) bc bs (pc + 3) lv st) : Y x n α K bc bs pc lv (.ref (α 128 z) :: .ref (α 4 i) :: st) := by
  rw [← refV_s (α := α) (j := 128) hz.1]
  exact pX4_76 hE hini hi hz.2 d kk
theorem gX4_79 (hE : YE x cc RX4 ret nm nL RM) {i z : Int} (hi : 0 ≤ i ∧ i < n 4) (hz : K 4 i 29 = z) (d : decode cc pc = .ok (.getfield 79, 3)) (kk : z < n 129 → Y x n α K bc bs (pc + 3) lv (refV α 129 z :: st)) : Y x n α K bc bs pc lv (.ref (α 4 i) :: st) :=
  y_getv hE 29 29 (C := RX4) (T := TX4) (N := 42) (ci := 3) rfl rfl rfl rfl in_X4 (by decide) q2760 (fun _ h => h) hi d (by subst hz; exact kk)
theorem gX4_79r (hE : YE x cc RX4 ret nm nL RM) {i z : Int} (hi : 0 ≤ i ∧ i < n 4) (hz : K 4 i 29 = z) (h0 : 0 ≤ z) (d : decode cc pc = .ok (.getfield 79, 3)) (kk : 0 ≤ z ∧ z < n 129 → Y x n α K bc bs (pc + 3) lv (.ref (α 129 z) :: st)) : Y x n α K bc bs pc lv (.ref (α 4 i) :: st) :=
  gX4_79 hE hi hz d (fun h => y_ref h0 (kk ⟨h0, h⟩))
theorem pX4_79 (hE : YE x cc RX4 ret nm nL RM) {i z : Int} (hini : nm = "<init>") (hi : 0 ≤ i ∧ i < n 4) (hz : z < n 129) (d : decode cc pc = .ok (.putfield 79, 3)) (kk : Y x n α (up3 K 4 i 29 z) bc bs (pc + 3) lv st) : Y x n α K bc bs pc lv (refV α 129 z :: .ref (α 4 i) :: st) :=
  y_putF hE 29 29 (C := RX4) (T := TX4) (N := 42) (ci := 3) (by unfold kC; decide) rfl rfl rfl rfl in_X4 tyX4 tyX4_ok nmX4 (by decide) rfl q2760 (fun _ h => h) rfl hini rfl rfl rfl nar_ra.1 nar_ra.2 hi (fun _ => hz) d kk
theorem pX4_79r (hE : YE x cc RX4 ret nm nL RM) {i z : Int} (hini : nm = "<init>") (hi : 0 ≤ i ∧ i < n 4) (hz : 0 ≤ z ∧ z < n 129) (d : decode cc pc = .ok (.putfield 79, 3)) (kk : Y x n α (up3 K 4 i 29 z) bc bs (pc + 3) lv st) : Y x n α K bc bs pc lv (.ref (α 129 z) :: .ref (α 4 i) :: st) := by
  rw [← refV_s (α := α) (j := 129) hz.1]
  exact pX4_79 hE hini hi hz.2 d kk
theorem gX4_82 (hE : YE x cc RX4 ret nm nL RM) {i z : Int} (hi : 0 ≤ i ∧ i < n 4) (hz : K 4 i 37 = z) (d : decode cc pc = .ok (.getfield 82, 3)) (kk : z < n 137 → Y x n α K bc bs (pc + 3) lv (refV α 137 z :: st)) : Y x n α K bc bs pc lv (.ref (α 4 i) :: st) :=
  y_getv hE 37 37 (C := RX4) (T := TX4) (N := 42) (ci := 3) rfl rfl rfl rfl in_X4 (by decide) q2768 (fun _ h => h) hi d (by subst hz; exact kk)
theorem gX4_82r (hE : YE x cc RX4 ret nm nL RM) {i z : Int} (hi : 0 ≤ i ∧ i < n 4) (hz : K 4 i 37 = z) (h0 : 0 ≤ z) (d : decode cc pc = .ok (.getfield 82, 3)) (kk : 0 ≤ z ∧ z < n 137 → Y x n α K bc bs (pc + 3) lv (.ref (α 137 z) :: st)) : Y x n α K bc bs pc lv (.ref (α 4 i) :: st) :=
  gX4_82 hE hi hz d (fun h => y_ref h0 (kk ⟨h0, h⟩))
theorem pX4_82 (hE : YE x cc RX4 ret nm nL RM) {i z : Int} (hini : nm = "<init>") (hi : 0 ≤ i ∧ i < n 4) (hz : z < n 137) (d : decode cc pc = .ok (.putfield 82, 3)) (kk : Y x n α (up3 K 4 i 37 z) bc bs (pc + 3) lv st) : Y x n α K bc bs pc lv (refV α 137 z :: .ref (α 4 i) :: st) :=
  y_putF hE 37 37 (C := RX4) (T := TX4) (N := 42) (ci := 3) (by unfold kC; decide) rfl rfl rfl rfl in_X4 tyX4 tyX4_ok nmX4 (by decide) rfl q2768 (fun _ h => h) rfl hini rfl rfl rfl nar_ra.1 nar_ra.2 hi (fun _ => hz) d kk
theorem pX4_82r (hE : YE x cc RX4 ret nm nL RM) {i z : Int} (hini : nm = "<init>") (hi : 0 ≤ i ∧ i < n 4) (hz : 0 ≤ z ∧ z < n 137) (d : decode cc pc = .ok (.putfield 82, 3)) (kk : Y x n α (up3 K 4 i 37 z) bc bs (pc + 3) lv st) : Y x n α K bc bs pc lv (.ref (α 137 z) :: .ref (α 4 i) :: st) := by
  rw [← refV_s (α := α) (j := 137) hz.1]
  exact pX4_82 hE hini hi hz.2 d kk
theorem gX4_85 (hE : YE x cc RX4 ret nm nL RM) {i z : Int} (hi : 0 ≤ i ∧ i < n 4) (hz : K 4 i 38 = z) (d : decode cc pc = .ok (.getfield 85, 3)) (kk : z < n 138 → Y x n α K bc bs (pc + 3) lv (refV α 138 z :: st)) : Y x n α K bc bs pc lv (.ref (α 4 i) :: st) :=
  y_getv hE 38 38 (C := RX4) (T := TX4) (N := 42) (ci := 3) rfl rfl rfl rfl in_X4 (by decide) q2769 (fun _ h => h) hi d (by subst hz; exact kk)
theorem gX4_85r (hE : YE x cc RX4 ret nm nL RM) {i z : Int} (hi : 0 ≤ i ∧ i < n 4) (hz : K 4 i 38 = z) (h0 : 0 ≤ z) (d : decode cc pc = .ok (.getfield 85, 3)) (kk : 0 ≤ z ∧ z < n 138 → Y x n α K bc bs (pc + 3) lv (.ref (α 138 z) :: st)) : Y x n α K bc bs pc lv (.ref (α 4 i) :: st) :=
  gX4_85 hE hi hz d (fun h => y_ref h0 (kk ⟨h0, h⟩))
theorem pX4_85 (hE : YE x cc RX4 ret nm nL RM) {i z : Int} (hini : nm = "<init>") (hi : 0 ≤ i ∧ i < n 4) (hz : z < n 138) (d : decode cc pc = .ok (.putfield 85, 3)) (kk : Y x n α (up3 K 4 i 38 z) bc bs (pc + 3) lv st) : Y x n α K bc bs pc lv (refV α 138 z :: .ref (α 4 i) :: st) :=
  y_putF hE 38 38 (C := RX4) (T := TX4) (N := 42) (ci := 3) (by unfold kC; decide) rfl rfl rfl rfl in_X4 tyX4 tyX4_ok nmX4 (by decide) rfl q2769 (fun _ h => h) rfl hini rfl rfl rfl nar_ra.1 nar_ra.2 hi (fun _ => hz) d kk
theorem pX4_85r (hE : YE x cc RX4 ret nm nL RM) {i z : Int} (hini : nm = "<init>") (hi : 0 ≤ i ∧ i < n 4) (hz : 0 ≤ z ∧ z < n 138) (d : decode cc pc = .ok (.putfield 85, 3)) (kk : Y x n α (up3 K 4 i 38 z) bc bs (pc + 3) lv st) : Y x n α K bc bs pc lv (.ref (α 138 z) :: .ref (α 4 i) :: st) := by
  rw [← refV_s (α := α) (j := 138) hz.1]
  exact pX4_85 hE hini hi hz.2 d kk
theorem gX4_88 (hE : YE x cc RX4 ret nm nL RM) {i z : Int} (hi : 0 ≤ i ∧ i < n 4) (hz : K 4 i 39 = z) (d : decode cc pc = .ok (.getfield 88, 3)) (kk : z < n 139 → Y x n α K bc bs (pc + 3) lv (refV α 139 z :: st)) : Y x n α K bc bs pc lv (.ref (α 4 i) :: st) :=
  y_getv hE 39 39 (C := RX4) (T := TX4) (N := 42) (ci := 3) rfl rfl rfl rfl in_X4 (by decide) q2770 (fun _ h => h) hi d (by subst hz; exact kk)
theorem gX4_88r (hE : YE x cc RX4 ret nm nL RM) {i z : Int} (hi : 0 ≤ i ∧ i < n 4) (hz : K 4 i 39 = z) (h0 : 0 ≤ z) (d : decode cc pc = .ok (.getfield 88, 3)) (kk : 0 ≤ z ∧ z < n 139 → Y x n α K bc bs (pc + 3) lv (.ref (α 139 z) :: st)) : Y x n α K bc bs pc lv (.ref (α 4 i) :: st) :=
  gX4_88 hE hi hz d (fun h => y_ref h0 (kk ⟨h0, h⟩))
theorem pX4_88 (hE : YE x cc RX4 ret nm nL RM) {i z : Int} (hini : nm = "<init>") (hi : 0 ≤ i ∧ i < n 4) (hz : z < n 139) (d : decode cc pc = .ok (.putfield 88, 3)) (kk : Y x n α (up3 K 4 i 39 z) bc bs (pc + 3) lv st) : Y x n α K bc bs pc lv (refV α 139 z :: .ref (α 4 i) :: st) :=
  y_putF hE 39 39 (C := RX4) (T := TX4) (N := 42) (ci := 3) (by unfold kC; decide) rfl rfl rfl rfl in_X4 tyX4 tyX4_ok nmX4 (by decide) rfl q2770 (fun _ h => h) rfl hini rfl rfl rfl nar_ra.1 nar_ra.2 hi (fun _ => hz) d kk
theorem pX4_88r (hE : YE x cc RX4 ret nm nL RM) {i z : Int} (hini : nm = "<init>") (hi : 0 ≤ i ∧ i < n 4) (hz : 0 ≤ z ∧ z < n 139) (d : decode cc pc = .ok (.putfield 88, 3)) (kk : Y x n α (up3 K 4 i 39 z) bc bs (pc + 3) lv st) : Y x n α K bc bs pc lv (.ref (α 139 z) :: .ref (α 4 i) :: st) := by
  rw [← refV_s (α := α) (j := 139) hz.1]
  exact pX4_88 hE hini hi hz.2 d kk
theorem gX4_91 (hE : YE x cc RX4 ret nm nL RM) {i z : Int} (hi : 0 ≤ i ∧ i < n 4) (hz : K 4 i 41 = z) (d : decode cc pc = .ok (.getfield 91, 3)) (kk : z < n 141 → Y x n α K bc bs (pc + 3) lv (refV α 141 z :: st)) : Y x n α K bc bs pc lv (.ref (α 4 i) :: st) :=
  y_getv hE 41 41 (C := RX4) (T := TX4) (N := 42) (ci := 3) rfl rfl rfl rfl in_X4 (by decide) q2772 (fun _ h => h) hi d (by subst hz; exact kk)
theorem gX4_91r (hE : YE x cc RX4 ret nm nL RM) {i z : Int} (hi : 0 ≤ i ∧ i < n 4) (hz : K 4 i 41 = z) (h0 : 0 ≤ z) (d : decode cc pc = .ok (.getfield 91, 3)) (kk : 0 ≤ z ∧ z < n 141 → Y x n α K bc bs (pc + 3) lv (.ref (α 141 z) :: st)) : Y x n α K bc bs pc lv (.ref (α 4 i) :: st) :=
  gX4_91 hE hi hz d (fun h => y_ref h0 (kk ⟨h0, h⟩))
theorem pX4_91 (hE : YE x cc RX4 ret nm nL RM) {i z : Int} (hini : nm = "<init>") (hi : 0 ≤ i ∧ i < n 4) (hz : z < n 141) (d : decode cc pc = .ok (.putfield 91, 3)) (kk : Y x n α (up3 K 4 i 41 z) bc bs (pc + 3) lv st) : Y x n α K bc bs pc lv (refV α 141 z :: .ref (α 4 i) :: st) :=
  y_putF hE 41 41 (C := RX4) (T := TX4) (N := 42) (ci := 3) (by unfold kC; decide) rfl rfl rfl rfl in_X4 tyX4 tyX4_ok nmX4 (by decide) rfl q2772 (fun _ h => h) rfl hini rfl rfl rfl nar_ra.1 nar_ra.2 hi (fun _ => hz) d kk
theorem pX4_91r (hE : YE x cc RX4 ret nm nL RM) {i z : Int} (hini : nm = "<init>") (hi : 0 ≤ i ∧ i < n 4) (hz : 0 ≤ z ∧ z < n 141) (d : decode cc pc = .ok (.putfield 91, 3)) (kk : Y x n α (up3 K 4 i 41 z) bc bs (pc + 3) lv st) : Y x n α K bc bs pc lv (.ref (α 141 z) :: .ref (α 4 i) :: st) := by
  rw [← refV_s (α := α) (j := 141) hz.1]
  exact pX4_91 hE hini hi hz.2 d kk
theorem gX4_94 (hE : YE x cc RX4 ret nm nL RM) {i z : Int} (hi : 0 ≤ i ∧ i < n 4) (hz : K 4 i 25 = z) (d : decode cc pc = .ok (.getfield 94, 3)) (kk : Y x n α K bc bs (pc + 3) lv (.int (iI z) :: st)) : Y x n α K bc bs pc lv (.ref (α 4 i) :: st) :=
  y_get hE 25 25 (C := RX4) (T := TX4) (N := 42) (ci := 3) rfl rfl rfl rfl in_X4 (by decide) q2756 (fun _ h => h) hi d (by subst hz; exact kk)
theorem pX4_94 (hE : YE x cc RX4 ret nm nL RM) {i z : Int} (hi : 0 ≤ i ∧ i < n 4) (d : decode cc pc = .ok (.putfield 94, 3)) (kk : Y x n α (up3 K 4 i 25 z) bc bs (pc + 3) lv st) : Y x n α K bc bs pc lv (.int (iI z) :: .ref (α 4 i) :: st) :=
  y_put hE 25 25 (C := RX4) (T := TX4) (N := 42) (ci := 3) (by unfold kC; decide) rfl rfl rfl rfl in_X4 tyX4 tyX4_ok nmX4 (by decide) rfl q2756 (fun _ h => h) rfl rfl rfl rfl rfl hi (fun h => absurd h (by decide)) d kk
theorem gX4_107 (hE : YE x cc RX4 ret nm nL RM) {i z : Int} (hi : 0 ≤ i ∧ i < n 4) (hz : K 4 i 3 = z) (d : decode cc pc = .ok (.getfield 107, 3)) (kk : Y x n α K bc bs (pc + 3) lv (.int (iI z) :: st)) : Y x n α K bc bs pc lv (.ref (α 4 i) :: st) :=
  y_get hE 3 3 (C := RX4) (T := TX4) (N := 42) (ci := 3) rfl rfl rfl rfl in_X4 (by decide) q2734 (fun _ h => h) hi d (by subst hz; exact kk)
theorem pX4_107 (hE : YE x cc RX4 ret nm nL RM) {i z : Int} (hi : 0 ≤ i ∧ i < n 4) (d : decode cc pc = .ok (.putfield 107, 3)) (kk : Y x n α (up3 K 4 i 3 z) bc bs (pc + 3) lv st) : Y x n α K bc bs pc lv (.int (iI z) :: .ref (α 4 i) :: st) :=
  y_put hE 3 3 (C := RX4) (T := TX4) (N := 42) (ci := 3) (by unfold kC; decide) rfl rfl rfl rfl in_X4 tyX4 tyX4_ok nmX4 (by decide) rfl q2734 (fun _ h => h) rfl rfl rfl rfl rfl hi (fun h => absurd h (by decide)) d kk
theorem gX4_120 (hE : YE x cc RX4 ret nm nL RM) {i z : Int} (hi : 0 ≤ i ∧ i < n 4) (hz : K 4 i 8 = z) (d : decode cc pc = .ok (.getfield 120, 3)) (kk : Y x n α K bc bs (pc + 3) lv (.int (iI z) :: st)) : Y x n α K bc bs pc lv (.ref (α 4 i) :: st) :=
  y_get hE 8 8 (C := RX4) (T := TX4) (N := 42) (ci := 3) rfl rfl rfl rfl in_X4 (by decide) q2739 (fun _ h => h) hi d (by subst hz; exact kk)
theorem pX4_120 (hE : YE x cc RX4 ret nm nL RM) {i z : Int} (hi : 0 ≤ i ∧ i < n 4) (d : decode cc pc = .ok (.putfield 120, 3)) (kk : Y x n α (up3 K 4 i 8 z) bc bs (pc + 3) lv st) : Y x n α K bc bs pc lv (.int (iI z) :: .ref (α 4 i) :: st) :=
  y_put hE 8 8 (C := RX4) (T := TX4) (N := 42) (ci := 3) (by unfold kC; decide) rfl rfl rfl rfl in_X4 tyX4 tyX4_ok nmX4 (by decide) rfl q2739 (fun _ h => h) rfl rfl rfl rfl rfl hi (fun h => absurd h (by decide)) d kk
theorem gX4_128 (hE : YE x cc RX4 ret nm nL RM) {i z : Int} (hi : 0 ≤ i ∧ i < n 4) (hz : K 4 i 14 = z) (d : decode cc pc = .ok (.getfield 128, 3)) (kk : Y x n α K bc bs (pc + 3) lv (.int (iI z) :: st)) : Y x n α K bc bs pc lv (.ref (α 4 i) :: st) :=
  y_get hE 14 14 (C := RX4) (T := TX4) (N := 42) (ci := 3) rfl rfl rfl rfl in_X4 (by decide) q2745 (fun _ h => h) hi d (by subst hz; exact kk)
theorem pX4_128 (hE : YE x cc RX4 ret nm nL RM) {i z : Int} (hi : 0 ≤ i ∧ i < n 4) (d : decode cc pc = .ok (.putfield 128, 3)) (kk : Y x n α (up3 K 4 i 14 z) bc bs (pc + 3) lv st) : Y x n α K bc bs pc lv (.int (iI z) :: .ref (α 4 i) :: st) :=
  y_put hE 14 14 (C := RX4) (T := TX4) (N := 42) (ci := 3) (by unfold kC; decide) rfl rfl rfl rfl in_X4 tyX4 tyX4_ok nmX4 (by decide) rfl q2745 (fun _ h => h) rfl rfl rfl rfl rfl hi (fun h => absurd h (by decide)) d kk
theorem gX4_145 (hE : YE x cc RX4 ret nm nL RM) {i z : Int} (hi : 0 ≤ i ∧ i < n 4) (hz : K 4 i 19 = z) (d : decode cc pc = .ok (.getfield 145, 3)) (kk : Y x n α K bc bs (pc + 3) lv (.int (iI z) :: st)) : Y x n α K bc bs pc lv (.ref (α 4 i) :: st) :=
  y_get hE 19 19 (C := RX4) (T := TX4) (N := 42) (ci := 3) rfl rfl rfl rfl in_X4 (by decide) q2750 (fun _ h => h) hi d (by subst hz; exact kk)
theorem pX4_145 (hE : YE x cc RX4 ret nm nL RM) {i z : Int} (hi : 0 ≤ i ∧ i < n 4) (d : decode cc pc = .ok (.putfield 145, 3)) (kk : Y x n α (up3 K 4 i 19 z) bc bs (pc + 3) lv st) : Y x n α K bc bs pc lv (.int (iI z) :: .ref (α 4 i) :: st) :=
  y_put hE 19 19 (C := RX4) (T := TX4) (N := 42) (ci := 3) (by unfold kC; decide) rfl rfl rfl rfl in_X4 tyX4 tyX4_ok nmX4 (by decide) rfl q2750 (fun _ h => h) rfl rfl rfl rfl rfl hi (fun h => absurd h (by decide)) d kk
theorem gX4_159 (hE : YE x cc RX4 ret nm nL RM) {i z : Int} (hi : 0 ≤ i ∧ i < n 4) (hz : K 4 i 21 = z) (d : decode cc pc = .ok (.getfield 159, 3)) (kk : Y x n α K bc bs (pc + 3) lv (.int (iI z) :: st)) : Y x n α K bc bs pc lv (.ref (α 4 i) :: st) :=
  y_get hE 21 21 (C := RX4) (T := TX4) (N := 42) (ci := 3) rfl rfl rfl rfl in_X4 (by decide) q2752 (fun _ h => h) hi d (by subst hz; exact kk)
theorem pX4_159 (hE : YE x cc RX4 ret nm nL RM) {i z : Int} (hi : 0 ≤ i ∧ i < n 4) (d : decode cc pc = .ok (.putfield 159, 3)) (kk : Y x n α (up3 K 4 i 21 z) bc bs (pc + 3) lv st) : Y x n α K bc bs pc lv (.int (iI z) :: .ref (α 4 i) :: st) :=
  y_put hE 21 21 (C := RX4) (T := TX4) (N := 42) (ci := 3) (by unfold kC; decide) rfl rfl rfl rfl in_X4 tyX4 tyX4_ok nmX4 (by decide) rfl q2752 (fun _ h => h) rfl rfl rfl rfl rfl hi (fun h => absurd h (by decide)) d kk
theorem gX4_188 (hE : YE x cc RX4 ret nm nL RM) {i z : Int} (hi : 0 ≤ i ∧ i < n 4) (hz : K 4 i 24 = z) (d : decode cc pc = .ok (.getfield 188, 3)) (kk : Y x n α K bc bs (pc + 3) lv (.int (iI z) :: st)) : Y x n α K bc bs pc lv (.ref (α 4 i) :: st) :=
  y_get hE 24 24 (C := RX4) (T := TX4) (N := 42) (ci := 3) rfl rfl rfl rfl in_X4 (by decide) q2755 (fun _ h => h) hi d (by subst hz; exact kk)
theorem pX4_188 (hE : YE x cc RX4 ret nm nL RM) {i z : Int} (hi : 0 ≤ i ∧ i < n 4) (d : decode cc pc = .ok (.putfield 188, 3)) (kk : Y x n α (up3 K 4 i 24 z) bc bs (pc + 3) lv st) : Y x n α K bc bs pc lv (.int (iI z) :: .ref (α 4 i) :: st) :=
  y_put hE 24 24 (C := RX4) (T := TX4) (N := 42) (ci := 3) (by unfold kC; decide) rfl rfl rfl rfl in_X4 tyX4 tyX4_ok nmX4 (by decide) rfl q2755 (fun _ h => h) rfl rfl rfl rfl rfl hi (fun h => absurd h (by decide)) d kk
theorem gX4_191 (hE : YE x cc RX4 ret nm nL RM) {i z : Int} (hi : 0 ≤ i ∧ i < n 4) (hz : K 4 i 30 = z) (d : decode cc pc = .ok (.getfield 191, 3)) (kk : Y x n α K bc bs (pc + 3) lv (.int (iI z) :: st)) : Y x n α K bc bs pc lv (.ref (α 4 i) :: st) :=
  y_get hE 30 30 (C := RX4) (T := TX4) (N := 42) (ci := 3) rfl rfl rfl rfl in_X4 (by decide) q2761 (fun _ h => h) hi d (by subst hz; exact kk)
theorem pX4_191 (hE : YE x cc RX4 ret nm nL RM) {i z : Int} (hi : 0 ≤ i ∧ i < n 4) (d : decode cc pc = .ok (.putfield 191, 3)) (kk : Y x n α (up3 K 4 i 30 z) bc bs (pc + 3) lv st) : Y x n α K bc bs pc lv (.int (iI z) :: .ref (α 4 i) :: st) :=
  y_put hE 30 30 (C := RX4) (T := TX4) (N := 42) (ci := 3) (by unfold kC; decide) rfl rfl rfl rfl in_X4 tyX4 tyX4_ok nmX4 (by decide) rfl q2761 (fun _ h => h) rfl rfl rfl rfl rfl hi (fun h => absurd h (by decide)) d kk
theorem gX4_197 (hE : YE x cc RX4 ret nm nL RM) {i z : Int} (hi : 0 ≤ i ∧ i < n 4) (hz : K 4 i 31 = z) (d : decode cc pc = .ok (.getfield 197, 3)) (kk : Y x n α K bc bs (pc + 3) lv (.int (iI z) :: st)) : Y x n α K bc bs pc lv (.ref (α 4 i) :: st) :=
  y_get hE 31 31 (C := RX4) (T := TX4) (N := 42) (ci := 3) rfl rfl rfl rfl in_X4 (by decide) q2762 (fun _ h => h) hi d (by subst hz; exact kk)
theorem pX4_197 (hE : YE x cc RX4 ret nm nL RM) {i z : Int} (hi : 0 ≤ i ∧ i < n 4) (hz : z = 0 ∨ z = 1) (d : decode cc pc = .ok (.putfield 197, 3)) (kk : Y x n α (up3 K 4 i 31 z) bc bs (pc + 3) lv st) : Y x n α K bc bs pc lv (.int (iI z) :: .ref (α 4 i) :: st) :=
  y_put hE 31 31 (C := RX4) (T := TX4) (N := 42) (ci := 3) (by unfold kC; decide) rfl rfl rfl rfl in_X4 tyX4 tyX4_ok nmX4 (by decide) rfl q2762 (fun _ h => h) rfl rfl rfl (nar_b hz).1 (nar_b hz).2 hi (fun h => absurd h (by decide)) d kk
theorem gX4_208 (hE : YE x cc RX4 ret nm nL RM) {i z : Int} (hi : 0 ≤ i ∧ i < n 4) (hz : K 4 i 33 = z) (d : decode cc pc = .ok (.getfield 208, 3)) (kk : Y x n α K bc bs (pc + 3) lv (.int (iI z) :: st)) : Y x n α K bc bs pc lv (.ref (α 4 i) :: st) :=
  y_get hE 33 33 (C := RX4) (T := TX4) (N := 42) (ci := 3) rfl rfl rfl rfl in_X4 (by decide) q2764 (fun _ h => h) hi d (by subst hz; exact kk)
theorem pX4_208 (hE : YE x cc RX4 ret nm nL RM) {i z : Int} (hi : 0 ≤ i ∧ i < n 4) (d : decode cc pc = .ok (.putfield 208, 3)) (kk : Y x n α (up3 K 4 i 33 z) bc bs (pc + 3) lv st) : Y x n α K bc bs pc lv (.int (iI z) :: .ref (α 4 i) :: st) :=
  y_put hE 33 33 (C := RX4) (T := TX4) (N := 42) (ci := 3) (by unfold kC; decide) rfl rfl rfl rfl in_X4 tyX4 tyX4_ok nmX4 (by decide) rfl q2764 (fun _ h => h) rfl rfl rfl rfl rfl hi (fun h => absurd h (by decide)) d kk
theorem gX4_211 (hE : YE x cc RX4 ret nm nL RM) {i z : Int} (hi : 0 ≤ i ∧ i < n 4) (hz : K 4 i 32 = z) (d : decode cc pc = .ok (.getfield 211, 3)) (kk : Y x n α K bc bs (pc + 3) lv (.int (iI z) :: st)) : Y x n α K bc bs pc lv (.ref (α 4 i) :: st) :=
  y_get hE 32 32 (C := RX4) (T := TX4) (N := 42) (ci := 3) rfl rfl rfl rfl in_X4 (by decide) q2763 (fun _ h => h) hi d (by subst hz; exact kk)
theorem pX4_211 (hE : YE x cc RX4 ret nm nL RM) {i z : Int} (hi : 0 ≤ i ∧ i < n 4) (hz : z = 0 ∨ z = 1) (d : decode cc pc = .ok (.putfield 211, 3)) (kk : Y x n α (up3 K 4 i 32 z) bc bs (pc + 3) lv st) : Y x n α K bc bs pc lv (.int (iI z) :: .ref (α 4 i) :: st) :=
  y_put hE 32 32 (C := RX4) (T := TX4) (N := 42) (ci := 3) (by unfold kC; decide) rfl rfl rfl rfl in_X4 tyX4 tyX4_ok nmX4 (by decide) rfl q2763 (fun _ h => h) rfl rfl rfl (nar_b hz).1 (nar_b hz).2 hi (fun h => absurd h (by decide)) d kk
theorem gX4_214 (hE : YE x cc RX4 ret nm nL RM) {i z : Int} (hi : 0 ≤ i ∧ i < n 4) (hz : K 4 i 34 = z) (d : decode cc pc = .ok (.getfield 214, 3)) (kk : Y x n α K bc bs (pc + 3) lv (.int (iI z) :: st)) : Y x n α K bc bs pc lv (.ref (α 4 i) :: st) :=
  y_get hE 34 34 (C := RX4) (T := TX4) (N := 42) (ci := 3) rfl rfl rfl rfl in_X4 (by decide) q2765 (fun _ h => h) hi d (by subst hz; exact kk)
theorem pX4_214 (hE : YE x cc RX4 ret nm nL RM) {i z : Int} (hi : 0 ≤ i ∧ i < n 4) (d : decode cc pc = .ok (.putfield 214, 3)) (kk : Y x n α (up3 K 4 i 34 z) bc bs (pc + 3) lv st) : Y x n α K bc bs pc lv (.int (iI z) :: .ref (α 4 i) :: st) :=
  y_put hE 34 34 (C := RX4) (T := TX4) (N := 42) (ci := 3) (by unfold kC; decide) rfl rfl rfl rfl in_X4 tyX4 tyX4_ok nmX4 (by decide) rfl q2765 (fun _ h => h) rfl rfl rfl rfl rfl hi (fun h => absurd h (by decide)) d kk
theorem gX4_228 (hE : YE x cc RX4 ret nm nL RM) {i z : Int} (hi : 0 ≤ i ∧ i < n 4) (hz : K 4 i 35 = z) (d : decode cc pc = .ok (.getfield 228, 3)) (kk : Y x n α K bc bs (pc + 3) lv (.int (iI z) :: st)) : Y x n α K bc bs pc lv (.ref (α 4 i) :: st) :=
  y_get hE 35 35 (C := RX4) (T := TX4) (N := 42) (ci := 3) rfl rfl rfl rfl in_X4 (by decide) q2766 (fun _ h => h) hi d (by subst hz; exact kk)
theorem pX4_228 (hE : YE x cc RX4 ret nm nL RM) {i z : Int} (hi : 0 ≤ i ∧ i < n 4) (d : decode cc pc = .ok (.putfield 228, 3)) (kk : Y x n α (up3 K 4 i 35 z) bc bs (pc + 3) lv st) : Y x n α K bc bs pc lv (.int (iI z) :: .ref (α 4 i) :: st) :=
  y_put hE 35 35 (C := RX4) (T := TX4) (N := 42) (ci := 3) (by unfold kC; decide) rfl rfl rfl rfl in_X4 tyX4 tyX4_ok nmX4 (by decide) rfl q2766 (fun _ h => h) rfl rfl rfl rfl rfl hi (fun h => absurd h (by decide)) d kk
theorem gX4_231 (hE : YE x cc RX4 ret nm nL RM) {i z : Int} (hi : 0 ≤ i ∧ i < n 4) (hz : K 4 i 36 = z) (d : decode cc pc = .ok (.getfield 231, 3)) (kk : Y x n α K bc bs (pc + 3) lv (.int (iI z) :: st)) : Y x n α K bc bs pc lv (.ref (α 4 i) :: st) :=
  y_get hE 36 36 (C := RX4) (T := TX4) (N := 42) (ci := 3) rfl rfl rfl rfl in_X4 (by decide) q2767 (fun _ h => h) hi d (by subst hz; exact kk)
theorem pX4_231 (hE : YE x cc RX4 ret nm nL RM) {i z : Int} (hi : 0 ≤ i ∧ i < n 4) (d : decode cc pc = .ok (.putfield 231, 3)) (kk : Y x n α (up3 K 4 i 36 z) bc bs (pc + 3) lv st) : Y x n α K bc bs pc lv (.int (iI z) :: .ref (α 4 i) :: st) :=
  y_put hE 36 36 (C := RX4) (T := TX4) (N := 42) (ci := 3) (by unfold kC; decide) rfl rfl rfl rfl in_X4 tyX4 tyX4_ok nmX4 (by decide) rfl q2767 (fun _ h => h) rfl rfl rfl rfl rfl hi (fun h => absurd h (by decide)) d kk
theorem gX4_265 (hE : YE x cc RX4 ret nm nL RM) {i z : Int} (hi : 0 ≤ i ∧ i < n 4) (hz : K 4 i 40 = z) (d : decode cc pc = .ok (.getfield 265, 3)) (kk : Y x n α K bc bs (pc + 3) lv (.int (iI z) :: st)) : Y x n α K bc bs pc lv (.ref (α 4 i) :: st) :=
  y_get hE 40 40 (C := RX4) (T := TX4) (N := 42) (ci := 3) rfl rfl rfl rfl in_X4 (by decide) q2771 (fun _ h => h) hi d (by subst hz; exact kk)
theorem pX4_265 (hE : YE x cc RX4 ret nm nL RM) {i z : Int} (hi : 0 ≤ i ∧ i < n 4) (d : decode cc pc = .ok (.putfield 265, 3)) (kk : Y x n α (up3 K 4 i 40 z) bc bs (pc + 3) lv st) : Y x n α K bc bs pc lv (.int (iI z) :: .ref (α 4 i) :: st) :=
  y_put hE 40 40 (C := RX4) (T := TX4) (N := 42) (ci := 3) (by unfold kC; decide) rfl rfl rfl rfl in_X4 tyX4 tyX4_ok nmX4 (by decide) rfl q2771 (fun _ h => h) rfl rfl rfl rfl rfl hi (fun h => absurd h (by decide)) d kk
theorem gX5_9 (hE : YE x cc RX5 ret nm nL RM) {i z : Int} (hi : 0 ≤ i ∧ i < n 5) (hz : K 5 i 0 = z) (d : decode cc pc = .ok (.getfield 9, 3)) (kk : Y x n α K bc bs (pc + 3) lv (.int (iI z) :: st)) : Y x n α K bc bs pc lv (.ref (α 5 i) :: st) :=
  y_get hE 0 0 (C := RX5) (T := TX5) (N := 2) (ci := 4) rfl rfl rfl rfl in_X5 (by decide) q1947 (fun _ h => h) hi d (by subst hz; exact kk)
theorem pX5_9 (hE : YE x cc RX5 ret nm nL RM) {i z : Int} (hini : nm = "<init>") (hi : 0 ≤ i ∧ i < n 5) (d : decode cc pc = .ok (.putfield 9, 3)) (kk : Y x n α (up3 K 5 i 0 z) bc bs (pc + 3) lv st) : Y x n α K bc bs pc lv (.int (iI z) :: .ref (α 5 i) :: st) :=
  y_putF hE 0 0 (C := RX5) (T := TX5) (N := 2) (ci := 4) (by unfold kC; decide) rfl rfl rfl rfl in_X5 tyX5 tyX5_ok nmX5 (by decide) rfl q1947 (fun _ h => h) rfl hini rfl rfl rfl rfl rfl hi (fun h => absurd h (by decide)) d kk
theorem gX6_14 (hE : YE x cc RX6 ret nm nL RM) {i z : Int} (hi : 0 ≤ i ∧ i < n 6) (hz : K 6 i 2 = z) (d : decode cc pc = .ok (.getfield 14, 3)) (kk : z < n 26 → Y x n α K bc bs (pc + 3) lv (refV α 26 z :: st)) : Y x n α K bc bs pc lv (.ref (α 6 i) :: st) :=
  y_getv hE 2 2 (C := RX6) (T := TX6) (N := 3) (ci := 5) rfl rfl rfl rfl in_X6 (by decide) q2030 (fun _ h => h) hi d (by subst hz; exact kk)
theorem gX6_14r (hE : YE x cc RX6 ret nm nL RM) {i z : Int} (hi : 0 ≤ i ∧ i < n 6) (hz : K 6 i 2 = z) (h0 : 0 ≤ z) (d : decode cc pc = .ok (.getfield 14, 3)) (kk : 0 ≤ z ∧ z < n 26 → Y x n α K bc bs (pc + 3) lv (.ref (α 26 z) :: st)) : Y x n α K bc bs pc lv (.ref (α 6 i) :: st) :=
  gX6_14 hE hi hz d (fun h => y_ref h0 (kk ⟨h0, h⟩))
theorem pX6_14 (hE : YE x cc RX6 ret nm nL RM) {i z : Int} (hini : nm = "<init>") (hi : 0 ≤ i ∧ i < n 6) (hz : z < n 26) (d : decode cc pc = .ok (.putfield 14, 3)) (kk : Y x n α (up3 K 6 i 2 z) bc bs (pc + 3) lv st) : Y x n α K bc bs pc lv (refV α 26 z :: .ref (α 6 i) :: st) :=
  y_putF hE 2 2 (C := RX6) (T := TX6) (N := 3) (ci := 5) (by unfold kC; decide) rfl rfl rfl rfl in_X6 tyX6 tyX6_ok nmX6 (by decide) rfl q2030 (fun _ h => h) rfl hini rfl rfl rfl nar_r.1 nar_r.2 hi (fun _ => hz) d kk
theorem pX6_14r (hE : YE x cc RX6 ret nm nL RM) {i z : Int} (hini : nm = "<init>") (hi : 0 ≤ i ∧ i < n 6) (hz : 0 ≤ z ∧ z < n 26) (d : decode cc pc = .ok (.putfield 14, 3)) (kk : Y x n α (up3 K 6 i 2 z) bc bs (pc + 3) lv st) : Y x n α K bc bs pc lv (.ref (α 26 z) :: .ref (α 6 i) :: st) := by
  rw [← refV_s (α := α) (j := 26) hz.1]
  exact pX6_14 hE hini hi hz.2 d kk
theorem pX6_20 (hE : YE x cc RX6 ret nm nL RM) {i z : Int} (hini : nm = "<init>") (hi : 0 ≤ i ∧ i < n 6) (d : decode cc pc = .ok (.putfield 20, 3)) (kk : Y x n α (up3 K 6 i 0 z) bc bs (pc + 3) lv st) : Y x n α K bc bs pc lv (.int (iI z) :: .ref (α 6 i) :: st) :=
  y_putF hE 0 0 (C := RX6) (T := TX6) (N := 3) (ci := 5) (by unfold kC; decide) rfl rfl rfl rfl in_X6 tyX6 tyX6_ok nmX6 (by decide) rfl q2023 (fun _ h => h) rfl hini rfl rfl rfl rfl rfl hi (fun h => absurd h (by decide)) d kk
theorem gX6_24 (hE : YE x cc RX6 ret nm nL RM) {i z : Int} (hi : 0 ≤ i ∧ i < n 6) (hz : K 6 i 1 = z) (d : decode cc pc = .ok (.getfield 24, 3)) (kk : Y x n α K bc bs (pc + 3) lv (.int (iI z) :: st)) : Y x n α K bc bs pc lv (.ref (α 6 i) :: st) :=
  y_get hE 1 1 (C := RX6) (T := TX6) (N := 3) (ci := 5) rfl rfl rfl rfl in_X6 (by decide) q2026 (fun _ h => h) hi d (by subst hz; exact kk)
theorem pX6_24 (hE : YE x cc RX6 ret nm nL RM) {i z : Int} (hini : nm = "<init>") (hi : 0 ≤ i ∧ i < n 6) (d : decode cc pc = .ok (.putfield 24, 3)) (kk : Y x n α (up3 K 6 i 1 z) bc bs (pc + 3) lv st) : Y x n α K bc bs pc lv (.int (iI z) :: .ref (α 6 i) :: st) :=
  y_putF hE 1 1 (C := RX6) (T := TX6) (N := 3) (ci := 5) (by unfold kC; decide) rfl rfl rfl rfl in_X6 tyX6 tyX6_ok nmX6 (by decide) rfl q2026 (fun _ h => h) rfl hini rfl rfl rfl rfl rfl hi (fun h => absurd h (by decide)) d kk
theorem gX6_37 (hE : YE x cc RX6 ret nm nL RM) {i z : Int} (hi : 0 ≤ i ∧ i < n 7) (hz : K 7 i 0 = z) (d : decode cc pc = .ok (.getfield 37, 3)) (kk : Y x n α K bc bs (pc + 3) lv (.int (iI z) :: st)) : Y x n α K bc bs pc lv (.ref (α 7 i) :: st) :=
  y_getN hE 0 0 (C := RX7) (T := TX7) (N := 2) (ci := 6) rfl rfl rfl rfl in_X7 (by decide) q2059 (fun _ h => h) hi d (by subst hz; exact kk)
theorem pX7_7 (hE : YE x cc RX7 ret nm nL RM) {i z : Int} (hini : nm = "<init>") (hi : 0 ≤ i ∧ i < n 7) (d : decode cc pc = .ok (.putfield 7, 3)) (kk : Y x n α (up3 K 7 i 0 z) bc bs (pc + 3) lv st) : Y x n α K bc bs pc lv (.int (iI z) :: .ref (α 7 i) :: st) :=
  y_putF hE 0 0 (C := RX7) (T := TX7) (N := 2) (ci := 6) (by unfold kC; decide) rfl rfl rfl rfl in_X7 tyX7 tyX7_ok nmX7 (by decide) rfl q2058 (fun _ h => h) rfl hini rfl rfl rfl rfl rfl hi (fun h => absurd h (by decide)) d kk
theorem pX7_13 (hE : YE x cc RX7 ret nm nL RM) {i z : Int} (hini : nm = "<init>") (hi : 0 ≤ i ∧ i < n 7) (d : decode cc pc = .ok (.putfield 13, 3)) (kk : Y x n α (up3 K 7 i 1 z) bc bs (pc + 3) lv st) : Y x n α K bc bs pc lv (.int (iI z) :: .ref (α 7 i) :: st) :=
  y_putF hE 1 1 (C := RX7) (T := TX7) (N := 2) (ci := 6) (by unfold kC; decide) rfl rfl rfl rfl in_X7 tyX7 tyX7_ok nmX7 (by decide) rfl q2061 (fun _ h => h) rfl hini rfl rfl rfl rfl rfl hi (fun h => absurd h (by decide)) d kk
theorem gX9_7 (hE : YE x cc RX9 ret nm nL RM) {i z : Int} (htg : K 8 i 9 = 0) (hi : 0 ≤ i ∧ i < n 8) (hz : K 8 i 0 = z) (d : decode cc pc = .ok (.getfield 7, 3)) (kk : z < n 6 → Y x n α K bc bs (pc + 3) lv (refV α 6 z :: st)) : Y x n α K bc bs pc lv (.ref (α 8 i) :: st) :=
  y_getv hE 0 0 (C := RX9) (T := TX9) (N := 1) (ci := 7) (kD_clip htg) rfl rfl rfl in_X9 (by decide) q2108 (fun _ h => h) hi d (by subst hz; exact kk)
theorem gX9_7r (hE : YE x cc RX9 ret nm nL RM) {i z : Int} (htg : K 8 i 9 = 0) (hi : 0 ≤ i ∧ i < n 8) (hz : K 8 i 0 = z) (h0 : 0 ≤ z) (d : decode cc pc = .ok (.getfield 7, 3)) (kk : 0 ≤ z ∧ z < n 6 → Y x n α K bc bs (pc + 3) lv (.ref (α 6 z) :: st)) : Y x n α K bc bs pc lv (.ref (α 8 i) :: st) :=
  gX9_7 hE htg hi hz d (fun h => y_ref h0 (kk ⟨h0, h⟩))
theorem pX9_7 (hE : YE x cc RX9 ret nm nL RM) {i z : Int} (htg : K 8 i 9 = 0) (hini : nm = "<init>") (hi : 0 ≤ i ∧ i < n 8) (hz : z < n 6) (d : decode cc pc = .ok (.putfield 7, 3)) (kk : Y x n α (up3 K 8 i 0 z) bc bs (pc + 3) lv st) : Y x n α K bc bs pc lv (refV α 6 z :: .ref (α 8 i) :: st) :=
  y_putF hE 0 0 (C := RX9) (T := TX9) (N := 1) (ci := 7) (by unfold kC; decide) (kD_clip htg) rfl rfl rfl in_X9 tyX9 tyX9_ok nmX9 (by decide) rfl q2108 (fun _ h => h) rfl hini rfl rfl rfl nar_r.1 nar_r.2 hi (fun _ => hz) d kk
theorem pX9_7r (hE : YE x cc RX9 ret nm nL RM) {i z : Int} (htg : K 8 i 9 = 0) (hini : nm = "<init>") (hi : 0 ≤ i ∧ i < n 8) (hz : 0 ≤ z ∧ z < n 6) (d : decode cc pc = .ok (.putfield 7, 3)) (kk : Y x n α (up3 K 8 i 0 z) bc bs (pc + 3) lv st) : Y x n α K bc bs pc lv (.ref (α 6 z) :: .ref (α 8 i) :: st) := by
  rw [← refV_s (α := α) (j := 6) hz.1]
  exact pX9_7 hE htg hini hi hz.2 d kk
theorem gX9_13 (hE : YE x cc RX9 ret nm nL RM) {i z : Int} (hi : 0 ≤ i ∧ i < n 6) (hz : K 6 i 0 = z) (d : decode cc pc = .ok (.getfield 13, 3)) (kk : Y x n α K bc bs (pc + 3) lv (.int (iI z) :: st)) : Y x n α K bc bs pc lv (.ref (α 6 i) :: st) :=
  y_getN hE 0 0 (C := RX6) (T := TX6) (N := 3) (ci := 5) rfl rfl rfl rfl in_X6 (by decide) q2024 (fun _ h => h) hi d (by subst hz; exact kk)
end KFIELDS
