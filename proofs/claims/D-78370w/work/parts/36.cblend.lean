set_option linter.unusedVariables false
section KABS
variable {x : YX} {cc : ByteArray} {own nm : String} {ret : Option FieldType} {nL : Nat} {RM : Room} {n : KN} {α : KA} {K : KS} {bc bs pc : Nat} {lv : List (Nat × Value)} {st : List Value}
variable {y : MethodName} {b : ByteArray} {L index nA : Nat} {r0 : Option FieldType} {rm : Room} {rt : Nat × Nat} {As rest : List Value} {post : Int → KN → KA → KS → Prop} {bc' bs' : Nat}
/-- a call whose named method is abstract -/
theorem y_callA (hE : YE x cc own ret nm nL RM) {kd : Nat} {i : Int} (hM : KM (yW x) y b L r0 rm rt (.ref (α kd i) :: As) n α K post) {C owner : String} {xm : MethodName} (hlk : Cond.methodLink own index xm ∈ lw_all) (hsame : Cond.sameMethod xm.cls owner xm.name xm.desc ∈ lw_all) (hse : Cond.selects C xm y ∈ lw_all) (hin : Cond.instanceMethod y ∈ lw_all) (hini : Cond.initialized y.cls ∈ lw_all) (hco : Cond.code y b L r0 ∈ lw_all) (hdec : Cond.declares ⟨owner, xm.name, xm.desc⟩ ∈ lw_tbl)
    (hd : owner ≠ "java/lang/invoke/MethodHandle" ∧ owner ≠ "java/lang/invoke/VarHandle" ∧ (parseMethodDescriptor xm.desc).map (fun d => d.parameters.length) = some nA) (hn : As.length = nA) (hrm : rm.frames + 1 ≤ RM.frames ∧ 8 + (L + 11) + rm.locals ≤ RM.locals)
    {ci : Nat} {codes : List (Nat × Nat)} {q : vw_C} (hdd : kD K kd i = .inl (ci, codes)) (hcc : kCl[ci]? = some q) (hq : q.1 = C) (hi : 0 ≤ i ∧ i < n kd)
    (hst : st = As.reverse ++ .ref (α kd i) :: rest) (hW : (rest.map fun v => v.category).sum ≤ 8) (d : decode cc pc = .ok (.invokevirtual index, 3)) (hb : bc' + rm.cells ≤ bc) (hb2 : bs' + rm.slots ≤ bs)
    (k : ∀ (r : Int) (n' : KN) (α' : KA) (K' : KS), Ext n α n' α' → post r n' α' K' → Y x n' α' K' bc' bs' (pc + 3) lv ((retV α' rt r).toList ++ rest)) : Y x n α K bc bs pc lv st := by
  obtain ⟨hx, hcb, hml, hown, hts, -, -, -, hRM, hnL, hl, hW0, hI0⟩ := id hE
  refine y_run hE (a := (Value.ref (α kd i) :: As).toArray) (fun H locs cells slots ls hR hS hsz hf => ?_) hb hb2 k
  subst hst
  subst hq
  have hrec := cr_recv hE hR hS hi hdd hcc
  rw [hRM] at hf ⊢
  have hM' : Met x.2.1 y (ws_ y b L r0) rm (kP (yW x) n α K (.ref (α kd i) :: As)) (kQ (yW x) n α rt post) rm.cells rm.slots (kA (yW x)) := by rw [hl]; exact hM
  have hT : GoodIn lw_all (va_wsU own index q.1 owner xm y (ws_ y b L r0)) := by
    refine lw_app (fun w hw => ?_) (lw_meth hco)
    simp only [List.mem_cons, List.not_mem_nil, or_false] at hw
    rcases hw with rfl | rfl | rfl | rfl | rfl <;> assumption
  exact va_runU ⟨hx, hcb, hml, hown, hts⟩ hM' (va_cwA nA hts hT rfl rfl rfl (va_Nw.warmD hI0.2.2 (va_Nw.of rfl (hW0.2.1 _ hdec))) hd hrm) ⟨kP_blind, hrec, kP_at hE hR hS⟩ rfl hn hsz rfl (lv_room hW) d hf
end KABS
set_option maxHeartbeats 4000000 in
set_option maxRecDepth 100000 in
theorem m_X3_clear {w : KW} {n : KN} {α : KA} {K : KS} (S : SS) (b : Int) (hR : Rst S n K) (hb : 0 ≤ b ∧ b < 3) : KM w yX3_clear cX3_clear 2 none { frames := 0, cells := 0, slots := 0, locals := 0 } (3, 0) [.ref (α 3 b)] n α K (fun r n' α' K' => n = n' ∧ α = α' ∧ KF K K' (fun k i f => k = 34 ∧ i = (b) ∧ 0 ≤ f) ∧ (∀ c : Int, 0 ≤ c → c < 12 → K' 34 b c = 0)) := by
  refine y_start (by decide) (Nat.le_of_ble_eq_true rfl) (fun x hE hQ => ?_)
  have hw := hQ.2
  subst hw
  have hE : YE x cX3_clear RX3 none "clear" 2 { frames := 0, cells := 0, slots := 0, locals := 0 } := hE
  refine y_wk (fun hWK => ?_)
  have hn0 := hWK.1
  refine y_bud (bc' := 0) (bs' := 0) (Nat.le_refl _) (Nat.le_refl _) ?_
  refine y_to (lv' := [(0, .ref (α 3 b))]) (st' := []) rfl rfl rfl ?_
  have hfoot : ∀ (k : Nat) (i f : Int), (fun k i f => k = 34 ∧ i = (b) ∧ 0 ≤ f) k i f → ¬ SKd k f := fun k i f z => by unfold SKd; (try dsimp only at z); omega
  have hn3 := hR.n3
  have hn34 := hR.n34
  have lb : (0 : Int) ≤ b ∧ b < n 3 := by omega
  refine y_iconst hE dX3_clear_0 ?_
  refine y_istore_n hE rfl [(1, .int (iI 0)), (0, .ref (α 3 b))] (by decide) rfl dX3_clear_1 ?_
  have L2 : ∀ (fuel : Nat) (K2 : KS) (c : Int), (KF K K2 (fun k i f => k = 34 ∧ i = b ∧ 0 ≤ f)) → (0 ≤ c ∧ c ≤ 12) → (∀ j : Int, 0 ≤ j → j < c → K2 34 b j = 0) → (12 - c).toNat < fuel → Y x n α K2 0 0 2 [(1, .int (iI c)), (0, .ref (α 3 b))] [] := by
    intro fuel2
    induction fuel2 with
    | zero => intro K2 c hk2 hc hz hfu2; exact absurd hfu2 (Nat.not_lt_zero _)
    | succ fuel2 ih2 =>
      intro K2 c hk2 hc hz hfu2
      refine y_iload_n hE rfl 0 rfl dX3_clear_2 ?_
      refine y_bipush hE (by decide) dX3_clear_3 ?_
      refine y_icmp_ge hE 21 (by decide) (by omega) (by omega) dX3_clear_5 (fun c_5 => ?_) (fun c_5 => ?_)
      · exact y_vret (r := 0) hE rfl hQ dX3_clear_21 Ext.rf ⟨rfl, rfl, hk2, fun c' h0 h1 => hz c' h0 (by omega)⟩
      · refine y_aload_n hE rfl 1 rfl dX3_clear_8 ?_
        refine gX3_15r (z := b) hE lb ((hk2 3 b 0 (by (try dsimp only); omega)).trans (hR.b0 (i := b) (by omega))) (by omega) dX3_clear_9 (fun hl_9 => ?_)
        refine y_iload_n hE rfl 0 rfl dX3_clear_12 ?_
        refine y_iconst hE dX3_clear_13 ?_
        refine y_iast hE (by unfold kC; decide) rfl (by simp [kTag]) hl_9 (by have hL : K2 34 b (-1) = 12 := ((hk2 34 b (-1) (by (try dsimp only); omega)).trans (hR.b34 (i := b) (by omega))); omega) dX3_clear_14 ?_
        refine y_iinc hE 0 rfl [(1, .int (iI (c + 1))), (0, .ref (α 3 b))] (by decide) rfl dX3_clear_15 ?_
        refine y_goto hE 2 (by decide) dX3_clear_18 ?_
        exact ih2 (up3 K2 34 b c 0) (c + 1) ((KF.up hk2 (by (try dsimp only); omega))) (by omega) (fun j j0 j1 => by by_cases e : j = c; (subst e; rw [up3_s]); (rw [up3_f _ _ _ _ _ _ e]; exact hz j j0 (by omega))) (by omega)
  exact L2 _ K 0 (KF.rf) (by omega) (fun j j0 j1 => by omega) (Nat.lt_succ_self _)
set_option maxHeartbeats 4000000 in
set_option maxRecDepth 100000 in
theorem m_X3_add {w : KW} {n : KN} {α : KA} {K : KS} (S : SS) (b c wg : Int) (hR : Rst S n K) (hb : 0 ≤ b ∧ b < 3) (hc : 0 ≤ c ∧ c < 12) : KM w yX3_add cX3_add 3 none { frames := 0, cells := 0, slots := 0, locals := 0 } (3, 0) [.ref (α 3 b), .int (iI c), .int (iI wg)] n α K (fun r n' α' K' => n = n' ∧ α = α' ∧ KF K K' (fun k i f => k = 34 ∧ i = (b) ∧ 0 ≤ f) ∧ (K' 34 b c = K 34 b c + wg ∧ ∀ j : Int, j ≠ c → K' 34 b j = K 34 b j)) := by
  refine y_start (by decide) (Nat.le_of_ble_eq_true rfl) (fun x hE hQ => ?_)
  have hw := hQ.2
  subst hw
  have hE : YE x cX3_add RX3 none "add" 3 { frames := 0, cells := 0, slots := 0, locals := 0 } := hE
  refine y_wk (fun hWK => ?_)
  have hn0 := hWK.1
  refine y_bud (bc' := 0) (bs' := 0) (Nat.le_refl _) (Nat.le_refl _) ?_
  refine y_to (lv' := [(0, .ref (α 3 b)), (1, .int (iI c)), (2, .int (iI wg))]) (st' := []) rfl rfl rfl ?_
  have hfoot : ∀ (k : Nat) (i f : Int), (fun k i f => k = 34 ∧ i = (b) ∧ 0 ≤ f) k i f → ¬ SKd k f := fun k i f z => by unfold SKd; (try dsimp only at z); omega
  have hn3 := hR.n3
  have hn34 := hR.n34
  have lb : (0 : Int) ≤ b ∧ b < n 3 := by omega
  refine y_aload_n hE rfl 0 rfl dX3_add_0 ?_
  refine gX3_15r (z := b) hE lb (hR.b0 (i := b) (by omega)) (by omega) dX3_add_1 (fun hl_1 => ?_)
  refine y_iload_n hE rfl 1 rfl dX3_add_4 ?_
  refine y_dup2 hE rfl rfl dX3_add_5 ?_
  refine y_iald hE rfl hl_1 (by have hL : K 34 b (-1) = 12 := (hR.b34 (i := b) (by omega)); omega) dX3_add_6 ?_
  refine y_iload_n hE rfl 2 rfl dX3_add_7 ?_
  refine y_iadd hE dX3_add_8 ?_
  refine y_iast hE (by unfold kC; decide) rfl (by simp [kTag]) hl_1 (by have hL : K 34 b (-1) = 12 := (hR.b34 (i := b) (by omega)); omega) dX3_add_9 ?_
  exact y_vret (r := 0) hE rfl hQ dX3_add_10 Ext.rf ⟨rfl, rfl, (KF.up KF.rf (by (try dsimp only); omega)), up3_s _ _ _ _ _, fun j h => up3_f _ _ _ _ _ _ h⟩
theorem y_node_blend {x : YX} {cc : ByteArray} {own nm : String} {ret : Option FieldType} {nL : Nat} {RM : Room} {n : KN} {α : KA} {K : KS} {bc bs pc index : Nat} {lv : List (Nat × Value)} {st As rest : List Value} {post : Int → KN → KA → KS → Prop} {f9 l9 f10 l10 : Nat} (hE : YE x cc own ret nm nL RM) {i : Int} (hi : 0 ≤ i ∧ i < n 8)
    (h9 : K 8 i 9 = 0 → KM (yW x) yX9_blend cX9_blend 3 none { frames := f9, cells := 0, slots := 0, locals := l9 } (3, 0) (.ref (α 8 i) :: As) n α K post) (h10 : K 8 i 9 ≠ 0 → KM (yW x) yX10_blend cX10_blend 7 none { frames := f10, cells := 0, slots := 0, locals := l10 } (3, 0) (.ref (α 8 i) :: As) n α K post)
    (hlk : Cond.methodLink own index ⟨"AnimationController$Node", "blend", "(LAnimationController$Blend;I)V"⟩ ∈ lw_all) (hn : As.length = 2) (hrm9 : f9 + 1 ≤ RM.frames ∧ 8 + (3 + 11) + l9 ≤ RM.locals) (hrm10 : f10 + 1 ≤ RM.frames ∧ 8 + (7 + 11) + l10 ≤ RM.locals)
    (hst : st = As.reverse ++ .ref (α 8 i) :: rest) (hW : (rest.map fun v => v.category).sum ≤ 8) (d : decode cc pc = .ok (.invokevirtual index, 3))
    (k : ∀ (r : Int) (n' : KN) (α' : KA) (K' : KS), Ext n α n' α' → post r n' α' K' → Y x n' α' K' bc bs (pc + 3) lv ((retV α' (3, 0) r).toList ++ rest)) : Y x n α K bc bs pc lv st := by
  by_cases h : K 8 i 9 = 0
  · exact y_callA hE (h9 h) (owner := "AnimationController$Node") (xm := ⟨"AnimationController$Node", "blend", "(LAnimationController$Blend;I)V"⟩) hlk q858 q859 q860 q142 q861 q857 (nA := 2) (by decide +kernel) hn hrm9 (ci := 7) (codes := [(2, 6)]) (by simp [kD, h]) rfl rfl hi hst hW d (Nat.le_refl _) (Nat.le_refl _) k
  · exact y_callA hE (h10 h) (owner := "AnimationController$Node") (xm := ⟨"AnimationController$Node", "blend", "(LAnimationController$Blend;I)V"⟩) hlk q858 q866 q867 q143 q868 q857 (nA := 2) (by decide +kernel) hn hrm10 (ci := 8) (codes := [(2, 5), (2, 41), (2, 42), (0, 0)]) (by simp [kD, h]) rfl rfl hi hst hW d (Nat.le_refl _) (Nat.le_refl _) k
theorem y_node_isComplete {x : YX} {cc : ByteArray} {own nm : String} {ret : Option FieldType} {nL : Nat} {RM : Room} {n : KN} {α : KA} {K : KS} {bc bs pc index : Nat} {lv : List (Nat × Value)} {st As rest : List Value} {post : Int → KN → KA → KS → Prop} {f9 l9 f10 l10 : Nat} (hE : YE x cc own ret nm nL RM) {i : Int} (hi : 0 ≤ i ∧ i < n 8)
    (h9 : K 8 i 9 = 0 → KM (yW x) yX9_isComplete cX9_isComplete 1 (some .boolean) { frames := f9, cells := 0, slots := 0, locals := l9 } (0, 0) (.ref (α 8 i) :: As) n α K post) (h10 : K 8 i 9 ≠ 0 → KM (yW x) yX10_isComplete cX10_isComplete 1 (some .boolean) { frames := f10, cells := 0, slots := 0, locals := l10 } (0, 0) (.ref (α 8 i) :: As) n α K post)
    (hlk : Cond.methodLink own index ⟨"AnimationController$Node", "isComplete", "()Z"⟩ ∈ lw_all) (hn : As.length = 0) (hrm9 : f9 + 1 ≤ RM.frames ∧ 8 + (1 + 11) + l9 ≤ RM.locals) (hrm10 : f10 + 1 ≤ RM.frames ∧ 8 + (1 + 11) + l10 ≤ RM.locals)
    (hst : st = As.reverse ++ .ref (α 8 i) :: rest) (hW : (rest.map fun v => v.category).sum ≤ 8) (d : decode cc pc = .ok (.invokevirtual index, 3))
    (k : ∀ (r : Int) (n' : KN) (α' : KA) (K' : KS), Ext n α n' α' → post r n' α' K' → Y x n' α' K' bc bs (pc + 3) lv ((retV α' (0, 0) r).toList ++ rest)) : Y x n α K bc bs pc lv st := by
  by_cases h : K 8 i 9 = 0
  · exact y_callA hE (h9 h) (owner := "AnimationController$Node") (xm := ⟨"AnimationController$Node", "isComplete", "()Z"⟩) hlk q2161 q2162 q2163 q142 q2164 q2160 (nA := 0) (by decide +kernel) hn hrm9 (ci := 7) (codes := [(2, 6)]) (by simp [kD, h]) rfl rfl hi hst hW d (Nat.le_refl _) (Nat.le_refl _) k
  · exact y_callA hE (h10 h) (owner := "AnimationController$Node") (xm := ⟨"AnimationController$Node", "isComplete", "()Z"⟩) hlk q2161 q2165 q2166 q143 q2167 q2160 (nA := 0) (by decide +kernel) hn hrm10 (ci := 8) (codes := [(2, 5), (2, 41), (2, 42), (0, 0)]) (by simp [kD, h]) rfl rfl hi hst hW d (Nat.le_refl _) (Nat.le_refl _) k
theorem y_node_depth {x : YX} {cc : ByteArray} {own nm : String} {ret : Option FieldType} {nL : Nat} {RM : Room} {n : KN} {α : KA} {K : KS} {bc bs pc index : Nat} {lv : List (Nat × Value)} {st As rest : List Value} {post : Int → KN → KA → KS → Prop} {f9 l9 f10 l10 : Nat} (hE : YE x cc own ret nm nL RM) {i : Int} (hi : 0 ≤ i ∧ i < n 8)
    (h9 : K 8 i 9 = 0 → KM (yW x) yX9_depth cX9_depth 1 (some .int) { frames := f9, cells := 0, slots := 0, locals := l9 } (0, 0) (.ref (α 8 i) :: As) n α K post) (h10 : K 8 i 9 ≠ 0 → KM (yW x) yX10_depth cX10_depth 3 (some .int) { frames := f10, cells := 0, slots := 0, locals := l10 } (0, 0) (.ref (α 8 i) :: As) n α K post)
    (hlk : Cond.methodLink own index ⟨"AnimationController$Node", "depth", "()I"⟩ ∈ lw_all) (hn : As.length = 0) (hrm9 : f9 + 1 ≤ RM.frames ∧ 8 + (1 + 11) + l9 ≤ RM.locals) (hrm10 : f10 + 1 ≤ RM.frames ∧ 8 + (3 + 11) + l10 ≤ RM.locals)
    (hst : st = As.reverse ++ .ref (α 8 i) :: rest) (hW : (rest.map fun v => v.category).sum ≤ 8) (d : decode cc pc = .ok (.invokevirtual index, 3))
    (k : ∀ (r : Int) (n' : KN) (α' : KA) (K' : KS), Ext n α n' α' → post r n' α' K' → Y x n' α' K' bc bs (pc + 3) lv ((retV α' (0, 0) r).toList ++ rest)) : Y x n α K bc bs pc lv st := by
  by_cases h : K 8 i 9 = 0
  · exact y_callA hE (h9 h) (owner := "AnimationController$Node") (xm := ⟨"AnimationController$Node", "depth", "()I"⟩) hlk q2178 q2179 q2180 q142 q2181 q2177 (nA := 0) (by decide +kernel) hn hrm9 (ci := 7) (codes := [(2, 6)]) (by simp [kD, h]) rfl rfl hi hst hW d (Nat.le_refl _) (Nat.le_refl _) k
  · exact y_callA hE (h10 h) (owner := "AnimationController$Node") (xm := ⟨"AnimationController$Node", "depth", "()I"⟩) hlk q2178 q2182 q2183 q143 q2184 q2177 (nA := 0) (by decide +kernel) hn hrm10 (ci := 8) (codes := [(2, 5), (2, 41), (2, 42), (0, 0)]) (by simp [kD, h]) rfl rfl hi hst hW d (Nat.le_refl _) (Nat.le_refl _) k
