set_option linter.unusedVariables false
/-- an attribute is read: which; fine; the new scalars; what is added -/
def atW (Z : SS) (b : Int) : Int := if hI Z b 64 = 1 then 0 else if hI Z b 43 = 1 then 1 else if hI Z b 33 = 1 then 2 else if hI Z b 111 = 1 then 3 else if hI Z b 63 = 1 then 4 else 5
def pw2 (k : Int) : Int := if k = 0 then 1 else if k = 1 then 2 else if k = 2 then 4 else 8
def at1 (Z : SS) (pa we co : Int) : Int := if atW Z pa < 4 then (if we / pw2 (atW Z pa) % 2 = 0 then 1 else 0) else if atW Z pa = 4 ∧ co < 3 then 1 else 0
def atM (Z : SS) (pa : Int) : Int := if atW Z pa = 0 then 300 else if atW Z pa = 1 then 99 else 4
def atF (Z : SS) (pa we co : Int) : Int := if at1 Z pa we co = 0 then 0 else if atW Z pa = 4 then cdF Z (pa + 1) else if atW Z pa = 3 then 1 else nuF Z (pa + 1) 1 (atM Z pa)
def atA (Z : SS) (pa we co : Int) : Int := if at1 Z pa we co = 0 then pa else if atW Z pa = 4 then cdA Z (pa + 1) else if atW Z pa = 3 then pa + 1 else nuA Z (pa + 1) 1 (atM Z pa)
def atN (Z : SS) (pa we co nu : Int) : Int := if at1 Z pa we co = 0 then nu else if atW Z pa = 4 then cdN Z (pa + 1) nu else if atW Z pa = 3 then nu else nuV Z (pa + 1) 1
def atE (Z : SS) (pa we co : Int) : Int := if at1 Z pa we co = 0 then we else we + (if atW Z pa < 4 then pw2 (atW Z pa) else 0)
def atC (Z : SS) (pa we co : Int) : Int := if at1 Z pa we co = 0 then co else if atW Z pa = 4 then co + 1 else co
def atQ (Z Q : SS) (pa we co : Int) : SS := if at1 Z pa we co = 0 then Q else if atW Z pa = 4 then cdQ Z Q (pa + 1) else if atW Z pa = 3 then up2 Q 20 (17 * (Q 21 0 - 1) + 6) 1 else if nuF Z (pa + 1) 1 (atM Z pa) = 1 then up2 Q 20 (17 * (Q 21 0 - 1) + (3 + atW Z pa)) (nuV Z (pa + 1) 1) else Q
theorem atW_in (Z : SS) (b : Int) : 0 ≤ atW Z b ∧ atW Z b ≤ 5 := by unfold atW; (repeat' split) <;> omega
theorem atW_ln {Z : SS} {b : Int} (h : atW Z b < 5) : b < Z 24 0 := by
  unfold atW at h
  (repeat' split at h) <;> first | omega | (rename_i q; exact (hI_ln q).1)
theorem at1_01 (Z : SS) (pa we co : Int) : at1 Z pa we co = 0 ∨ at1 Z pa we co = 1 := by unfold at1; (repeat' split) <;> omega
theorem pw2_in {k : Int} (h : 0 ≤ k ∧ k < 4) : (k = 0 ∧ pw2 k = 1) ∨ (k = 1 ∧ pw2 k = 2) ∨ (k = 2 ∧ pw2 k = 4) ∨ (k = 3 ∧ pw2 k = 8) := by unfold pw2; (repeat' split) <;> omega
theorem bit_shr {we k : Int} (hw : 0 ≤ we ∧ we ≤ 15) (hk : 0 ≤ k ∧ k < 4) : iI we >>> (iI k &&& 31) = iI (we / pw2 k) := by
  obtain ⟨a, rfl⟩ : ∃ a : Nat, we = a := ⟨we.toNat, by omega⟩
  obtain ⟨b, rfl⟩ : ∃ b : Nat, k = b := ⟨k.toNat, by omega⟩
  have h : ∀ a : Fin 16, ∀ b : Fin 4, iI ((a.val : Nat) : Int) >>> (iI ((b.val : Nat) : Int) &&& 31) = iI (((a.val : Nat) : Int) / pw2 ((b.val : Nat) : Int)) := by decide +kernel
  exact h ⟨a, by omega⟩ ⟨b, by omega⟩
theorem bit_and {z : Int} (h : 0 ≤ z ∧ z ≤ 15) : iI z &&& iI 1 = iI (z % 2) := by
  obtain ⟨a, rfl⟩ : ∃ a : Nat, z = a := ⟨z.toNat, by omega⟩
  have h : ∀ a : Fin 16, iI ((a.val : Nat) : Int) &&& iI 1 = iI (((a.val : Nat) : Int) % 2) := by decide +kernel
  exact h ⟨a, by omega⟩
theorem bit_shl {k : Int} (hk : 0 ≤ k ∧ k < 4) : iI 1 <<< (iI k &&& 31) = iI (pw2 k) := by
  obtain ⟨b, rfl⟩ : ∃ b : Nat, k = b := ⟨k.toNat, by omega⟩
  have h : ∀ b : Fin 4, iI 1 <<< (iI ((b.val : Nat) : Int) &&& 31) = iI (pw2 ((b.val : Nat) : Int)) := by decide +kernel
  exact h ⟨b, by omega⟩
theorem bit_or {we k m : Int} (hw : 0 ≤ we ∧ we ≤ 15) (hm : (0 ≤ k ∧ k < 4 ∧ we / pw2 k % 2 = 0 ∧ m = pw2 k) ∨ m = 0) : iI we ||| iI m = iI (we + m) := by
  obtain ⟨a, rfl⟩ : ∃ a : Nat, we = a := ⟨we.toNat, by omega⟩
  rcases hm with ⟨h1, h2, h3, rfl⟩ | rfl
  · obtain ⟨b, rfl⟩ : ∃ b : Nat, k = b := ⟨k.toNat, by omega⟩
    have h : ∀ a : Fin 16, ∀ b : Fin 4, ((a.val : Nat) : Int) / pw2 ((b.val : Nat) : Int) % 2 = 0 → iI ((a.val : Nat) : Int) ||| iI (pw2 ((b.val : Nat) : Int)) = iI (((a.val : Nat) : Int) + pw2 ((b.val : Nat) : Int)) := by decide +kernel
    exact h ⟨a, by omega⟩ ⟨b, by omega⟩ h3
  · have h : ∀ a : Fin 16, iI ((a.val : Nat) : Int) ||| iI 0 = iI (((a.val : Nat) : Int) + 0) := by decide +kernel
    exact h ⟨a, by omega⟩
theorem atE_in {Z : SS} {pa we co : Int} (hw : 0 ≤ we ∧ we ≤ 15) : 0 ≤ atE Z pa we co ∧ atE Z pa we co ≤ 15 := by
  have h1 := atW_in Z pa
  unfold atE
  split
  · exact hw
  · rename_i e
    unfold at1 at e
    split
    · rename_i q
      rw [if_pos q] at e
      have h2 := pw2_in (k := atW Z pa) (by omega)
      rcases h2 with ⟨z, h2⟩ | ⟨z, h2⟩ | ⟨z, h2⟩ | ⟨z, h2⟩ <;> rw [h2] at e ⊢ <;> (split at e <;> omega)
    · omega
theorem atC_in {Z : SS} {pa we co : Int} (hc : 0 ≤ co ∧ co ≤ 3) : 0 ≤ atC Z pa we co ∧ atC Z pa we co ≤ 3 := by
  unfold atC
  split
  · exact hc
  · rename_i e
    unfold at1 at e
    split
    · rename_i q
      rw [if_neg (by omega)] at e
      split at e <;> omega
    · exact hc
theorem atA_in {Z : SS} (hW : WFs Z) {pa we co : Int} (h : 0 ≤ pa ∧ pa ≤ Z 24 0) : pa ≤ atA Z pa we co ∧ atA Z pa we co ≤ Z 24 0 ∧ (atF Z pa we co = 1 → pa < atA Z pa we co) ∧ (atF Z pa we co = 0 ∨ atF Z pa we co = 1) := by
  unfold atA atF
  by_cases e : at1 Z pa we co = 0
  · rw [if_pos e, if_pos e]; omega
  · rw [if_neg e, if_neg e]
    have hl : pa < Z 24 0 := atW_ln (by
      unfold at1 at e
      split at e
      · omega
      · split at e <;> omega)
    have a1 := cdA_in hW (pa := pa + 1) (by omega)
    have a2 := nuA_in (Z := Z) (pa := pa + 1) (fi := 1) (m := atM Z pa) (by omega)
    have a3 := cdF_01 Z (pa + 1)
    have a4 := nuF_01 Z (pa + 1) 1 (atM Z pa)
    by_cases e4 : atW Z pa = 4
    · rw [if_pos e4, if_pos e4]; omega
    · rw [if_neg e4, if_neg e4]
      by_cases e3 : atW Z pa = 3
      · rw [if_pos e3, if_pos e3]; omega
      · rw [if_neg e3, if_neg e3]; omega
theorem zif_at {ad : Int} {Q S S2 : SS} (h2 : ad = 1 → S2 = Q) (h3 : ad ≠ 1 → S2 = S) : zif ad Q S = S2 := by
  unfold zif
  split
  · rename_i e; exact (h2 e).symm
  · rename_i e; exact (h3 e).symm
