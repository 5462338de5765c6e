set_option linter.unusedVariables false
/-! ===== what both sides stand for: a store shaped like the reference's arrays (key: the field's number; scalars at place 0; 0: m) ===== -/
abbrev SS : Type := Nat → Int → Int
def up2 (S : SS) (f : Nat) (j v : Int) : SS := fun f' j' => if f' = f ∧ j' = j then v else S f' j'
theorem up2_s (S : SS) (f : Nat) (j v : Int) : up2 S f j v f j = v := by simp [up2]
theorem up2_f (S : SS) {f f' : Nat} (j v j' : Int) (h : f' ≠ f) : up2 S f j v f' j' = S f' j' := by simp [up2, h]
theorem up2_j (S : SS) (f f' : Nat) {j j' : Int} (v : Int) (h : j' ≠ j) : up2 S f j v f' j' = S f' j' := by simp [up2, h]
/-- parameters -/
def RepPar (S : SS) (n : KN) (K : KS) : Prop := K 1 0 0 = 0 ∧ n 20 = 1 ∧ n 50 = 1 ∧ K 20 0 1 = 0 ∧ K 50 0 (-1) = 8 ∧ K 20 0 2 = S 3 0 ∧ n 5 = S 3 0 ∧
  ∀ p : Int, 0 ≤ p → p < S 3 0 → K 50 0 p = p ∧ K 5 p 0 = S 2 p ∧ K 5 p 1 = S 0 p
/-- clips, their events -/
def RepClip (S : SS) (n : KN) (K : KS) : Prop := K 1 0 1 = 0 ∧ n 21 = 1 ∧ n 51 = 1 ∧ K 21 0 1 = 0 ∧ K 51 0 (-1) = 12 ∧ K 21 0 2 = S 8 0 ∧ n 6 = S 8 0 ∧ n 26 = S 8 0 ∧ n 56 = S 8 0 ∧
  ∀ c : Int, 0 ≤ c → c < S 8 0 → K 51 0 c = c ∧ K 6 c 0 = c ∧ K 6 c 1 = S 4 c ∧ K 6 c 2 = c ∧ K 26 c 1 = c ∧ K 56 c (-1) = 5 ∧ K 26 c 2 = S 5 c ∧
    ∀ k : Int, 0 ≤ k → k < S 5 c → 0 ≤ K 56 c k ∧ K 7 (K 56 c k) 0 = S 6 (5 * c + k) ∧ K 7 (K 56 c k) 1 = S 7 (5 * c + k)
/-- nodes -/
def RepNode (S : SS) (n : KN) (K : KS) : Prop := K 1 0 2 = 0 ∧ n 22 = 1 ∧ n 52 = 1 ∧ K 22 0 1 = 0 ∧ K 52 0 (-1) = 20 ∧ K 22 0 2 = S 14 0 ∧ n 8 = S 14 0 ∧ n 41 = n 42 ∧
  (∀ j : Int, 0 ≤ j → j < S 14 0 → K 52 0 j = j ∧ (S 9 j ≠ -1 → K 8 j 9 = 0 ∧ K 8 j 0 = S 9 j) ∧
    (S 9 j = -1 → K 8 j 9 ≠ 0 ∧ K 8 j 0 = S 10 j ∧ K 8 j 3 = S 11 j ∧ K 8 j 2 = K 8 j 1 ∧ 0 ≤ K 8 j 1 ∧ K 41 (K 8 j 1) (-1) = 5 ∧ K 42 (K 8 j 1) (-1) = 5 ∧
      (∀ k : Int, 0 ≤ k → k + 1 < S 11 j → K 41 (K 8 j 1) k < K 41 (K 8 j 1) (k + 1)) ∧
      (∀ k : Int, 0 ≤ k → k < S 11 j → ∃ q : Int, 0 ≤ q ∧ q < S 11 j ∧ K 41 (K 8 j 1) k = S 13 (5 * j + q) ∧ K 42 (K 8 j 1) k = S 12 (5 * j + q)) ∧
      (∀ q : Int, 0 ≤ q → q < S 11 j → ∃ k : Int, 0 ≤ k ∧ k < S 11 j ∧ K 41 (K 8 j 1) k = S 13 (5 * j + q) ∧ K 42 (K 8 j 1) k = S 12 (5 * j + q)))) ∧
  (∀ i j : Int, 0 ≤ i → i < S 14 0 → 0 ≤ j → j < S 14 0 → S 9 i = -1 → S 9 j = -1 → K 8 i 1 = K 8 j 1 → i = j)
/-- states -/
def RepState (S : SS) (n : KN) (K : KS) : Prop := K 1 0 3 = 0 ∧ n 23 = 1 ∧ n 53 = 1 ∧ K 23 0 1 = 0 ∧ K 53 0 (-1) = 10 ∧ K 23 0 2 = S 19 0 ∧ n 11 = S 19 0 ∧
  ∀ s : Int, 0 ≤ s → s < S 19 0 → K 53 0 s = s ∧ K 11 s 0 = s ∧ K 11 s 1 = S 15 s ∧ K 11 s 2 = S 16 s ∧ K 11 s 3 = S 17 s ∧ K 11 s 4 = S 18 s
/-- a transition object x and the 17 numbers from b on -/
def RepTr1 (S : SS) (K : KS) (x b : Int) : Prop := 0 ≤ x ∧ K 14 x 0 = S 20 b ∧ K 14 x 1 = S 20 (b + 1) ∧ K 14 x 2 = S 20 (b + 2) ∧ K 14 x 3 = S 20 (b + 3) ∧ K 14 x 4 = S 20 (b + 4) ∧ K 14 x 5 = S 20 (b + 5) ∧ K 14 x 6 = S 20 (b + 6) ∧
  K 14 x 7 = x ∧ K 14 x 8 = S 20 (b + 7) ∧ K 40 x (-1) = 3 ∧
  ∀ k : Int, 0 ≤ k → k < S 20 (b + 7) → 0 ≤ K 40 x k ∧ K 15 (K 40 x k) 0 = S 20 (b + 8 + 3 * k) ∧ 0 ≤ K 15 (K 40 x k) 1 ∧ K 16 (K 15 (K 40 x k) 1) 9 = S 20 (b + 9 + 3 * k) ∧ K 16 (K 15 (K 40 x k) 1) 0 = S 20 (b + 10 + 3 * k) ∧ K 16 (K 15 (K 40 x k) 1) (-1) = 1
def RepTrans (S : SS) (n : KN) (K : KS) : Prop := K 1 0 4 = 0 ∧ n 24 = 1 ∧ n 54 = 1 ∧ K 24 0 1 = 0 ∧ K 54 0 (-1) = 24 ∧ K 24 0 2 = S 21 0 ∧ n 40 = n 14 ∧
  (∀ t : Int, 0 ≤ t → t < S 21 0 → RepTr1 S K (K 54 0 t) (17 * t)) ∧
  (∀ t u : Int, 0 ≤ t → t < S 21 0 → 0 ≤ u → u < S 21 0 → K 54 0 t = K 54 0 u → t = u)
/-- a byte as the JVM has it -/
def sgn8 (z : Int) : Int := if z < 128 then z else z - 256
/-- the text -/
def RepText (S : SS) (n : KN) (K : KS) : Prop := K 1 0 12 = 0 ∧ n 28 = 1 ∧ n 58 = 1 ∧ K 28 0 0 = 0 ∧ K 58 0 (-1) = 150 ∧ K 28 0 1 = 0 ∧ K 28 0 3 = S 24 0 ∧
  ∀ j : Int, 0 ≤ j → j < S 24 0 → K 58 0 j = sgn8 (S 23 j)
/-- the controller's own: threshold, work space; poses -/
def RepCtl (S : SS) (n : KN) (K : KS) : Prop := n 1 = 1 ∧ K 1 0 5 = S 22 0 ∧ K 1 0 7 = 0 ∧ K 1 0 8 = 0 ∧ K 1 0 9 = 1 ∧ K 1 0 10 = 2 ∧ K 1 0 11 = 0 ∧ n 3 = 3 ∧ n 34 = 3 ∧
  (∀ b : Int, 0 ≤ b → b < 3 → K 3 b 0 = b ∧ K 3 b 1 = 0 ∧ K 34 b (-1) = 12) ∧
  1 ≤ n 2 ∧ n 31 = n 2 ∧ n 32 = n 2 ∧ n 33 = n 2 ∧ (∀ p : Int, 0 ≤ p → p < n 2 → K 2 p 0 = p ∧ K 2 p 1 = p ∧ K 2 p 2 = p ∧ K 31 p (-1) = 40 ∧ K 32 p (-1) = 40 ∧ K 33 p (-1) = 40)
/-- a pose: entries of clip, time, weight -/
abbrev SP : Type := List (Int × Int × Int)
def RepPose (P : SP) (K : KS) (p : Int) : Prop := K 2 p 3 = P.length ∧ ∀ (k : Nat) (e : Int × Int × Int), P[k]? = some e → K 31 p k = e.1 ∧ K 32 p k = e.2.1 ∧ K 33 p k = e.2.2
/-- a track against four numbers of m -/
def RepTk (n : KN) (K : KS) (t : Int) (μ : Int → Int) (b : Int) : Prop := 0 ≤ t ∧ t < n 13 ∧ K 13 t 0 = μ b ∧ K 13 t 1 = μ (b + 1) ∧ K 13 t 2 = μ (b + 2) ∧ K 13 t 3 = μ (b + 3)
/-- a machine against a slice of m (8 IN, 9 X, 10 ELAPSED, 11 CUTS, 12 A, 16 B, 20 FROZEN, 21 MANY, 22 F, 166 EVENTS, 167 E, 287 TICKS, 288 FIRED) -/
def RepMc (n : KN) (K : KS) (mi : Int) (μ : Int → Int) : Prop := 0 ≤ mi ∧ mi < n 12 ∧ RepTk n K (K 12 mi 0) μ 12 ∧
  (μ 8 = 0 ∧ K 12 mi 1 < 0 ∧ K 12 mi 2 = -1 ∧ K 12 mi 3 = 0 ∧ K 12 mi 4 = 0 ∧ K 12 mi 5 = 0 ∨
   μ 8 = 1 ∧ RepTk n K (K 12 mi 1) μ 16 ∧ K 12 mi 1 ≠ K 12 mi 0 ∧ K 12 mi 2 = μ 9 ∧ K 12 mi 3 = μ 10 ∧ K 12 mi 4 = μ 11 ∧ K 12 mi 5 = μ 20) ∧
  0 < K 12 mi 6 ∧ K 12 mi 6 < n 2 ∧ (μ 8 = 1 → μ 20 = 1 → K 2 (K 12 mi 6) 3 = μ 21 ∧ ∀ k : Int, 0 ≤ k → k < μ 21 → K 31 (K 12 mi 6) k = μ (22 + 3 * k) ∧ K 32 (K 12 mi 6) k = μ (23 + 3 * k) ∧ K 33 (K 12 mi 6) k = μ (24 + 3 * k)) ∧
  K 12 mi 7 = mi ∧ K 35 mi (-1) = 120 ∧ K 12 mi 8 = μ 166 ∧ (∀ j : Int, 0 ≤ j → j < 4 * μ 166 → K 35 mi j = μ (167 + j)) ∧ K 12 mi 9 = μ 288 ∧ K 12 mi 10 = μ 287 ∧
  K 12 mi 11 = mi ∧ K 36 mi (-1) = 48 ∧ K 12 mi 12 = mi ∧ K 37 mi (-1) = 48 ∧ K 12 mi 14 = 0
/-- the machines: as many of each array; each machine's own frozen pose -/
def RepMs (n : KN) (K : KS) : Prop := n 35 = n 12 ∧ n 36 = n 12 ∧ n 37 = n 12 ∧ n 2 = n 12 + 1 ∧ ∀ m : Int, 0 ≤ m → m < n 12 → K 12 m 6 = m + 1
/-- the reference's object: its arrays, their lengths -/
def mLen : Nat → Int
  | 0 => 1160 | 1 => 2 | 2 => 8 | 4 => 12 | 5 => 12 | 6 => 60 | 7 => 60 | 9 => 20 | 10 => 20 | 11 => 20 | 12 => 100 | 13 => 100 | 15 => 10 | 16 => 10 | 17 => 10 | 18 => 10 | 20 => 408 | 23 => 150
  | 26 => 20 | 27 => 12 | 28 => 32 | 29 => 32 | 37 => 72 | 38 => 72 | 39 => 72 | 41 => 10
  | _ => 0
/-- the reference's object is there -/
def MObj (n : KN) (K : KS) : Prop := n 4 = 1 ∧ ∀ f : Nat, 0 < mLen f → n (100 + f) = 1 ∧ K 4 0 f = 0 ∧ K (100 + f) 0 (-1) = mLen f
/-- the fields that last -/
def mKeeps (f : Nat) : Bool := mLen f ≠ 0 && f < 26
def MRep (S : SS) (n : KN) (K : KS) : Prop := MObj n K ∧ (∀ f : Nat, mKeeps f = true → ∀ j : Int, 0 ≤ j → j < mLen f → K (100 + f) 0 j = S f j) ∧
  K 4 0 3 = S 3 0 ∧ K 4 0 8 = S 8 0 ∧ K 4 0 14 = S 14 0 ∧ K 4 0 19 = S 19 0 ∧ K 4 0 21 = S 21 0 ∧ K 4 0 22 = S 22 0 ∧ K 4 0 24 = S 24 0
