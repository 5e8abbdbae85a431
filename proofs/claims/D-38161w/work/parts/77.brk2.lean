/-! what is broken, all together -/
def brk (a b c d : Bool) : Int32 := bI a + (if b then 2 else 0) + (if c then 4 else 0) + (if d then 8 else 0)
theorem brk_1 (a b c d x : Bool) : brk a b c d ||| (if x = false then 0 else 1) = brk (a || x) b c d := by cases a <;> cases b <;> cases c <;> cases d <;> cases x <;> decide
theorem brk_2 (a b c d x : Bool) : brk a b c d ||| (if x = false then 0 else 2) = brk a (b || x) c d := by cases a <;> cases b <;> cases c <;> cases d <;> cases x <;> decide
theorem brk_4 (a b c d x : Bool) : brk a b c d ||| (if x = false then 4 else 0) = brk a b (c || !x) d := by cases a <;> cases b <;> cases c <;> cases d <;> cases x <;> decide
theorem brk_8 (a b c d x : Bool) : brk a b c d ||| (if x = false then 0 else 8) = brk a b c (d || x) := by cases a <;> cases b <;> cases c <;> cases d <;> cases x <;> decide
def pr1 (f : Nat → Nat → Bool) (k : Nat) : Nat → Bool
  | 0 => false
  | o + 1 => pr1 f k o || f k o
def pr2 (f : Nat → Nat → Bool) : Nat → Bool
  | 0 => false
  | k + 1 => pr2 f k || pr1 f k k
def mG (Ms : List PM) (k : Nat) : PM := (Ms[k]?).getD m0
theorem mG_e {Ms : List PM} {k : Nat} {M : PM} (h : Ms[k]? = some M) : mG Ms k = M := by unfold mG; rw [h]; rfl
def twoF (Ms : List PM) (k o : Nat) : Bool := areTwoB (mG Ms k) (mG Ms o)
def difF (Ms : List PM) (k o : Nat) : Bool := differB (mG Ms k) (mG Ms o)
def fenF (R : List PR) (k o : Nat) : Bool := fencedB (hG R k) (hG R o)
def apUp (R : List PR) : Nat → Bool
  | 0 => false
  | k + 1 => apUp R k || !LIN (hUp R k R.length) 0 0
def prUp (f : Nat → Nat → Bool) (k o : Nat) : Bool := pr2 f k || pr1 f k o
theorem prUp_s (f : Nat → Nat → Bool) (k o : Nat) : prUp f k (o + 1) = (prUp f k o || f k o) := by unfold prUp; show (pr2 f k || (pr1 f k o || f k o)) = _; rw [Bool.or_assoc]
theorem prUp_0 (f : Nat → Nat → Bool) (k : Nat) : prUp f k 0 = pr2 f k := by unfold prUp; show (pr2 f k || false) = _; rw [Bool.or_false]
theorem prUp_n (f : Nat → Nat → Bool) (k : Nat) : prUp f k k = pr2 f (k + 1) := rfl
/-- what breaks() tells of a net -/
def brkN (P : PN) : Int32 := brk (pr2 (twoF (nM P)) (nM P).length) (pr2 (difF (nM P)) (nM P).length) (apUp (nR P) 4) (pr2 (fenF (nR P)) (nR P).length)
