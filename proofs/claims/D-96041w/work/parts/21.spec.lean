/-! THE TOWN AS A ROW OF NUMBERS, AND WHAT IT DOES: no program in sight -/
abbrev tv_ : Type := Nat → Int32
def sm_ (f : Nat → Int32) : Nat → Int32
  | 0 => nI 0
  | k + 1 => sm_ f k + f k
/-- how many sorts, rules, weeks remembered; a sort's kind and figure; a rule's kind and span -/
def sN (v : tv_) : Nat := (v 0).toNatClampNeg
def rN (v : tv_) : Nat := (v 1).toNatClampNeg
def wN (v : tv_) : Nat := (v 4).toNatClampNeg
def kd_ (v : tv_) (s : Nat) : Nat := (v (10 + 6 * s + 1)).toNatClampNeg
def fg_ (v : tv_) (s : Nat) : Nat := (v (10 + 6 * s + 2)).toNatClampNeg
def rk_ (v : tv_) (r : Nat) : Nat := (v (40 + 3 * r)).toNatClampNeg
def rs_ (v : tv_) (r : Nat) : Nat := (v (40 + 3 * r + 1)).toNatClampNeg
def so_ok (v : tv_) (s : Nat) : Prop := (∃ m, 1 ≤ m ∧ m ≤ 9 ∧ v (10 + 6 * s) = nI m) ∧ v (10 + 6 * s + 1) = nI (kd_ v s) ∧ kd_ v s < 6 ∧ v (10 + 6 * s + 2) = nI (fg_ v s) ∧ fg_ v s ≤ 9 ∧ ((kd_ v s = 2 ∨ kd_ v s = 3) → fg_ v s < rN v)
def ru_ok (v : tv_) (r : Nat) : Prop := v (40 + 3 * r) = nI (rk_ v r) ∧ rk_ v r < 6 ∧ v (40 + 3 * r + 1) = nI (rs_ v r) ∧ 1 ≤ rs_ v r ∧ rs_ v r ≤ 6
def wf_ (v : tv_) : Prop := v 0 = nI (sN v) ∧ sN v ≤ 4 ∧ v 1 = nI (rN v) ∧ rN v ≤ 6 ∧ v 4 = nI (wN v) ∧ wN v ≤ 8 ∧ (∃ c, c ≤ 60 ∧ v 2 = nI c) ∧ (∀ s, s < sN v → so_ok v s) ∧ (∀ r, r < rN v → ru_ok v r) ∧ ∀ k, k < wN v → ∃ m, m ≤ 1000 ∧ v (60 + k) = nI m
def pe_ (v : tv_) : Int32 := sm_ (fun s => v (10 + 6 * s)) (sN v)
def ag_ (v : tv_) (k : Nat) : Int32 := if k ≤ wN v then v (60 + (k - 1)) else v 2
def fo_ (v : tv_) (kind sp : Nat) : Int32 := match kind with
  | 0 => ag_ v sp
  | 1 => mx_ (nI 0) (pe_ v - ag_ v sp)
  | 2 => sm_ (fun k => ag_ v (k + 1)) sp / nI sp
  | 3 => mx_ (nI 0) (nI 2 * ag_ v 1 - ag_ v sp)
  | 4 => mx_ (nI 0) (sm_ (fun k => ag_ v (k + 1)) sp / nI sp - nI sp)
  | _ => nI 10 * nI sp
/-- the rule r foretells room -/
def ro_ (v : tv_) (r : Nat) : Bool := decide (fo_ v (rk_ v r) (rs_ v r) ≤ v 2)
def ha_ (v : tv_) (f : Nat) : Nat → Nat
  | 0 => f
  | i + 1 => if v (40 + 3 * ha_ v f i + 2) < v (40 + 3 * (f + 1 + i) + 2) then f + 1 + i else ha_ v f i
def hat_ (v : tv_) (f : Nat) : Nat := ha_ v f (rN v - (f + 1))
/-- whether a sort goes, if it isn't of those who go last -/
def gk_ (v : tv_) (s : Nat) : Bool := match kd_ v s with
  | 0 => true
  | 2 => ro_ v (fg_ v s)
  | 3 => ro_ v (hat_ v (fg_ v s))
  | 4 => decide (v 3 - v 3 / (nI (fg_ v s) + nI 1) * (nI (fg_ v s) + nI 1) = nI 0)
  | _ => false
def p1_ (v : tv_) : Nat → Int32
  | 0 => nI 0
  | s + 1 => p1_ v s + (if gk_ v s = true then v (10 + 6 * s) else nI 0)
def p2_ (v : tv_) : Nat → Int32
  | 0 => p1_ v (sN v)
  | s + 1 => if kd_ v s = 5 then p2_ v s + (if p2_ v s + v (10 + 6 * s) ≤ v 2 then v (10 + 6 * s) else nI 0) else p2_ v s
/-- how many go next; whether the sort s does -/
def pr_ (v : tv_) : Int32 := p2_ v (sN v)
def gf_ (v : tv_) (s : Nat) : Bool := if kd_ v s = 5 then decide (p2_ v s + v (10 + 6 * s) ≤ v 2) else gk_ v s
/-- a week is remembered; rules are found right; a week goes by -/
def re_ (v : tv_) (p : Int32) : tv_ := fun j => if j = 4 then nI (if wN v < 8 then wN v + 1 else 8) else if j = 60 then p else if 60 < j ∧ j < 68 then v (j - 1) else v j
def ri_ (v : tv_) : tv_ := fun j => if 40 ≤ j ∧ j < 40 + 3 * rN v ∧ (j - 40) % 3 = 2 then v j + (if ro_ v ((j - 40) / 3) = decide (pr_ v ≤ v 2) then nI 1 else nI 0) else v j
def wk_ (v : tv_) : tv_ := fun j => if j = 3 then v 3 + nI 1 else re_ (ri_ v) (pr_ v) j
/-- what it is worth to go, so many being present -/
def wg_ (v : tv_) (s : Nat) (p : Int32) : Int32 := (if p ≤ v 2 then v (10 + 6 * s + 3) else v (10 + 6 * s + 4)) - v 5
def wo_ (v : tv_) (s : Nat) (p : Int32) : Int32 := if gf_ v s = true then wg_ v s p else v (10 + 6 * s + 5)
