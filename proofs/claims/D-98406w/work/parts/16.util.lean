/-! ===== small rows and the words of the specification ===== -/
set_option maxRecDepth 100000
theorem gx_lit (n : Nat) : (OfNat.ofNat n : Int32) = nI n := rfl
theorem gx_iincc {G : gxG} {Y : gxY} {d kc ks pc : Nat} {ls : List (Option Value)} {st : List Value} {h : gxH} {Q : Outcome → gxH → Prop} {i : Nat} {n : Int} {x c : Int32} (hd : decode Y.2.1 pc = .ok (.iinc i n, 3)) (hl : ls[i]? = some (some (.int x))) (hc : Int32.ofInt n = c) (hn : i < Y.2.2.1) (ok : gxok ls i = true) (kk : gxV G Y d kc ks (pc + 3) (ls.set i (some (.int (x + c)))) st h Q) : gxV G Y d kc ks pc ls st h Q :=
  gx_iinc hd hl (by rw [hc]) hn ok kk
def zi (b : Bool) : Int32 := if b then 1 else 0
theorem zi_01 (b : Bool) : zi b = 0 ∨ zi b = 1 := by cases b <;> simp [zi]
theorem zi_t {b : Bool} (h : b = true) : zi b = 1 := by rw [h]; rfl
theorem zi_f {b : Bool} (h : b = false) : zi b = 0 := by rw [h]; rfl
/-- the bit k of a set -/
def hs (x k : Int32) : Bool := decide ((x >>> (k &&& 31)) &&& 1 = 1)
/-- how many that count know it -/
def spKn (cnt : Nat → Bool) (set : Int32) : Nat → Int32
  | 0 => 0
  | p + 1 => spKn cnt set p + zi (hs set (nI p) && cnt p)
