/-! what the model computes, over its row r -/
def mv (r : Nat → Int32) (i : Nat) : Nat → Int32 := fun s => r (4 * i + s)
def mw (r : Nat → Int32) : Nat → Int32 := fun s => r (161 + s)
def mle (r : Nat → Int32) : Nat → Int32 := fun s => r (165 + s)
def mgr (r : Nat → Int32) : Nat → Int32 := fun s => r (169 + s)
def mwe (r : Nat → Int32) : Nat → Int32 := fun s => r (173 + s)
def inB (v a b : Int32) : Bool := decide (a ≤ v) && decide (v ≤ b)
def noB (n : Nat) (x : Int32) : Bool := !inB x (nI 0) (nI n - nI 1)
def goodI (w f : Nat → Int32) (s : Nat) : Int32 := if w s = nI 1 then f s else nI 99 - f s
def matB (w : Nat → Int32) (s : Nat) : Bool := decide (w s < nI 2)
def orB (p : Nat → Bool) : Nat → Int32
  | 0 => nI 0
  | n + 1 => orB p n ||| (if p n then nI 1 <<< (nI n &&& 31) else nI 0)
def matI (w : Nat → Int32) : Int32 := orB (matB w) 4
def hasB (x : Int32) (s : Nat) : Bool := decide ((x >>> (nI s &&& 31)) &&& nI 1 = nI 1)
def couB (le gr f : Nat → Int32) : Bool := allB (fun s => inB (f s) (le s) (gr s)) 4
/-- on how many sides of P f is better than h -/
def betN (w f h : Nat → Int32) (P : Nat → Bool) : Nat := cnt (fun s => P s && decide (goodI w h s < goodI w f s)) 4
def beyB (w f h : Nat → Int32) (P : Nat → Bool) : Bool := decide (betN w h f P = 0) && decide (0 < betN w f h P)
def cB (r : Nat → Int32) (k : Nat) : Bool := couB (mle r) (mgr r) (mv r k)
def eB (r : Nat → Int32) (P : Nat → Bool) (i j : Nat) : Bool := beyB (mw r) (mv r i) (mv r j) P
def beatB (r : Nat → Int32) (i j : Nat) : Bool := cB r i && cB r j && eB r (hasB (matI (mw r))) i j
def tellB (r : Nat → Int32) (N : Nat) (P : Nat → Bool) (k : Nat) : Bool := cB r k && allB (fun j => !cB r j || !eB r P j k) N
def isTB (r : Nat → Int32) (N k : Nat) : Bool := cB r k && allB (fun j => !beatB r j k) N
theorem betN_le (w f h : Nat → Int32) (P : Nat → Bool) : betN w f h P ≤ 4 := cnt_le _ _
theorem v_f {b : Bool} (h : b = false) : some (Value.int (nI 0)) = some (Value.int (bI b)) := by rw [h]; rfl
theorem v_t {b : Bool} (h : b = true) : some (Value.int (nI 1)) = some (Value.int (bI b)) := by rw [h]; rfl
theorem v_n {a b : Nat} (h : a = b) : some (Value.int (nI a)) = some (Value.int (nI b)) := by rw [h]
theorem v_i {a b : Int32} (h : a = b) : some (Value.int a) = some (Value.int b) := by rw [h]
theorem nlt_of_le {a b : Int32} (h : a ≤ b) : ¬ b < a := by rw [Int32.lt_iff_toInt_lt]; rw [Int32.le_iff_toInt_le] at h; omega
theorem nle_of_lt {a b : Int32} (h : a < b) : ¬ b ≤ a := by rw [Int32.le_iff_toInt_le]; rw [Int32.lt_iff_toInt_lt] at h; omega
theorem le_of_nlt {a b : Int32} (h : ¬ b < a) : a ≤ b := by rw [Int32.lt_iff_toInt_lt] at h; rw [Int32.le_iff_toInt_le]; omega
theorem lt_of_nle {a b : Int32} (h : ¬ b ≤ a) : a < b := by rw [Int32.le_iff_toInt_le] at h; rw [Int32.lt_iff_toInt_lt]; omega
theorem cnt_t {p : Nat → Bool} {k v : Nat} (hv : v = cnt p k) (h : p k = true) : v + 1 = cnt p (k + 1) := by rw [hv]; simp [cnt, h]
theorem cnt_f {p : Nat → Bool} {k v : Nat} (hv : v = cnt p k) (h : p k = false) : v + 0 = cnt p (k + 1) := by rw [hv]; simp [cnt, h]
theorem allB_s {p : Nat → Bool} {k : Nat} (hv : allB p k = true) (h : p k = true) : allB p (k + 1) = true := by simp [allB, hv, h]
