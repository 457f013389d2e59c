/-! the model's state, put anew; rows that say what a word is -/
section MST
variable {g : GT} {o : Nat} {S S1 : MS} {H : Heap}
theorem MW.eq (h : MW g o S H) (e : S = S1) : MW g o S1 H := e ▸ h
theorem MW.congr (h : MW g o S H) (e1 : ∀ k, k < 9 → S.1 k = S1.1 k) (e2 : mfs o S = mfs o S1) : MW g o S1 H :=
  ⟨h.1, e2 ▸ h.2.1, fun k hk => (e1 k hk) ▸ h.2.2 k hk⟩
theorem MW.cast (h : MW g o S H) (e : S.1 0 = S1.1 0 ∧ S.1 1 = S1.1 1 ∧ S.1 2 = S1.1 2 ∧ S.1 3 = S1.1 3 ∧ S.1 4 = S1.1 4 ∧ S.1 5 = S1.1 5 ∧ S.1 6 = S1.1 6 ∧ S.1 7 = S1.1 7 ∧ S.1 8 = S1.1 8 ∧ S.2.1 9 = S1.2.1 9 ∧ S.2.1 10 = S1.2.1 10 ∧ S.2.1 11 = S1.2.1 11 ∧ S.2.1 12 = S1.2.1 12 ∧ S.2.1 13 = S1.2.1 13 ∧ S.2.1 14 = S1.2.1 14 ∧ S.2.1 15 = S1.2.1 15 ∧ S.2.2 = S1.2.2) : MW g o S1 H := by
  obtain ⟨e0, e1, e2, e3, e4, e5, e6, e7, e8, f9, f10, f11, f12, f13, f14, f15, f16⟩ := e
  refine h.congr (fun k hk => ?_) (by unfold mfs; rw [f9, f10, f11, f12, f13, f14, f15, f16])
  match k, hk with
  | 0, _ => exact e0
  | 1, _ => exact e1
  | 2, _ => exact e2
  | 3, _ => exact e3
  | 4, _ => exact e4
  | 5, _ => exact e5
  | 6, _ => exact e6
  | 7, _ => exact e7
  | 8, _ => exact e8
theorem MW.eqA {P : Prop} {k : Nat} {f f1 : Nat → Int32} (h : MW g o S H) (e : f = f1) (hf : S.1 k = f) (kk : MW g o (uA S k f1) H → P) : P := by
  refine kk (h.congr (fun j _ => ?_) rfl)
  subst e
  by_cases q : j = k
  · subst q; simp [uA, va_up, hf]
  · simp [uA, va_up, q]
end MST
section STK
variable {p : Program} {l : Launch} {e : Env} {R : Room} {s : State} {m : MethodId} {args : Array Value} {below : List Frame} {meth : Method} {c : Code} {H : Heap} {locs : List Loc} {cells slots : Nat} {Q : State → Prop} {pc : Nat} {ls : Array Slot} {rest : List Value}
theorem W.stk {v w : Int32} (h : v = w) (k : W p l e R s m args below meth c H locs cells slots Q (F0 m pc ls (.int w :: rest))) : W p l e R s m args below meth c H locs cells slots Q (F0 m pc ls (.int v :: rest)) := h ▸ k
theorem W.stkL {v w : Int64} (h : v = w) (k : W p l e R s m args below meth c H locs cells slots Q (F0 m pc ls (.long w :: rest))) : W p l e R s m args below meth c H locs cells slots Q (F0 m pc ls (.long v :: rest)) := h ▸ k
end STK
theorem upd_s (f : Nat → Int32) (k : Nat) (v : Int32) : upd f k v k = v := by simp [upd]
theorem upd_n (f : Nat → Int32) {k j : Nat} (v : Int32) (h : j ≠ k) : upd f k v j = f j := by simp [upd, h]
theorem upd_upd (f : Nat → Int32) (k : Nat) (v w : Int32) : upd (upd f k v) k w = upd f k w := by funext j; simp [upd]; split <;> rfl
/-- the first n as told by p -/
def setB (f : Nat → Int32) (n : Nat) (p : Nat → Bool) : Nat → Int32 := fun j => if j < n then bI (p j) else f j
def setI (f : Nat → Int32) (n : Nat) (p : Nat → Int32) : Nat → Int32 := fun j => if j < n then p j else f j
theorem setB_0 (f : Nat → Int32) (p : Nat → Bool) : setB f 0 p = f := by funext j; simp [setB]
theorem setI_0 (f : Nat → Int32) (p : Nat → Int32) : setI f 0 p = f := by funext j; simp [setI]
theorem setB_s (f : Nat → Int32) (k : Nat) (p : Nat → Bool) {v : Int32} (h : v = bI (p k)) : upd (setB f k p) k v = setB f (k + 1) p := by
  funext j; subst h
  by_cases q : j = k
  · subst q; simp [upd, setB]
  · have : (j < k + 1) = (j < k) := by simp; omega
    simp [upd, setB, q, this]
theorem setI_s (f : Nat → Int32) (k : Nat) (p : Nat → Int32) {v : Int32} (h : v = p k) : upd (setI f k p) k v = setI f (k + 1) p := by
  funext j; subst h
  by_cases q : j = k
  · subst q; simp [upd, setI]
  · have : (j < k + 1) = (j < k) := by simp; omega
    simp [upd, setI, q, this]
theorem setB_l {f : Nat → Int32} {n j : Nat} {p : Nat → Bool} (h : j < n) : setB f n p j = bI (p j) := by simp [setB, h]
theorem setI_l {f : Nat → Int32} {n j : Nat} {p : Nat → Int32} (h : j < n) : setI f n p j = p j := by simp [setI, h]
theorem allB_0 (p : Nat → Bool) : allB p 0 = true := rfl
theorem allB_1 (p : Nat → Bool) (n : Nat) : allB p (n + 1) = (allB p n && p n) := rfl
