/-! numbers on the stack as nI; pure calls; counting -/
section ROWSN
variable {p : Program} {l : Launch} {e : Env} {R : Room} {s : State} {m : MethodId} {args : Array Value} {below : List Frame} {meth : Method} {c : Code} {H : Heap} {locs : List Loc} {cells slots : Nat} {Q : State → Prop}
variable {cc : ByteArray} {nL pc : Nat} {ls : Array Slot} {y : MethodName} {ret : Option FieldType} {g : GT} {rest : List Value}
theorem n_iadd {a b : Nat} (X : Cx p g s m args meth c cc nL y ret) (hdg : decode cc pc = .ok (.iadd, 1)) (k : W p l e R s m args below meth c H locs cells slots Q (F0 m (pc + 1) ls (.int (nI (a + b)) :: rest))) : W p l e R s m args below meth c H locs cells slots Q (F0 m pc ls (.int (nI b) :: .int (nI a) :: rest)) := by
  refine lv_iadd X.1 X.2.1 hdg ?_
  rw [nI_add]; exact k
theorem n_imul {a b : Nat} (X : Cx p g s m args meth c cc nL y ret) (hdg : decode cc pc = .ok (.imul, 1)) (k : W p l e R s m args below meth c H locs cells slots Q (F0 m (pc + 1) ls (.int (nI (a * b)) :: rest))) : W p l e R s m args below meth c H locs cells slots Q (F0 m pc ls (.int (nI b) :: .int (nI a) :: rest)) := by
  refine lv_imul X.1 X.2.1 hdg ?_
  rw [pk_mul]; exact k
theorem n_isub {a b : Nat} (X : Cx p g s m args meth c cc nL y ret) (h : b ≤ a) (hdg : decode cc pc = .ok (.isub, 1)) (k : W p l e R s m args below meth c H locs cells slots Q (F0 m (pc + 1) ls (.int (nI (a - b)) :: rest))) : W p l e R s m args below meth c H locs cells slots Q (F0 m pc ls (.int (nI b) :: .int (nI a) :: rest)) := by
  refine lv_isub X.1 X.2.1 hdg ?_
  rw [pk_sub h]; exact k
theorem n_icmp_ge {a b : Nat} {off : Int} {tgt : Nat} (X : Cx p g s m args meth c cc nL y ret) (hdg : decode cc pc = .ok (.if_icmp .ge off, 3)) (ht : (pc : Int) + off = (tgt : Int)) (ha : a < 2 ^ 31) (hb : b < 2 ^ 31) (k1 : b ≤ a → W p l e R s m args below meth c H locs cells slots Q (F0 m tgt ls rest)) (k2 : a < b → W p l e R s m args below meth c H locs cells slots Q (F0 m (pc + 3) ls rest)) : W p l e R s m args below meth c H locs cells slots Q (F0 m pc ls (.int (nI b) :: .int (nI a) :: rest)) :=
  lv_icmp_ge X.1 X.2.1 hdg ht (fun h => k1 ((nI_leI hb ha).mp h)) (fun h => k2 (by have := mt (nI_leI hb ha).mpr h; omega))
theorem n_icmp_gt {a b : Nat} {off : Int} {tgt : Nat} (X : Cx p g s m args meth c cc nL y ret) (hdg : decode cc pc = .ok (.if_icmp .gt off, 3)) (ht : (pc : Int) + off = (tgt : Int)) (ha : a < 2 ^ 31) (hb : b < 2 ^ 31) (k1 : b < a → W p l e R s m args below meth c H locs cells slots Q (F0 m tgt ls rest)) (k2 : a ≤ b → W p l e R s m args below meth c H locs cells slots Q (F0 m (pc + 3) ls rest)) : W p l e R s m args below meth c H locs cells slots Q (F0 m pc ls (.int (nI b) :: .int (nI a) :: rest)) :=
  lv_icmp_gt X.1 X.2.1 hdg ht (fun h => k1 ((nI_ltI hb ha).mp h)) (fun h => k2 (by have := mt (nI_ltI hb ha).mpr h; omega))
theorem n_icmp_lt {a b : Nat} {off : Int} {tgt : Nat} (X : Cx p g s m args meth c cc nL y ret) (hdg : decode cc pc = .ok (.if_icmp .lt off, 3)) (ht : (pc : Int) + off = (tgt : Int)) (ha : a < 2 ^ 31) (hb : b < 2 ^ 31) (k1 : a < b → W p l e R s m args below meth c H locs cells slots Q (F0 m tgt ls rest)) (k2 : b ≤ a → W p l e R s m args below meth c H locs cells slots Q (F0 m (pc + 3) ls rest)) : W p l e R s m args below meth c H locs cells slots Q (F0 m pc ls (.int (nI b) :: .int (nI a) :: rest)) :=
  lv_icmp_lt X.1 X.2.1 hdg ht (fun h => k1 ((nI_ltI ha hb).mp h)) (fun h => k2 (by have := mt (nI_ltI ha hb).mpr h; omega))
theorem n_icmp_le {a b : Nat} {off : Int} {tgt : Nat} (X : Cx p g s m args meth c cc nL y ret) (hdg : decode cc pc = .ok (.if_icmp .le off, 3)) (ht : (pc : Int) + off = (tgt : Int)) (ha : a < 2 ^ 31) (hb : b < 2 ^ 31) (k1 : a ≤ b → W p l e R s m args below meth c H locs cells slots Q (F0 m tgt ls rest)) (k2 : b < a → W p l e R s m args below meth c H locs cells slots Q (F0 m (pc + 3) ls rest)) : W p l e R s m args below meth c H locs cells slots Q (F0 m pc ls (.int (nI b) :: .int (nI a) :: rest)) :=
  lv_icmp_le X.1 X.2.1 hdg ht (fun h => k1 ((nI_leI ha hb).mp h)) (fun h => k2 (by have := mt (nI_leI ha hb).mpr h; omega))
theorem n_icmp_eq {a b : Nat} {off : Int} {tgt : Nat} (X : Cx p g s m args meth c cc nL y ret) (hdg : decode cc pc = .ok (.if_icmp .eq off, 3)) (ht : (pc : Int) + off = (tgt : Int)) (ha : a < 2 ^ 31) (hb : b < 2 ^ 31) (k1 : a = b → W p l e R s m args below meth c H locs cells slots Q (F0 m tgt ls rest)) (k2 : ¬ a = b → W p l e R s m args below meth c H locs cells slots Q (F0 m (pc + 3) ls rest)) : W p l e R s m args below meth c H locs cells slots Q (F0 m pc ls (.int (nI b) :: .int (nI a) :: rest)) :=
  lv_icmp_eq X.1 X.2.1 hdg ht (fun h => k1 ((nI_eq ha hb).mp h)) (fun h => k2 (fun q => h ((nI_eq ha hb).mpr q)))
theorem n_icmp_ne {a b : Nat} {off : Int} {tgt : Nat} (X : Cx p g s m args meth c cc nL y ret) (hdg : decode cc pc = .ok (.if_icmp .ne off, 3)) (ht : (pc : Int) + off = (tgt : Int)) (ha : a < 2 ^ 31) (hb : b < 2 ^ 31) (k1 : ¬ a = b → W p l e R s m args below meth c H locs cells slots Q (F0 m tgt ls rest)) (k2 : a = b → W p l e R s m args below meth c H locs cells slots Q (F0 m (pc + 3) ls rest)) : W p l e R s m args below meth c H locs cells slots Q (F0 m pc ls (.int (nI b) :: .int (nI a) :: rest)) :=
  lv_icmp_ne X.1 X.2.1 hdg ht (fun h => k1 (fun q => h ((nI_eq ha hb).mpr q))) (fun h => k2 ((nI_eq ha hb).mp (by first | exact h | exact Classical.byContradiction h)))
/-- a boolean on the stack -/
theorem b_ifeq {b : Bool} {off : Int} {tgt : Nat} (X : Cx p g s m args meth c cc nL y ret) (hdg : decode cc pc = .ok (.ifCond .eq off, 3)) (ht : (pc : Int) + off = (tgt : Int)) (k1 : b = false → W p l e R s m args below meth c H locs cells slots Q (F0 m tgt ls rest)) (k2 : b = true → W p l e R s m args below meth c H locs cells slots Q (F0 m (pc + 3) ls rest)) : W p l e R s m args below meth c H locs cells slots Q (F0 m pc ls (.int (bI b) :: rest)) :=
  lv_if_eq X.1 X.2.1 hdg ht (fun h => k1 ((bI_0 b).mp h)) (fun h => k2 ((bI_n0 b).mp h))
theorem b_ifne {b : Bool} {off : Int} {tgt : Nat} (X : Cx p g s m args meth c cc nL y ret) (hdg : decode cc pc = .ok (.ifCond .ne off, 3)) (ht : (pc : Int) + off = (tgt : Int)) (k1 : b = true → W p l e R s m args below meth c H locs cells slots Q (F0 m tgt ls rest)) (k2 : b = false → W p l e R s m args below meth c H locs cells slots Q (F0 m (pc + 3) ls rest)) : W p l e R s m args below meth c H locs cells slots Q (F0 m pc ls (.int (bI b) :: rest)) :=
  lv_if_ne X.1 X.2.1 hdg ht (fun h => k1 ((bI_n0 b).mp h)) (fun h => k2 ((bI_0 b).mp (by first | exact h | exact Classical.byContradiction h)))
end ROWSN
/-- a contract of a method that answers v and changes nothing -/
abbrev Cp (l : Launch) (g : GT) (y : MethodName) (cc : ByteArray) (maxL : Nat) (ret : Option FieldType) (d : Nat) (av : List Value) (P : Heap → Prop) (v : Value) : Prop := Ct l g y cc maxL ret d 0 0 av P (fun r H H1 => r = some v ∧ H1 = H)
section CALLP
variable {p : Program} {l : Launch} {e : Env} {R : Room} {s : State} {m : MethodId} {args : Array Value} {below : List Frame} {meth : Method} {c : Code} {H : Heap} {locs : List Loc} {cells slots mc ms d : Nat} {Q : State → Prop}
variable {cc cc' : ByteArray} {nL pc maxL n index d' : Nat} {ls : Array Slot} {y y' : MethodName} {ret ret' : Option FieldType} {g : GT} {P : Heap → Prop} {b : Nat} {As rest : List Value} {st : List Value} {lv : List (Nat × Value)} {v : Value}
theorem Cp.callV (hM : Cp l g y' cc' maxL ret' d' (.ref b :: As) P v) (X : Cx p g s m args meth c cc nL y ret) (hL : ∀ q ∈ locs, gLo g ≤ q.base) (hl : lv_has ls nL lv) (hV : VB y' cc' maxL ret' n) (hlink : Cond.methodLink y.cls index y' ∈ lw_all)
    (hcell : ∃ cellB : Cell, H[b]? = some cellB ∧ cellB.vm.isStatics = false ∧ s.vm.findClass y'.cls = some cellB.cls) (hn : As.length = n) (hst : st = As.reverse ++ .ref b :: rest) (hW : (rest.map fun v => v.category).sum ≤ 8) (hdg : decode cc pc = .ok (.invokevirtual index, 3))
    (hR : d' + 1 ≤ d ∧ 8 + (maxL + 11) ≤ 64) (hc : cells ≤ mc) (hs : slots ≤ ms) (hP : P H)
    (kk : ∀ (locs1 : List Loc), (∀ q ∈ locs1, gLo g ≤ q.base) → W p l e (rmL d mc ms) s m args below meth c H locs1 cells slots Q (F0 m (pc + 3) ls (v :: rest))) :
    W p l e (rmL d mc ms) s m args below meth c H locs cells slots Q (F0 m pc ls st) :=
  Ct.callV hM X hL hl hV hlink hcell hn hst hW hdg hR hc hs hP (fun r H1 locs1 h1 h2 => by obtain ⟨rfl, rfl⟩ := h2; exact kk locs1 h1)
theorem Cp.callS (hM : Cp l g y' cc' maxL ret' d' As P v) (X : Cx p g s m args meth c cc nL y ret) (hL : ∀ q ∈ locs, gLo g ≤ q.base) (hl : lv_has ls nL lv) (hV : SB y' cc' maxL ret' n) (hlink : Cond.methodLink y.cls index y' ∈ lw_all)
    (hn : As.length = n) (hst : st = As.reverse ++ rest) (hW : (rest.map fun v => v.category).sum ≤ 8) (hdg : decode cc pc = .ok (.invokestatic index, 3))
    (hR : d' + 1 ≤ d ∧ 8 + (maxL + 11) ≤ 64) (hc : cells ≤ mc) (hs : slots ≤ ms) (hP : P H)
    (kk : ∀ (locs1 : List Loc), (∀ q ∈ locs1, gLo g ≤ q.base) → W p l e (rmL d mc ms) s m args below meth c H locs1 cells slots Q (F0 m (pc + 3) ls (v :: rest))) :
    W p l e (rmL d mc ms) s m args below meth c H locs cells slots Q (F0 m pc ls st) :=
  Ct.callS hM X hL hl hV hlink hn hst hW hdg hR hc hs hP (fun r H1 locs1 h1 h2 => by obtain ⟨rfl, rfl⟩ := h2; exact kk locs1 h1)
end CALLP
theorem nI_cl {j : Nat} (h : j < 2 ^ 31) {x : Int32} (e : x = nI j) : x.toNatClampNeg = j := by rw [e]; exact nI_clamp h
theorem nI_nn {j : Nat} (h : j < 2 ^ 31) {x : Int32} (e : x = nI j) : ¬ x < 0 := by rw [e]; exact nI_pos h
/-- how many below n -/
def cnt (p : Nat → Bool) : Nat → Nat
  | 0 => 0
  | n + 1 => cnt p n + (if p n then 1 else 0)
def allB (p : Nat → Bool) : Nat → Bool
  | 0 => true
  | n + 1 => allB p n && p n
theorem cnt_le (p : Nat → Bool) : ∀ n, cnt p n ≤ n
  | 0 => Nat.le_refl _
  | n + 1 => by have := cnt_le p n; unfold cnt; split <;> omega
theorem allB_false {p : Nat → Bool} {k : Nat} (h : p k = false) : ∀ n, k < n → allB p n = false
  | 0, hk => absurd hk (Nat.not_lt_zero _)
  | n + 1, hk => by
    unfold allB
    rcases Nat.lt_or_ge k n with q | q
    · rw [allB_false h n q]; rfl
    · have : k = n := by omega
      subst this
      rw [h]; simp
theorem allB_iff {p : Nat → Bool} : ∀ {n : Nat}, allB p n = true ↔ ∀ k, k < n → p k = true
  | 0 => by simp [allB]
  | n + 1 => by
    unfold allB
    rw [Bool.and_eq_true, allB_iff (n := n)]
    constructor
    · rintro ⟨h1, h2⟩ k hk
      rcases Nat.lt_or_ge k n with q | q
      · exact h1 k q
      · have : k = n := by omega
        subst this; exact h2
    · exact fun h => ⟨fun k hk => h k (by omega), h n (by omega)⟩
theorem cnt_congr {p q : Nat → Bool} : ∀ {n : Nat}, (∀ k, k < n → p k = q k) → cnt p n = cnt q n
  | 0, _ => rfl
  | n + 1, h => by
    unfold cnt
    rw [cnt_congr (n := n) (fun k hk => h k (by omega)), h n (by omega)]
theorem allB_congr {p q : Nat → Bool} : ∀ {n : Nat}, (∀ k, k < n → p k = q k) → allB p n = allB q n
  | 0, _ => rfl
  | n + 1, h => by
    unfold allB
    rw [allB_congr (n := n) (fun k hk => h k (by omega)), h n (by omega)]
/-! the model's world -/
abbrev MS : Type := (Nat → Nat → Int32) × (Nat → Int32) × Int64
def mlen : Nat → Nat := fun k => match k with
  | 0 => 179
  | 1 => 179
  | 2 => 1074
  | 3 => 358
  | 4 => 60
  | 5 => 41
  | _ => 40
def mkind : Nat → Nat := fun k => match k with
  | 5 => 1
  | 6 => 1
  | _ => 0
def mfs (o : Nat) (S : MS) : List Value := [.ref (o + 1 + 0), .ref (o + 1 + 1), .ref (o + 1 + 2), .ref (o + 1 + 3), .ref (o + 1 + 4), .ref (o + 1 + 5), .ref (o + 1 + 6), .ref (o + 1 + 7), .ref (o + 1 + 8), .int (S.2.1 9), .int (S.2.1 10), .int (S.2.1 11), .int (S.2.1 12), .int (S.2.1 13), .int (S.2.1 14), .int (S.2.1 15), .long S.2.2]
def MW (g : GT) (o : Nat) (S : MS) (H : Heap) : Prop := gLo g ≤ o ∧ Ob g o 0 (mfs o S) H ∧ ∀ k, k < 9 → Ar g (o + 1 + k) (mkind k) (mlen k) (S.1 k) H
def uA (S : MS) (k : Nat) (f : Nat → Int32) : MS := (va_up S.1 k f, S.2.1, S.2.2)
def uS (S : MS) (k : Nat) (v : Int32) : MS := (S.1, va_up S.2.1 k v, S.2.2)
def uH (S : MS) (v : Int64) : MS := (S.1, S.2.1, v)
/-- nothing but the model's cells has changed -/
def Off (o : Nat) (H H1 : Heap) : Prop := H1.size = H.size ∧ ∀ q : Nat, (q < o ∨ o + 10 ≤ q) → H1[q]? = H[q]?
theorem Off.rfl' {o : Nat} {H : Heap} : Off o H H := ⟨rfl, fun _ _ => rfl⟩
theorem Off.trans {o : Nat} {H H1 H2 : Heap} (h : Off o H H1) (h2 : Off o H1 H2) : Off o H H2 := ⟨h2.1.trans h.1, fun q hq => (h2.2 q hq).trans (h.2 q hq)⟩
theorem On.off {o a : Nat} {H H1 : Heap} (h : On a H H1) (h1 : o ≤ a) (h2 : a < o + 10) : Off o H H1 := ⟨h.1, fun q hq => h.2 q (by omega)⟩
theorem MW.a {g : GT} {o : Nat} {S : MS} {H : Heap} (h : MW g o S H) (k : Nat) (hk : k < 9) : Ar g (o + 1 + k) (mkind k) (mlen k) (S.1 k) H := h.2.2 k hk
theorem MW.setA {g : GT} {o k : Nat} {S : MS} {H H1 : Heap} {f : Nat → Int32} (h : MW g o S H) (hk : k < 9) (ha : Ar g (o + 1 + k) (mkind k) (mlen k) f H1) (e : On (o + 1 + k) H H1) : MW g o (uA S k f) H1 := by
  refine ⟨h.1, h.2.1.on e (by omega), fun j hj => ?_⟩
  by_cases q : j = k
  · subst q
    simpa [uA, va_up] using ha
  · have := (h.2.2 j hj).on e (by omega)
    simpa [uA, va_up, q] using this
theorem MW.setO {g : GT} {o : Nat} {S S1 : MS} {H H1 : Heap} (h : MW g o S H) (ha : Ob g o 0 (mfs o S1) H1) (e : On o H H1) (h1 : S1.1 = S.1) : MW g o S1 H1 := by
  refine ⟨h.1, ha, fun j hj => ?_⟩
  rw [h1]
  exact (h.2.2 j hj).on e (by omega)
