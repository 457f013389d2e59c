/-! lists whose room is known; other names for the same things -/
/-- how the room of a full list grows -/
def nxC (n : Nat) : Nat := if n = 0 then 10 else n + max 1 (n / 2)
def LstK (g : GT) (P : Nat → Prop) (x : Nat → Nat) (n cap a : Nat) (H : Heap) : Prop := ∃ (mc : Int32) (ar : Nat) (f : Nat → Option Nat), P a ∧ gLo g ≤ a ∧ Ob g a 7 [.int mc, .ref ar, .int (nI n)] H ∧ Aq g ar 4 cap f H ∧ n ≤ cap ∧ cap ≤ 1000 ∧ a ≠ ar ∧ (∀ j, j < n → f j = some (x j)) ∧ ((ar = gE g ∧ cap = 0) ∨ (P ar ∧ gLo g ≤ ar ∧ 0 < cap))
theorem LstK.lst {g : GT} {P : Nat → Prop} {x : Nat → Nat} {n cap a : Nat} {H : Heap} (h : LstK g P x n cap a H) : LstR g P x n a H := by
  obtain ⟨m, ar, f, h⟩ := h
  exact ⟨m, ar, cap, f, h⟩
theorem LstR.k {g : GT} {P : Nat → Prop} {x : Nat → Nat} {n a : Nat} {H : Heap} (h : LstR g P x n a H) : ∃ cap, LstK g P x n cap a H := by
  obtain ⟨m, ar, cap, f, h⟩ := h
  exact ⟨cap, m, ar, f, h⟩
theorem LstK.cap {g : GT} {P : Nat → Prop} {x : Nat → Nat} {n cap a : Nat} {H : Heap} (h : LstK g P x n cap a H) : n ≤ cap ∧ cap ≤ 1000 := by
  obtain ⟨m, ar, f, h1, h2, h3, h4, h5, h6, h⟩ := h
  exact ⟨h5, h6⟩
theorem LstK.ext {g : GT} {P : Nat → Prop} {x : Nat → Nat} {n cap a : Nat} {H H1 : Heap} (h : LstK g P x n cap a H) (e : Ext H H1) : LstK g P x n cap a H1 := by
  obtain ⟨m, ar, f, h1, h2, h3, h4, h5⟩ := h
  exact ⟨m, ar, f, h1, h2, h3.ext e, h4.ext e, h5⟩
theorem LstK.keep {g : GT} {P Q : Nat → Prop} {x : Nat → Nat} {n cap a : Nat} {H H1 : Heap} (h : LstK g P x n cap a H) (c : Chg Q H H1) (d : ∀ q, P q → ¬ Q q) (dE : ¬ Q (gE g)) : LstK g P x n cap a H1 := by
  obtain ⟨m, ar, f, h1, h2, h3, h4, h5, h6, h7, h8, h9⟩ := h
  refine ⟨m, ar, f, h1, h2, h3.chg c (d _ h1), h4.chg c ?_, h5, h6, h7, h8, h9⟩
  rcases h9 with ⟨rfl, -⟩ | ⟨h9, -⟩
  · exact dE
  · exact d _ h9
theorem LstK.to {g : GT} {P Q : Nat → Prop} {x y : Nat → Nat} {n cap a : Nat} {H : Heap} (h : LstK g P x n cap a H) (e : ∀ j, j < n → x j = y j) (hP : ∀ q, P q → Q q) : LstK g Q y n cap a H := by
  obtain ⟨m, ar, f, h1, h2, h3, h4, h5, h6, h7, h8, h9⟩ := h
  exact ⟨m, ar, f, hP _ h1, h2, h3, h4, h5, h6, h7, fun j hj => by rw [h8 j hj, e j hj], h9.imp (fun z => z) (fun z => ⟨hP _ z.1, z.2⟩)⟩
theorem LstR.to {g : GT} {P Q : Nat → Prop} {x y : Nat → Nat} {n a : Nat} {H : Heap} (h : LstR g P x n a H) (e : ∀ j, j < n → x j = y j) (hP : ∀ q, P q → Q q) : LstR g Q y n a H := by
  obtain ⟨cap, h⟩ := h.k
  exact (h.to e hP).lst
theorem LstR.lo {g : GT} {P : Nat → Prop} {x : Nat → Nat} {n a : Nat} {H : Heap} (h : LstR g P x n a H) : P a ∧ gLo g ≤ a ∧ a < H.size := by
  obtain ⟨m, ar, cap, f, h1, h2, h3, h⟩ := h
  exact ⟨h1, h2, h3.lt⟩
/-- things outside P keep what they are -/
theorem ElR.chg {g : GT} {P : Nat → Prop} {x : Nat → Nat} {n : Nat} {H H1 : Heap} (h : ElR g P x n H) (c : Chg P H H1) : ElR g P x n H1 := fun j hj => ⟨(h j hj).1, by
  obtain ⟨n1, fs, o⟩ := h j hj
  exact ⟨fs, o.chg c n1⟩⟩
theorem ElR.ext {g : GT} {P : Nat → Prop} {x : Nat → Nat} {n : Nat} {H H1 : Heap} (h : ElR g P x n H) (e : Ext H H1) : ElR g P x n H1 := fun j hj => ⟨(h j hj).1, by
  obtain ⟨n1, fs, o⟩ := h j hj
  exact ⟨fs, o.ext e⟩⟩
theorem ElR.to {g : GT} {P Q : Nat → Prop} {x y : Nat → Nat} {n m : Nat} {H : Heap} (h : ElR g P x n H) (e : ∀ j, j < m → ∃ i, i < n ∧ y j = x i) (hP : ∀ q, Q q → P q) : ElR g Q y m H := fun j hj => by
  obtain ⟨i, hi, e1⟩ := e j hj
  obtain ⟨n1, o⟩ := h i hi
  rw [e1]
  exact ⟨fun z => n1 (hP _ z), o⟩
theorem Chg.size {P : Nat → Prop} {H H1 : Heap} (c : Chg P H H1) : H.size ≤ H1.size := c.1
theorem Aq.recvA {g : GT} {s : State} {a n : Nat} {f : Nat → Option Nat} {H : Heap} (h : Aq g a 4 n f H) (hK : KV g s) : ∃ cell : Cell, H[a]? = some cell ∧ cell.vm.isStatics = false ∧ s.vm.findClass "[Ljava/lang/Object;" = some cell.cls := by
  have hq := (hK.1.2 4 _ rfl).2
  exact ⟨_, h, rfl, va_nmO hq (by decide +kernel)⟩
/-! calls between the nest's classes -/
section NCALLS
variable {p : Program} {l : Launch} {e : Env} {R : Room} {s : State} {m : MethodId} {args : Array Value} {below : List Frame} {meth : Method} {c : Code} {H : Heap} {locs : List Loc} {cells slots mc ms d : Nat} {Q : State → Prop}
variable {cc cc' : ByteArray} {nL pc maxL n index mc' ms' d' : Nat} {ls : Array Slot} {y y' : MethodName} {ret ret' : Option FieldType} {g : GT} {P : Heap → Prop} {Po : Option Value → Heap → Heap → Prop} {b : Nat} {As rest : List Value} {st : List Value} {lv : List (Nat × Value)} {host : String} {v : Value}
theorem Ct.callSN (hM : Ct l g y' cc' maxL ret' d' mc' ms' As P Po) (X : Cx p g s m args meth c cc nL y ret) (hL : ∀ q ∈ locs, gLo g ≤ q.base) (hl : lv_has ls nL lv) (hV : SB y' cc' maxL ret' n) (hlink : Cond.methodLinkNest y.cls index y' host ∈ lw_tbl)
    (hn : As.length = n) (hst : st = As.reverse ++ rest) (hW : (rest.map fun v => v.category).sum ≤ 8) (hdg : decode cc pc = .ok (.invokestatic index, 3))
    (hR : d' + 1 ≤ d ∧ 8 + (maxL + 11) ≤ 64) (hc : cells + mc' ≤ mc) (hs : slots + ms' ≤ ms) (hP : P H)
    (kk : ∀ (r : Option Value) (H1 : Heap) (locs1 : List Loc), (∀ q ∈ locs1, gLo g ≤ q.base) → Po r H H1 → W p l e (rmL d mc ms) s m args below meth c H1 locs1 (cells + mc') (slots + ms') Q (F0 m (pc + 3) ls (r.toList ++ rest))) :
    W p l e (rmL d mc ms) s m args below meth c H locs cells slots Q (F0 m pc ls st) := by
  obtain ⟨hx, hb, hml, hown, hts, hrt, hlk, ⟨hKV, hB⟩, hnm⟩ := X
  obtain ⟨v1, v2, v3, v4⟩ := hV
  intro T hT XT
  have hBH : Base g H := by rw [← hT]; exact base_at XT hL hB
  have hR' : (rmL d' mc' ms').frames + 1 ≤ (rmL d mc ms).frames ∧ 8 + (maxL + 11) + (rmL d' mc' ms').locals ≤ (rmL d mc ms).locals := by
    refine ⟨hR.1, ?_⟩
    show 8 + (maxL + 11) + (4096 + 64 * d') ≤ 4096 + 64 * d
    omega
  exact run_go hL (va_runSN (index := index) (As := As) (n := n) (Ts := lw_all) (host := host) ⟨hx, hb, hml, hown, hts⟩ hM ⟨va_cnB n hts (lw_meth v3) rfl rfl rfl (hKV.2.1 _ (List.mem_filter.mpr ⟨hlink, rfl⟩)) (hts _ v2) v4 hR', hts _ v1, trivial⟩ ⟨Pcg.blind, fun U hU hW => ⟨rfl, ⟨hKV.warm hW, by rw [hU]; exact hBH⟩, by rw [hU]; exact hP⟩⟩ rfl hn hl.1 hst (by show 2 * 0 + _ ≤ 8; omega) hdg ⟨hc, hs⟩) kk T hT XT
theorem Ct.callIN (hM : Ct l g y' cc' maxL none d' mc' ms' (.ref b :: As) P Po) (X : Cx p g s m args meth c cc nL y ret) (hL : ∀ q ∈ locs, gLo g ≤ q.base) (hl : lv_has ls nL lv) (hV : IB y' cc' maxL n) (hlink : Cond.methodLinkNest y.cls index y' host ∈ lw_tbl)
    (hn : As.length = n) (hst : st = As.reverse ++ .ref b :: rest) (hW : (rest.map fun v => v.category).sum ≤ 8) (hdg : decode cc pc = .ok (.invokespecial index, 3))
    (hR : d' + 1 ≤ d ∧ 8 + (maxL + 11) ≤ 64) (hc : cells + mc' ≤ mc) (hs : slots + ms' ≤ ms) (hP : P H)
    (kk : ∀ (r : Option Value) (H1 : Heap) (locs1 : List Loc), (∀ q ∈ locs1, gLo g ≤ q.base) → Po r H H1 → W p l e (rmL d mc ms) s m args below meth c H1 locs1 (cells + mc') (slots + ms') Q (F0 m (pc + 3) ls (r.toList ++ rest))) :
    W p l e (rmL d mc ms) s m args below meth c H locs cells slots Q (F0 m pc ls st) := by
  obtain ⟨hx, hb, hml, hown, hts, hrt, hlk, ⟨hKV, hB⟩, hnm⟩ := X
  obtain ⟨v1, v3, v4, v5, v6⟩ := hV
  intro T hT XT
  have hBH : Base g H := by rw [← hT]; exact base_at XT hL hB
  have hR' : (rmL d' mc' ms').frames + 1 ≤ (rmL d mc ms).frames ∧ 8 + (maxL + 11) + (rmL d' mc' ms').locals ≤ (rmL d mc ms).locals := by
    refine ⟨hR.1, ?_⟩
    show 8 + (maxL + 11) + (4096 + 64 * d') ≤ 4096 + 64 * d
    omega
  exact run_go hL (va_runIN (index := index) (As := As) (b := b) (n := n) (Ts := lw_all) (host := host) ⟨hx, hb, hml, hown, hts⟩ hM ⟨va_cnB n hts (lw_meth v4) rfl rfl rfl (hKV.2.1 _ (List.mem_filter.mpr ⟨hlink, rfl⟩)) (hts _ v3) v6 hR', v5, hts _ v1⟩ ⟨Pcg.blind, fun U hU hW => ⟨rfl, ⟨hKV.warm hW, by rw [hU]; exact hBH⟩, by rw [hU]; exact hP⟩⟩ rfl hn hl.1 hst (by show 2 * 0 + _ ≤ 8; omega) hdg ⟨hc, hs⟩) kk T hT XT
theorem Cp.callSN (hM : Cp l g y' cc' maxL ret' d' As P v) (X : Cx p g s m args meth c cc nL y ret) (hL : ∀ q ∈ locs, gLo g ≤ q.base) (hl : lv_has ls nL lv) (hV : SB y' cc' maxL ret' n) (hlink : Cond.methodLinkNest y.cls index y' host ∈ lw_tbl)
    (hn : As.length = n) (hst : st = As.reverse ++ rest) (hW : (rest.map fun v => v.category).sum ≤ 8) (hdg : decode cc pc = .ok (.invokestatic index, 3))
    (hR : d' + 1 ≤ d ∧ 8 + (maxL + 11) ≤ 64) (hc : cells ≤ mc) (hs : slots ≤ ms) (hP : P H)
    (kk : ∀ (locs1 : List Loc), (∀ q ∈ locs1, gLo g ≤ q.base) → W p l e (rmL d mc ms) s m args below meth c H locs1 cells slots Q (F0 m (pc + 3) ls (v :: rest))) :
    W p l e (rmL d mc ms) s m args below meth c H locs cells slots Q (F0 m pc ls st) :=
  Ct.callSN hM X hL hl hV hlink hn hst hW hdg hR hc hs hP (fun r H1 locs1 h1 h2 => by obtain ⟨rfl, rfl⟩ := h2; exact kk locs1 h1)
end NCALLS
