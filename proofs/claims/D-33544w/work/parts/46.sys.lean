/-! the system's things in the heap -/
/-- old cells outside P stay -/
def Chg (P : Nat → Prop) (H H1 : Heap) : Prop := H.size ≤ H1.size ∧ ∀ q : Nat, q < H.size → ¬ P q → H1[q]? = H[q]?
theorem Chg.rfl' {P : Nat → Prop} {H : Heap} : Chg P H H := ⟨Nat.le_refl _, fun _ _ _ => rfl⟩
theorem Chg.trans {P : Nat → Prop} {H H1 H2 : Heap} (h : Chg P H H1) (h2 : Chg P H1 H2) : Chg P H H2 := ⟨Nat.le_trans h.1 h2.1, fun q hq hp => (h2.2 q (Nat.lt_of_lt_of_le hq h.1) hp).trans (h.2 q hq hp)⟩
theorem Ext.chg {P : Nat → Prop} {H H1 : Heap} (h : Ext H H1) : Chg P H H1 := ⟨h.1, fun q hq _ => h.2 q hq⟩
theorem On.chg {P : Nat → Prop} {a : Nat} {H H1 : Heap} (h : On a H H1) (ha : P a) : Chg P H H1 := ⟨by rw [h.1]; exact Nat.le_refl _, fun q _ hp => h.2 q (fun e => hp (e ▸ ha))⟩
theorem Chg.ext {P : Nat → Prop} {H H1 : Heap} (h : Chg P H H1) (hP : ∀ q, q < H.size → ¬ P q) : Ext H H1 := ⟨h.1, fun q hq => h.2 q hq (hP q hq)⟩
theorem Chg.mono {P Q : Nat → Prop} {H H1 : Heap} (h : Chg P H H1) (hP : ∀ q, P q → Q q) : Chg Q H H1 := ⟨h.1, fun q hq hn => h.2 q hq (fun x => hn (hP q x))⟩
section KEEP
variable {g : GT} {H H1 : Heap} {a ci k n : Nat} {fs : List Value} {P : Nat → Prop}
theorem Ob.chg (h : Ob g a ci fs H) (c : Chg P H H1) (hn : ¬ P a) : Ob g a ci fs H1 := h.at (c.2 _ h.lt hn)
theorem Ar.chg {f : Nat → Int32} (h : Ar g a k n f H) (c : Chg P H H1) (hn : ¬ P a) : Ar g a k n f H1 := h.at (c.2 _ h.lt hn)
theorem Aq.chg {f : Nat → Option Nat} (h : Aq g a k n f H) (c : Chg P H H1) (hn : ¬ P a) : Aq g a k n f H1 := h.at (c.2 _ h.lt hn)
end KEEP
/-- an offer: never written after its making -/
def OffR (g : GT) (I : Nat → Prop) (f : Nat → Int32) (a : Nat) (H : Heap) : Prop := ∃ v, I a ∧ I v ∧ gLo g ≤ a ∧ gLo g ≤ v ∧ Ob g a 5 [.ref v] H ∧ Ar g v 0 4 f H
theorem OffR.keep {g : GT} {I P : Nat → Prop} {f : Nat → Int32} {a : Nat} {H H1 : Heap} (h : OffR g I f a H) (c : Chg P H H1) (d : ∀ q, I q → ¬ P q) : OffR g I f a H1 := by
  obtain ⟨v, h1, h2, h3, h4, h5, h6⟩ := h
  exact ⟨v, h1, h2, h3, h4, h5.chg c (d _ h1), h6.chg c (d _ h2)⟩
theorem OffR.ext {g : GT} {I : Nat → Prop} {f : Nat → Int32} {a : Nat} {H H1 : Heap} (h : OffR g I f a H) (e : Ext H H1) : OffR g I f a H1 := by
  obtain ⟨v, h1, h2, h3, h4, h5, h6⟩ := h
  exact ⟨v, h1, h2, h3, h4, h5.ext e, h6.ext e⟩
/-- wishes, bounds and weights as a row's -/
def SidR (g : GT) (P : Nat → Prop) (r : Nat → Int32) (a : Nat) (H : Heap) : Prop := ∃ a1 a2 a3 a4, (P a ∧ P a1 ∧ P a2 ∧ P a3 ∧ P a4) ∧ (gLo g ≤ a ∧ gLo g ≤ a1 ∧ gLo g ≤ a2 ∧ gLo g ≤ a3 ∧ gLo g ≤ a4) ∧ (a1 ≠ a2 ∧ a1 ≠ a3 ∧ a1 ≠ a4 ∧ a2 ≠ a3 ∧ a2 ≠ a4 ∧ a3 ≠ a4 ∧ a ≠ a1 ∧ a ≠ a2 ∧ a ≠ a3 ∧ a ≠ a4) ∧ Ob g a 4 [.ref a1, .ref a2, .ref a3, .ref a4] H ∧ Ar g a1 0 4 (mw r) H ∧ Ar g a2 0 4 (mle r) H ∧ Ar g a3 0 4 (mgr r) H ∧ Ar g a4 0 4 (mwe r) H
theorem SidR.keep {g : GT} {P Q : Nat → Prop} {r : Nat → Int32} {a : Nat} {H H1 : Heap} (h : SidR g P r a H) (c : Chg Q H H1) (d : ∀ q, P q → ¬ Q q) : SidR g P r a H1 := by
  obtain ⟨a1, a2, a3, a4, ⟨p0, p1, p2, p3, p4⟩, l, ne, h0, h1, h2, h3, h4⟩ := h
  exact ⟨a1, a2, a3, a4, ⟨p0, p1, p2, p3, p4⟩, l, ne, h0.chg c (d _ p0), h1.chg c (d _ p1), h2.chg c (d _ p2), h3.chg c (d _ p3), h4.chg c (d _ p4)⟩
theorem SidR.ext {g : GT} {P : Nat → Prop} {r : Nat → Int32} {a : Nat} {H H1 : Heap} (h : SidR g P r a H) (e : Ext H H1) : SidR g P r a H1 := by
  obtain ⟨a1, a2, a3, a4, p, l, ne, h0, h1, h2, h3, h4⟩ := h
  exact ⟨a1, a2, a3, a4, p, l, ne, h0.ext e, h1.ext e, h2.ext e, h3.ext e, h4.ext e⟩
/-- a list of n things x 0, x 1, .. -/
def LstR (g : GT) (P : Nat → Prop) (x : Nat → Nat) (n a : Nat) (H : Heap) : Prop := ∃ (mc : Int32) (ar cap : Nat) (f : Nat → Option Nat), P a ∧ gLo g ≤ a ∧ Ob g a 7 [.int mc, .ref ar, .int (nI n)] H ∧ Aq g ar 4 cap f H ∧ n ≤ cap ∧ cap ≤ 1000 ∧ a ≠ ar ∧ (∀ j, j < n → f j = some (x j)) ∧ ((ar = gE g ∧ cap = 0) ∨ (P ar ∧ gLo g ≤ ar ∧ 0 < cap))
theorem LstR.ext {g : GT} {P : Nat → Prop} {x : Nat → Nat} {n a : Nat} {H H1 : Heap} (h : LstR g P x n a H) (e : Ext H H1) : LstR g P x n a H1 := by
  obtain ⟨m, ar, cap, f, h1, h2, h3, h4, h5⟩ := h
  exact ⟨m, ar, cap, f, h1, h2, h3.ext e, h4.ext e, h5⟩
theorem LstR.keep {g : GT} {P Q : Nat → Prop} {x : Nat → Nat} {n a : Nat} {H H1 : Heap} (h : LstR g P x n a H) (c : Chg Q H H1) (d : ∀ q, P q → ¬ Q q) (dE : ¬ Q (gE g)) : LstR g P x n a H1 := by
  obtain ⟨m, ar, cap, f, h1, h2, h3, h4, h5, h6, h7, h8, h9⟩ := h
  refine ⟨m, ar, cap, f, h1, h2, h3.chg c (d _ h1), h4.chg c ?_, h5, h6, h7, h8, h9⟩
  rcases h9 with ⟨rfl, -⟩ | ⟨h9, -⟩
  · exact dE
  · exact d _ h9
/-- a bag of n things -/
def BagR (g : GT) (P : Nat → Prop) (x : Nat → Nat) (n a : Nat) (H : Heap) : Prop := ∃ al, P a ∧ gLo g ≤ a ∧ Ob g a 3 [.ref al] H ∧ LstR g (fun q => P q ∧ q ≠ a) x n al H
theorem BagR.ext {g : GT} {P : Nat → Prop} {x : Nat → Nat} {n a : Nat} {H H1 : Heap} (h : BagR g P x n a H) (e : Ext H H1) : BagR g P x n a H1 := by
  obtain ⟨al, h1, h2, h4, h5⟩ := h
  exact ⟨al, h1, h2, h4.ext e, h5.ext e⟩
theorem BagR.keep {g : GT} {P Q : Nat → Prop} {x : Nat → Nat} {n a : Nat} {H H1 : Heap} (h : BagR g P x n a H) (c : Chg Q H H1) (d : ∀ q, P q → ¬ Q q) (dE : ¬ Q (gE g)) : BagR g P x n a H1 := by
  obtain ⟨al, h1, h2, h4, h5⟩ := h
  exact ⟨al, h1, h2, h4.chg c (d _ h1), h5.keep c (fun q hq => d q hq.1) dE⟩
/-- a state that is as the row r; S are its sides' cells -/
def StR (g : GT) (P I : Nat → Prop) (r : Nat → Int32) (n : Nat) (x : Nat → Nat) (a : Nat) (H : Heap) : Prop := ∃ (b sd : Nat) (S : Nat → Prop), P a ∧ gLo g ≤ a ∧ ¬ S a ∧ (∀ q, S q → P q ∧ q < H.size) ∧ Ob g a 2 [.ref b, .ref sd, .int (r 177), .int (r 178)] H ∧ BagR g (fun q => P q ∧ q ≠ a ∧ ¬ S q) x n b H ∧ SidR g S r sd H ∧ (∀ j, j < n → OffR g I (mv r j) (x j) H) ∧ (∀ i j, i < n → j < n → x i = x j → i = j) ∧ r 160 = nI n ∧ n ≤ 40
theorem StR.ext {g : GT} {P I : Nat → Prop} {r : Nat → Int32} {n : Nat} {x : Nat → Nat} {a : Nat} {H H1 : Heap} (h : StR g P I r n x a H) (e : Ext H H1) : StR g P I r n x a H1 := by
  obtain ⟨b, sd, S, h1, h2, h3, h4, h5, h6, h7, h8, h9⟩ := h
  exact ⟨b, sd, S, h1, h2, h3, fun q hq => ⟨(h4 q hq).1, Nat.lt_of_lt_of_le (h4 q hq).2 e.1⟩, h5.ext e, h6.ext e, h7.ext e, fun j hj => (h8 j hj).ext e, h9⟩
theorem StR.keep {g : GT} {P I Q : Nat → Prop} {r : Nat → Int32} {n : Nat} {x : Nat → Nat} {a : Nat} {H H1 : Heap} (h : StR g P I r n x a H) (c : Chg Q H H1) (d : ∀ q, P q → ¬ Q q) (dI : ∀ q, I q → ¬ Q q) (dE : ¬ Q (gE g)) : StR g P I r n x a H1 := by
  obtain ⟨b, sd, S, h1, h2, h3, h4, h5, h6, h7, h8, h9⟩ := h
  exact ⟨b, sd, S, h1, h2, h3, fun q hq => ⟨(h4 q hq).1, Nat.lt_of_lt_of_le (h4 q hq).2 c.1⟩, h5.chg c (d _ h1), h6.keep c (fun q hq => d q hq.1) dE, h7.keep c (fun q hq => d q (h4 q hq).1), fun j hj => (h8 j hj).keep c dI, h9⟩
