/-! what the system answers is what the model answers -/
theorem cnt_0b (p : Nat → Bool) : ∀ n, decide (cnt p n = 0) = allB (fun j => !p j) n
  | 0 => rfl
  | n + 1 => by
    have e := cnt_0b p n
    show decide (cnt p n + (if p n then 1 else 0) = 0) = (allB (fun j => !p j) n && !p n)
    cases q : p n
    · rw [← e, if_neg (by decide)]; simp
    · rw [if_pos rfl]; simp
theorem jn_bs (r : Nat → Int32) (n i : Nat) : bsN r n (mv r i) = cnt (fun j => beatB r j i) n := by
  have e : couB (mle r) (mgr r) (mv r i) = cB r i := rfl
  unfold bsN
  rw [e]
  cases hc : cB r i
  · rw [if_neg (by decide)]; exact (cnt_ff (fun j => by rw [beat_abv, hc]; simp) n).symm
  · rw [if_pos rfl, range_filter]
    exact cnt_congr (fun j _ => by rw [beat_abv, hc]; show (cB r j && abv r (nI 15) j i) = _; simp)
theorem jn_bn (r : Nat → Int32) (n i : Nat) : bnN r n (mv r i) = cnt (beatB r i) n := by
  have e : couB (mle r) (mgr r) (mv r i) = cB r i := rfl
  unfold bnN
  rw [e]
  cases hc : cB r i
  · rw [if_neg (by decide)]; exact (cnt_ff (fun j => by rw [beat_abv, hc]; simp) n).symm
  · rw [if_pos rfl, range_filter]
    exact cnt_congr (fun j _ => by rw [beat_abv, hc]; show (cB r j && abv r (nI 15) i j) = _; simp)
theorem jn_told (r : Nat → Int32) (n i : Nat) : (couB (mle r) (mgr r) (mv r i) && decide (bsN r n (mv r i) = 0)) = isTB r n i := by
  rw [jn_bs, cnt_0b]; rfl
theorem jn_win {r : Nat → Int32} {n i : Nat} {x : Nat → Nat} (h : RO r n) (hi : i < n) (hinj : ∀ i j, i < n → j < n → x i = x j → i = j) : (winL r n).any (fun j => decide (x j = x i)) = isTB r n i := by
  rw [top_any hinj (fun j hj => List.mem_range.mpr ((win_lt r n).1 j hj)) hi]
  exact win_told h hi
theorem jn_tol (r : Nat → Int32) (n : Nat) : (tolL r (nI 15) (actL r n)).length = cnt (tellB r n (hasB (matI (mw r)))) n := by rw [tol_15, range_filter]
theorem jn_act (r : Nat → Int32) (n : Nat) : (actL r n).length = cnt (cB r) n := by unfold actL; rw [range_filter]
theorem jn_on (r : Nat → Int32) (t : Int32) (n : Nat) : ((actL r n).filter (fun i => !isBt r t (actL r n) i)).length = cnt (tellB r n (hasB (t &&& matI (mw r)))) n := by
  have e := tol_t r t n
  unfold tolL at e
  rw [e, range_filter]
theorem jn_sets (r : Nat → Int32) (n i : Nat) : (if couB (mle r) (mgr r) (mv r i) then cnt (fun z => !btV r (nI (z + 1)) (actL r n) (mv r i)) 15 else 0) = cnt (fun z => tellB r n (hasB (nI (z + 1) &&& matI (mw r))) i) 15 := by
  have e : couB (mle r) (mgr r) (mv r i) = cB r i := rfl
  rw [e]
  cases hc : cB r i
  · rw [if_neg (by decide)]; exact (cnt_ff (fun z => by rw [tell_eq, hc]; rfl) 15).symm
  · rw [if_pos rfl]; exact cnt_congr (fun z _ => by rw [tell_eq, hc, btV_mv]; simp)
theorem jn_fall (r : Nat → Int32) (n : Nat) (v : Nat → Int32) : (if couB (mle r) (mgr r) v then ((tolL r (nI 15) (actL r n)).filter (fun i => beyB (mw r) v (mv r i) (swB (mw r) (nI 15)))).length else 0) = cnt (fun k => couB (mle r) (mgr r) v && (tellB r n (hasB (matI (mw r))) k && decide (agN (mw r) (mv r k) v = 2))) n := by
  cases hc : couB (mle r) (mgr r) v
  · rw [if_neg (by decide)]; exact (cnt_ff (fun z => rfl) n).symm
  · rw [if_pos rfl, tol_15, List.filter_filter, range_filter]
    exact cnt_congr (fun k _ => by rw [ag_2, Bool.true_and, Bool.and_comm])
theorem jn_sum (r : Nat → Int32) (n : Nat) : sumN (fun i => bnN r n (mv r i)) n = sumN (beaN r n) n := by
  congr 1
  funext i
  exact jn_bn r n i
theorem jn_sh (r : Nat → Int32) (n : Nat) : (if (actL r n).length = 0 then FP.dconst0 else FP.ddiv (FP.i2d (nI (tolL r (nI 15) (actL r n)).length)) (FP.i2d (nI (actL r n).length))) = shF (cnt (tellB r n (hasB (matI (mw r)))) n) (cnt (cB r) n) := by
  rw [jn_act, jn_tol]; rfl
theorem noB_lt {n : Nat} {v : Int32} (hn : n ≤ 40) {k : Nat} (hk : k < n) (e : v = nI k) : noB n v = false := by
  subst e
  unfold noB
  rw [show nI n - nI 1 = nI (n - 1) from pk_sub (by omega), inB_n (by omega) (by omega) (by omega), decide_eq_true ⟨Nat.zero_le _, by omega⟩]; rfl
theorem jn_fst {T : Nat → Bool} {n : Nat} {v : Int32} (hn : n ≤ 40) : fstI (fun k => T k && decide (nI (cnt T k) = v)) n = if noB ((List.range n).filter T).length v then (-1) else nI (((List.range n).filter T).getD v.toNatClampNeg 0) := by
  have hl : ((List.range n).filter T).length ≤ 40 := Nat.le_trans (List.length_filter_le _ _) (by rw [List.length_range]; exact hn)
  cases q : noB ((List.range n).filter T).length v
  · obtain ⟨e, hp⟩ := noB_nat hl q
    have := fil_fst (T := T) hn hp
    rw [← e] at this
    rw [this, if_neg (by decide), getD_at hp]
  · rw [if_pos rfl]
    refine fst_no (fun k hk => ?_)
    cases hT : T k
    · rfl
    · rw [Bool.true_and]
      refine decide_eq_false (fun e => ?_)
      obtain ⟨hp, -⟩ := fil_at hk hT
      rw [noB_lt hl hp e.symm] at q
      exact absurd q (by decide)
theorem scr_le {r : Nat → Int32} {n : Nat} (hn : n ≤ 40) : (scrL r n).length ≤ 40 := by rw [scr_len]; exact Nat.le_trans (cnt_le _ _) hn
theorem jn_scr {r : Nat → Int32} {n : Nat} {v : Int32} (hn : n ≤ 40) : fstI (fun k => cB r k && decide (nI (rnkN r n k) = v)) n = if noB (scrL r n).length v then (-1) else nI ((scrL r n).getD v.toNatClampNeg 0) := by
  have hl := scr_le (r := r) hn
  cases q : noB (scrL r n).length v
  · obtain ⟨e, hp⟩ := noB_nat hl q
    have := scr_fst hn hp
    rw [← e] at this
    rw [this, if_neg (by decide), getD_at hp]
  · rw [if_pos rfl]
    refine fst_no (fun k hk => ?_)
    cases hT : cB r k
    · rfl
    · rw [Bool.true_and]
      refine decide_eq_false (fun e => ?_)
      obtain ⟨p, hp, hs⟩ := rnk_scr hk hT
      have := scr_rnk hp
      rw [hs] at this
      rw [this] at e
      rw [noB_lt hl hp e.symm] at q
      exact absurd q (by decide)
theorem tkR_get (r : Nat → Int32) {n k p : Nat} (hp : p < k) : (tkR r n k).getD p 0 = gBs r n (toT r n) p := by
  unfold tkR
  rw [getD_at (by rw [List.length_map, List.length_range]; exact hp), List.getElem_map, List.getElem_range]
/-! what a call answers: a query's ends -/
def OQ (x : Nat × Option Value × MS) : Option Value → Heap → Heap → Prop := fun r H H1 => x.1 = 0 ∧ r = x.2.1 ∧ Ext H H1
def OX (E1 E2 : String) (x : Nat × Option Value × MS) : String → Heap → Heap → Prop := fun E H H1 => ((E = E1 ∧ x.1 = 1) ∨ (E = E2 ∧ x.1 = 2)) ∧ Ext H H1
theorem OQ.q {x : Nat × Option Value × MS} {S : MS} {v : Int32} {r : Option Value} {H H1 : Heap} (h : x = q_ S v) (hr : r = some (.int v)) (hE : Ext H H1) : OQ x r H H1 := by subst h; exact ⟨rfl, hr, hE⟩
theorem s_one_f {S : MS} {n : Nat} {i : Int32} {v : Nat → Int32} (h : noB n i = false) : s_one S n i v = q_ S (v i.toNatClampNeg) := by unfold s_one; rw [h, if_neg (by decide)]
theorem s_one_t {S : MS} {n : Nat} {i : Int32} {v : Nat → Int32} (h : noB n i = true) : (s_one S n i v).1 = 1 := by unfold s_one; rw [if_pos h]; rfl
theorem s_two_f {S : MS} {n : Nat} {i j : Int32} {v : Nat → Nat → Int32} (h : noB n i = false) (h2 : noB n j = false) : s_two S n i j v = q_ S (v i.toNatClampNeg j.toNatClampNeg) := by unfold s_two; rw [h, h2, if_neg (by decide)]
theorem s_two_t {S : MS} {n : Nat} {i j : Int32} {v : Nat → Nat → Int32} (h : (noB n i || noB n j) = true) : (s_two S n i j v).1 = 1 := by unfold s_two; rw [if_pos h]; rfl
theorem s_bad_f {S : MS} {b : Bool} {v : Int32} (h : b = false) : s_bad S b v = q_ S v := by unfold s_bad; rw [h, if_neg (by decide)]
theorem s_bad_t {S : MS} {b : Bool} {v : Int32} (h : b = true) : (s_bad S b v).1 = 1 := by unfold s_bad; rw [if_pos h]; rfl
theorem s_of_f {S : MS} {b : Nat} {q : Int32} (h : noS q = false) : s_of S b q = q_ S (S.1 0 (b + q.toNatClampNeg)) := by unfold s_of; rw [h, if_neg (by decide)]
theorem s_of_t {S : MS} {b : Nat} {q : Int32} (h : noS q = true) : (s_of S b q).1 = 1 := by unfold s_of; rw [if_pos h]; rfl
theorem s_val_f {S : MS} {n : Nat} {i q : Int32} (h : noB n i = false) (h2 : noS q = false) : s_val S n i q = q_ S (S.1 0 (4 * i.toNatClampNeg + q.toNatClampNeg)) := by unfold s_val; rw [h, h2, if_neg (by decide)]
theorem s_val_t {S : MS} {n : Nat} {i q : Int32} (h : (noB n i || noS q) = true) : (s_val S n i q).1 = 1 := by unfold s_val; rw [if_pos h]; rfl
theorem s_fst_t {S : MS} {v : Int32} (h : v = (-1)) : (s_fst S v).1 = 1 := by unfold s_fst; rw [if_pos h]; rfl
theorem s_fst_f {S : MS} {v : Int32} {k : Nat} (hk : k ≤ 1000) (h : v = nI k) : s_fst S v = q_ S (nI k) := by unfold s_fst; rw [h, if_neg (nI_nm1 hk)]
theorem s_inL_t {S : MS} {n : Nat} {v : Int32} (h : v < nI 1) : (s_inL S n v).1 = 1 := by unfold s_inL; rw [if_pos h]; rfl
theorem s_inL_f {S : MS} {n : Nat} {v : Int32} (h : ¬ v < nI 1) : s_inL S n v = q_ S (nI (cnt (fun k => decide (nI (LY (S.1 0) n k) = v)) n)) := by unfold s_inL; rw [if_neg h]
theorem s_raise_1 {S : MS} {n : Nat} {i q : Int32} (h : (noB n i || noS q) = true) : (s_raise S n i q).1 = 1 := by unfold s_raise; rw [if_pos h]; rfl
theorem s_raise_2 {S : MS} {n : Nat} {i q : Int32} (h : noB n i = false) (h2 : noS q = false) (e : (if cB (S.1 0) i.toNatClampNeg && matB (mw (S.1 0)) q.toNatClampNeg then raI (S.1 0) n i.toNatClampNeg q.toNatClampNeg else (-1)) = (-1 : Int32)) : (s_raise S n i q).1 = 2 := by
  unfold s_raise
  rw [h, h2, if_neg (by decide)]
  cases a : cB (S.1 0) i.toNatClampNeg
  · rfl
  · cases b : matB (mw (S.1 0)) q.toNatClampNeg
    · rfl
    · rw [a, b] at e
      rw [show (true && true) = true from rfl, if_pos rfl] at e
      rw [if_neg (by decide), if_pos e]; rfl
theorem s_raise_0 {S : MS} {n : Nat} {i q : Int32} (h : noB n i = false) (h2 : noS q = false) (e : ¬ (if cB (S.1 0) i.toNatClampNeg && matB (mw (S.1 0)) q.toNatClampNeg then raI (S.1 0) n i.toNatClampNeg q.toNatClampNeg else (-1)) = (-1 : Int32)) : s_raise S n i q = q_ S (if cB (S.1 0) i.toNatClampNeg && matB (mw (S.1 0)) q.toNatClampNeg then raI (S.1 0) n i.toNatClampNeg q.toNatClampNeg else (-1)) := by
  unfold s_raise
  rw [h, h2, if_neg (by decide)]
  cases a : cB (S.1 0) i.toNatClampNeg
  · rw [a] at e; exact absurd rfl e
  · cases b : matB (mw (S.1 0)) q.toNatClampNeg
    · rw [a, b] at e; exact absurd rfl e
    · rw [a, b] at e
      rw [show (true && true) = true from rfl, if_pos rfl] at e ⊢
      rw [if_neg (by decide), if_neg e]
theorem s_reach_1 {S : MS} {n : Nat} {a b : Int32} (h : (noS a || noS b) = true) : (s_reach S n a b).1 = 1 := by unfold s_reach; rw [if_pos h]; rfl
theorem s_reach_2 {S : MS} {n : Nat} {a b : Int32} (h : noS a = false) (h2 : noS b = false) (e : (!decide (a.toNatClampNeg = b.toNatClampNeg) && (matB (mw (S.1 0)) a.toNatClampNeg && matB (mw (S.1 0)) b.toNatClampNeg)) = false) : (s_reach S n a b).1 = 2 := by
  unfold s_reach
  rw [h, h2, if_neg (by decide)]
  obtain ⟨e1, e2⟩ := noS_nat h
  obtain ⟨e3, e4⟩ := noS_nat h2
  refine (congrArg (fun z : Nat × Option Value × MS => z.1) (if_pos ?_)).trans rfl
  by_cases q : a.toNatClampNeg = b.toNatClampNeg
  · rw [decide_eq_true (show a = b from e1.trans ((congrArg nI q).trans e3.symm))]; rfl
  · rw [decide_eq_false q] at e
    cases u : matB (mw (S.1 0)) a.toNatClampNeg
    · simp
    · rw [u] at e
      have e : matB (mw (S.1 0)) b.toNatClampNeg = false := e
      rw [e]; simp
theorem s_reach_0 {S : MS} {n : Nat} {a b : Int32} (h : noS a = false) (h2 : noS b = false) (e : (!decide (a.toNatClampNeg = b.toNatClampNeg) && (matB (mw (S.1 0)) a.toNatClampNeg && matB (mw (S.1 0)) b.toNatClampNeg)) = true) : s_reach S n a b = q_ S (reaI (S.1 0) n a.toNatClampNeg b.toNatClampNeg 100) := by
  unfold s_reach
  rw [h, h2, if_neg (by decide)]
  obtain ⟨e1, e2⟩ := noS_nat h
  obtain ⟨e3, e4⟩ := noS_nat h2
  rw [Bool.and_eq_true, Bool.and_eq_true] at e
  obtain ⟨u1, u2, u3⟩ := e
  refine if_neg ?_
  rw [u2, u3]
  intro z
  have z : a = b := by simpa using z
  rw [z] at u1; simp at u1
/-! the OfferSky's world: K tells whose a cell is (1 its own, 2 the deque's, 3 the text's, 4 an offer's, 5 + t the state's at t) -/
theorem StR.row {g : GT} {P I : Nat → Prop} {r r1 : Nat → Int32} {n : Nat} {x : Nat → Nat} {a : Nat} {H : Heap} (h : StR g P I r n x a H) (e : ∀ i, i < 179 → r i = r1 i) : StR g P I r1 n x a H := by
  obtain ⟨b, sd, S, h1, h2, h3, h4, h5, h6, h7, h8, h9, h10, h11⟩ := h
  refine ⟨b, sd, S, h1, h2, h3, h4, ?_, h6, h7.to (fun j a b => e j (by omega)) (fun q z _ => z), fun j hj => (h8 j hj).to (fun q hq => e (4 * j + q) (by omega)) (fun _ z => z), h9, ?_, h11⟩
  · rw [← e 177 (by omega), ← e 178 (by omega)]; exact h5
  · rw [← e 160 (by omega)]; exact h10
theorem RO.row {r r1 : Nat → Int32} {n : Nat} (h : RO r n) (hn : n ≤ 40) (e : ∀ i, i < 179 → r i = r1 i) : RO r1 n := by
  obtain ⟨h1, h2, h3, h4, h5⟩ := h
  refine ⟨fun j hj => by rw [← e j (by omega)]; exact h1 j hj, fun q hq => ?_, fun q hq => ?_, fun q hq => ?_, fun q hq => ?_⟩
  · have := h2 q hq; unfold mw at this ⊢; rw [← e _ (by omega)]; exact this
  · have := h3 q hq; unfold mle at this ⊢; rw [← e _ (by omega)]; exact this
  · have := h4 q hq; unfold mgr at this ⊢; rw [← e _ (by omega)]; exact this
  · have := h5 q hq; unfold mwe at this ⊢; rw [← e _ (by omega)]; exact this
def StK (g : GT) (K : Nat → Nat) (r : Nat → Int32) (n t : Nat) (H : Heap) : Prop := RO r n ∧ ∃ x, StR g (fun q => K q = 5 + t) (fun q => K q = 4) r n x t H
section STK
variable {g : GT} {K K1 : Nat → Nat} {r r1 : Nat → Int32} {n t : Nat} {H H1 : Heap}
theorem StK.facts (h : StK g K r n t H) : r 160 = nI n ∧ n ≤ 40 ∧ RO r n ∧ t < H.size ∧ K t = 5 + t ∧ gLo g ≤ t := by
  obtain ⟨h1, x, h2⟩ := h
  obtain ⟨a1, a2, a3, a4, a5, a6⟩ := h2.facts
  exact ⟨a5, a6, h1, h2.lt, a1, a2⟩
theorem StK.row (h : StK g K r n t H) (e : ∀ i, i < 179 → r i = r1 i) : StK g K r1 n t H := by
  have hn := h.facts.2.1
  obtain ⟨h1, x, h2⟩ := h
  exact ⟨h1.row hn e, x, h2.row e⟩
theorem StK.ext (h : StK g K r n t H) (e : Ext H H1) : StK g K r n t H1 := by
  obtain ⟨h1, x, h2⟩ := h
  exact ⟨h1, x, h2.ext e⟩
theorem StK.keep {Q : Nat → Prop} (h : StK g K r n t H) (c : Chg Q H H1) (d1 : ∀ q, K q = 5 + t → ¬ Q q) (d2 : ∀ q, K q = 4 → ¬ Q q) (dE : ¬ Q (gE g)) : StK g K r n t H1 := by
  obtain ⟨h1, x, h2⟩ := h
  exact ⟨h1, x, h2.keep c d1 d2 dE⟩
theorem StK.re (h : StK g K r n t H) (e : ∀ q, q < H.size → K q = K1 q) : StK g K1 r n t H := by
  obtain ⟨h1, x, h2⟩ := h
  exact ⟨h1, x, h2.mono (fun q a b => by rw [← e q b]; exact a) (fun q a b => by rw [← e q b]; exact a)⟩
theorem StK.re' (h : StK g K r n t H) (e : ∀ q, q < H.size → K q ≠ 0 → K1 q = K q) : StK g K1 r n t H := by
  obtain ⟨h1, x, h2⟩ := h
  exact ⟨h1, x, h2.mono (fun q a b => by rw [e q b (by omega)]; exact a) (fun q a b => by rw [e q b (by omega)]; exact a)⟩
theorem StK.q (h : StK g K r n t H) : ∃ x, StQ g r n x t H := by
  obtain ⟨h1, x, h2⟩ := h
  exact ⟨x, h2.q⟩
end STK
/-- all but the state at hand -/
def SkB (g : GT) (K : Nat → Nat) (fp fk fb : Nat → Int32) (st ln : Nat) (hf hs : Bool) (o sta dq sl bf : Nat) (xs : Nat → Nat) (fs : Nat → Option Nat) (hh : Int64) (H : Heap) : Prop :=
  (Ob g o 1 [.ref sta, .ref dq, .ref sl, .ref bf, .long hh] H ∧ K o = 1 ∧ K sl = 1 ∧ o ≠ sl ∧ gLo g ≤ o ∧ gLo g ≤ sl) ∧
  DqR g (fun q => K q = 2) xs st dq H ∧ BufR g (fun q => K q = 3) fb ln bf H ∧ Aq g sl 5 2 fs H ∧
  (∀ j, j < st → xs j ≠ sta ∧ ∃ m, StK g K (fun i => fp (179 * (st - 1 - j) + i)) m (xs j) H) ∧
  (∀ i j, i < st → j < st → xs i = xs j → i = j) ∧
  (∀ q, q < 2 → if (if q = 0 then hf else hs) then ∃ w m, fs q = some w ∧ w ≠ sta ∧ (∀ j, j < st → xs j ≠ w) ∧ StK g K (fun i => fk (179 * q + i)) m w H else fs q = none)
section SKB
variable {g : GT} {K K1 : Nat → Nat} {fp fk fb : Nat → Int32} {st ln : Nat} {hf hs : Bool} {o sta dq sl bf : Nat} {xs : Nat → Nat} {fs : Nat → Option Nat} {hh : Int64} {H H1 : Heap}
theorem if_map {b : Prop} [Decidable b] {A B C D : Prop} (h : if b then A else B) (h1 : A → C) (h2 : B → D) : if b then C else D := by
  by_cases q : b
  · rw [if_pos q] at h ⊢; exact h1 h
  · rw [if_neg q] at h ⊢; exact h2 h
theorem SkB.ext (h : SkB g K fp fk fb st ln hf hs o sta dq sl bf xs fs hh H) (e : Ext H H1) : SkB g K fp fk fb st ln hf hs o sta dq sl bf xs fs hh H1 := by
  obtain ⟨⟨a1, a2⟩, b, c, d, x, y, z⟩ := h
  exact ⟨⟨a1.ext e, a2⟩, b.ext e, c.ext e, d.ext e, fun j hj => ⟨(x j hj).1, (x j hj).2.elim fun m hm => ⟨m, hm.ext e⟩⟩, y, fun q hq => if_map (z q hq) (fun ⟨w, m, u1, u2, u3, u4⟩ => ⟨w, m, u1, u2, u3, u4.ext e⟩) (fun u => u)⟩
theorem SkB.keep {Q : Nat → Prop} (h : SkB g K fp fk fb st ln hf hs o sta dq sl bf xs fs hh H) (c : Chg Q H H1) (d : ∀ q, K q ≠ 0 → K q ≠ 5 + sta → ¬ Q q) (dE : ¬ Q (gE g)) : SkB g K fp fk fb st ln hf hs o sta dq sl bf xs fs hh H1 := by
  obtain ⟨⟨a1, a2, a3, a4⟩, b, b2, b3, x, y, z⟩ := h
  have d4 : ∀ q, K q = 4 → ¬ Q q := fun q hq => d q (by omega) (by omega)
  refine ⟨⟨a1.chg c (d _ (by omega) (by omega)), a2, a3, a4⟩, b.keep c (fun q hq => d q (by omega) (by omega)), b2.keep c (fun q hq => d q (by omega) (by omega)), b3.chg c (d _ (by omega) (by omega)), fun j hj => ⟨(x j hj).1, (x j hj).2.elim fun m hm => ⟨m, hm.keep c (fun q hq => d q (by omega) (by have := (x j hj).1; omega)) d4 dE⟩⟩, y, fun q hq => if_map (z q hq) (fun ⟨w, m, u1, u2, u3, u4⟩ => ⟨w, m, u1, u2, u3, u4.keep c (fun q hq => d q (by omega) (by omega)) d4 dE⟩) (fun u => u)⟩
theorem SkB.re (h : SkB g K fp fk fb st ln hf hs o sta dq sl bf xs fs hh H) (e : ∀ q, q < H.size → K q = K1 q) : SkB g K1 fp fk fb st ln hf hs o sta dq sl bf xs fs hh H := by
  obtain ⟨⟨a1, a2, a3, a4⟩, b, b2, b3, x, y, z⟩ := h
  exact ⟨⟨a1, by rw [← e _ a1.lt]; exact a2, by rw [← e _ b3.lt]; exact a3, a4⟩, b.to (fun _ _ => rfl) (fun q u v => by rw [← e q v]; exact u), b2.to (fun q u v => by rw [← e q v]; exact u), b3, fun j hj => ⟨(x j hj).1, (x j hj).2.elim fun m hm => ⟨m, hm.re e⟩⟩, y, fun q hq => if_map (z q hq) (fun ⟨w, m, u1, u2, u3, u4⟩ => ⟨w, m, u1, u2, u3, u4.re e⟩) (fun u => u)⟩
theorem SkB.re' (h : SkB g K fp fk fb st ln hf hs o sta dq sl bf xs fs hh H) (e : ∀ q, q < H.size → K q ≠ 0 → K1 q = K q) : SkB g K1 fp fk fb st ln hf hs o sta dq sl bf xs fs hh H := by
  obtain ⟨⟨a1, a2, a3, a4⟩, b, b2, b3, x, y, z⟩ := h
  have e2 : ∀ q c, c ≠ 0 → K q = c → q < H.size → K1 q = c := fun q c h0 h1 h2 => by rw [e q h2 (by omega)]; exact h1
  exact ⟨⟨a1, e2 _ _ (by omega) a2 a1.lt, e2 _ _ (by omega) a3 b3.lt, a4⟩, b.to (fun _ _ => rfl) (fun q u v => e2 q 2 (by omega) u v), b2.to (fun q u v => e2 q 3 (by omega) u v), b3, fun j hj => ⟨(x j hj).1, (x j hj).2.elim fun m hm => ⟨m, hm.re' e⟩⟩, y, fun q hq => if_map (z q hq) (fun ⟨w, m, u1, u2, u3, u4⟩ => ⟨w, m, u1, u2, u3, u4.re' e⟩) (fun u => u)⟩
end SKB
/-- the OfferSky at o is as the model's state S; F: cells that are not its -/
def SkK (g : GT) (F : Nat → Prop) (S : MS) (n st ln : Nat) (hf hs : Bool) (o : Nat) (K : Nat → Nat) (sta dq sl bf : Nat) (xs : Nat → Nat) (fs : Nat → Option Nat) (hh : Int64) (H : Heap) : Prop := (∀ q, (q < gLo g ∨ F q) → K q = 0) ∧ (∀ q, F q → q < H.size) ∧ SkB g K (S.1 2) (S.1 3) (S.1 4) st ln hf hs o sta dq sl bf xs fs hh H ∧ StK g K (S.1 0) n sta H ∧ (S.2.1 12 = nI st ∧ S.2.1 13 = nI ln ∧ S.2.1 10 = bI hf ∧ S.2.1 11 = bI hs)
def SkR (g : GT) (F : Nat → Prop) (S : MS) (n st ln : Nat) (hf hs : Bool) (o : Nat) (H : Heap) : Prop := ∃ (K : Nat → Nat) (sta dq sl bf : Nat) (xs : Nat → Nat) (fs : Nat → Option Nat) (hh : Int64), SkK g F S n st ln hf hs o K sta dq sl bf xs fs hh H
def SkX (g : GT) (F : Nat → Prop) (S : MS) (o : Nat) (H : Heap) : Prop := ∃ n st ln hf hs, SkR g F S n st ln hf hs o H
section SKR
variable {g : GT} {F : Nat → Prop} {S S1 : MS} {n st ln : Nat} {hf hs : Bool} {o : Nat} {H H1 : Heap}
theorem SkR.ext (h : SkR g F S n st ln hf hs o H) (e : Ext H H1) : SkR g F S n st ln hf hs o H1 := by
  obtain ⟨K, sta, dq, sl, bf, xs, fs, hh, h1, h2, h3, h4, h5⟩ := h
  exact ⟨K, sta, dq, sl, bf, xs, fs, hh, h1, fun q hq => Nat.lt_of_lt_of_le (h2 q hq) e.1, h3.ext e, h4.ext e, h5⟩
theorem SkR.keep {Q : Nat → Prop} (h : SkR g F S n st ln hf hs o H) (c : Chg Q H H1) (d : ∀ q, Q q → F q) (hE : gE g < gLo g) (hFl : ∀ q, F q → gLo g ≤ q) : SkR g F S n st ln hf hs o H1 := by
  obtain ⟨K, sta, dq, sl, bf, xs, fs, hh, h1, h2, h3, h4, h5⟩ := h
  have dE : ¬ Q (gE g) := fun y => by have := hFl _ (d _ y); omega
  have k : ∀ q, K q ≠ 0 → ¬ Q q := fun q hq y => hq (h1 q (Or.inr (d q y)))
  exact ⟨K, sta, dq, sl, bf, xs, fs, hh, h1, fun q hq => Nat.lt_of_lt_of_le (h2 q hq) c.1, h3.keep c (fun q hq _ => k q hq) dE, h4.keep c (fun q hq => k q (by omega)) (fun q hq => k q (by omega)) dE, h5⟩
theorem SkR.sc (h : SkR g F S n st ln hf hs o H) (e : Sc S S1) : SkR g F S1 n st ln hf hs o H := by
  obtain ⟨e0, e2, e3, e4, e10, e11, e12, e13⟩ := e
  obtain ⟨K, sta, dq, sl, bf, xs, fs, hh, h1, h2, h3, h4, h5⟩ := h
  refine ⟨K, sta, dq, sl, bf, xs, fs, hh, h1, h2, ?_, ?_, ?_⟩
  · rw [e2, e3, e4]; exact h3
  · rw [e0]; exact h4
  · rw [e10, e11, e12, e13]; exact h5
/-- what the model's calls ask -/
theorem SkR.mi (h : SkR g F S n st ln hf hs o H) : S.1 0 160 = nI n ∧ n ≤ 40 ∧ RO (S.1 0) n ∧ S.2.1 12 = nI st ∧ st ≤ 6 ∧ S.2.1 13 = nI ln ∧ ln ≤ 60 ∧ S.2.1 10 = bI hf ∧ S.2.1 11 = bI hs := by
  obtain ⟨K, sta, dq, sl, bf, xs, fs, hh, h1, h2, h3, h4, h5, h6, h7, h8⟩ := h
  obtain ⟨-, ⟨ar, hd, f, p1, p2, p3, p4, p5, p6, p7, p8⟩, b2, -⟩ := h3
  obtain ⟨a1, a2, a3, -⟩ := h4.facts
  exact ⟨a1, a2, a3, h5, p7, h6, b2.chr.1, h7, h8⟩
/-- what its queries see -/
theorem SkR.v (h : SkR g F S n st ln hf hs o H) : ∃ (sta dq sl bf : Nat) (x : Nat → Nat) (hh : Int64) (PB PD : Nat → Prop) (xs : Nat → Nat) (fs : Nat → Option Nat), Ob g o 1 [.ref sta, .ref dq, .ref sl, .ref bf, .long hh] H ∧ StQ g (S.1 0) n x sta H ∧ RO (S.1 0) n ∧ n ≤ 40 ∧ BufR g PB (S.1 4) ln bf H ∧ (∀ q, PB q → q < H.size ∧ q ≠ o) ∧ DqR g PD xs st dq H ∧ Aq g sl 5 2 fs H ∧ (fs 0 = none ↔ hf = false) ∧ (fs 1 = none ↔ hs = false) ∧ gLo g ≤ o := by
  obtain ⟨K, sta, dq, sl, bf, xs, fs, hh, h1, h2, h3, h4, h5⟩ := h
  obtain ⟨⟨a1, a2, a3, a4, a5, a6⟩, b, b2, b3, x, y, z⟩ := h3
  obtain ⟨c1, c2, c3, -⟩ := h4.facts
  obtain ⟨xx, hxx⟩ := h4.q
  refine ⟨sta, dq, sl, bf, xx, hh, fun q => K q = 3 ∧ q < H.size, _, xs, fs, a1, hxx, c3, c2, b2.to (fun q u v => ⟨u, v⟩), fun q hq => ⟨hq.2, fun e => by have := hq.1; rw [e, a2] at this; omega⟩, b, b3, ?_, ?_, a5⟩
  · have := z 0 (by omega)
    rw [if_pos rfl] at this
    cases hf
    · rw [if_neg (by decide)] at this; exact ⟨fun _ => rfl, fun _ => this⟩
    · rw [if_pos rfl] at this
      obtain ⟨w, m, u, -⟩ := this
      exact ⟨fun e => by rw [u] at e; (cases e), fun e => by cases e⟩
  · have := z 1 (by omega)
    rw [show (if (1 : Nat) = 0 then hf else hs) = hs from if_neg (by decide)] at this
    cases hs
    · rw [if_neg (by decide)] at this; exact ⟨fun _ => rfl, fun _ => this⟩
    · rw [if_pos rfl] at this
      obtain ⟨w, m, u, -⟩ := this
      exact ⟨fun e => by rw [u] at e; (cases e), fun e => by cases e⟩
end SKR
def OpP (g : GT) (F : Nat → Prop) (o : Nat) (x : Nat × Option Value × MS) : Option Value → Heap → Heap → Prop := fun r H H1 => x.1 = 0 ∧ r = x.2.1 ∧ SkX g F x.2.2 o H1 ∧ Chg (fun q => ¬ F q) H H1
def OpX (g : GT) (F : Nat → Prop) (o : Nat) (E1 E2 : String) (x : Nat × Option Value × MS) : String → Heap → Heap → Prop := fun E H H1 => ((E = E1 ∧ x.1 = 1) ∨ (E = E2 ∧ x.1 = 2)) ∧ SkX g F x.2.2 o H1 ∧ Chg (fun q => ¬ F q) H H1
/-- the OfferSky and its state, as helpers see them -/
def SkV (g : GT) (ro : Nat → Int32) (n : Nat) (x : Nat → Nat) (o sta dq sl bf : Nat) (hh : Int64) (H : Heap) : Prop := Ob g o 1 [.ref sta, .ref dq, .ref sl, .ref bf, .long hh] H ∧ StQ g ro n x sta H
