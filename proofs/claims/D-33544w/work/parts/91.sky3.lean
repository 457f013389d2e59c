/-! rows stay in range -/
theorem RO.mk' {r : Nat → Int32} {n : Nat} (h1 : ∀ i, i < n → ∀ q, q < 4 → inB (mv r i q) (nI 0) (nI 99) = true) (h2 : ∀ q, q < 4 → inB (mw r q) (nI 0) (nI 2) = true) (h3 : ∀ q, q < 4 → inB (mle r q) (nI 0) (nI 99) = true) (h4 : ∀ q, q < 4 → inB (mgr r q) (nI 0) (nI 99) = true) (h5 : ∀ q, q < 4 → inB (mwe r q) (nI 0) (nI 9) = true) : RO r n :=
  ⟨fun j hj => by
    have := h1 (j / 4) (by omega) (j % 4) (by omega)
    unfold mv at this
    rw [show 4 * (j / 4) + j % 4 = j by omega] at this; exact this, h2, h3, h4, h5⟩
theorem RO.mv' {r : Nat → Int32} {n i q : Nat} (h : RO r n) (hi : i < n) (hq : q < 4) : inB (mv r i q) (nI 0) (nI 99) = true := h.1 (4 * i + q) (by omega)
theorem RO.hi {r r1 : Nat → Int32} {n k : Nat} (h : RO r n) (e : ∀ j, 161 ≤ j → j < 177 → r1 j = r j) (h1 : ∀ i, i < k → ∀ q, q < 4 → inB (mv r1 i q) (nI 0) (nI 99) = true) : RO r1 k :=
  RO.mk' h1 (fun q hq => by unfold mw; rw [e _ (by omega) (by omega)]; exact h.2.1 q hq) (fun q hq => by unfold mle; rw [e _ (by omega) (by omega)]; exact h.2.2.1 q hq) (fun q hq => by unfold mgr; rw [e _ (by omega) (by omega)]; exact h.2.2.2.1 q hq) (fun q hq => by unfold mwe; rw [e _ (by omega) (by omega)]; exact h.2.2.2.2 q hq)
theorem noVs_in {a b c d : Int32} (h : noVs a b c d = false) : ∀ q, q < 4 → inB (amI a b c d q) (nI 0) (nI 99) = true := by
  unfold noVs at h
  rw [Bool.or_eq_false_iff, Bool.or_eq_false_iff, Bool.or_eq_false_iff] at h
  obtain ⟨⟨⟨h1, h2⟩, h3⟩, h4⟩ := h
  intro q hq
  have : q = 0 ∨ q = 1 ∨ q = 2 ∨ q = 3 := by omega
  rcases this with rfl | rfl | rfl | rfl
  · show inB a _ _ = true; simpa using h1
  · show inB b _ _ = true; simpa using h2
  · show inB c _ _ = true; simpa using h3
  · show inB d _ _ = true; simpa using h4
theorem RO_add {r : Nat → Int32} {n : Nat} {a b c d : Int32} (h : RO r n) (hn : n < 40) (hv : ∀ q, q < 4 → inB (amI a b c d q) (nI 0) (nI 99) = true) : RO (addR r n a b c d) (n + 1) := by
  refine h.hi (fun k h1 h2 => addR_hi r a b c d hn h1 (by omega)) (fun i hi q hq => ?_)
  by_cases e : i = n
  · subst e
    rw [show mv (addR r i a b c d) i q = amI a b c d q from addR_n r (amI a b c d) hn hq]; exact hv q hq
  · rw [show mv (addR r n a b c d) i q = mv r i q from addR_lo r (amI a b c d) hn (by omega) hq]; exact h.mv' (by omega) hq
theorem RO_del {r : Nat → Int32} {n i : Nat} (h : RO r n) (hn : n ≤ 40) (hi : i < n) : RO (delR r n i) (n - 1) :=
  h.hi (fun k h1 h2 => delR_hi r hn h1 (by omega)) (fun j hj q hq => by rw [delR_mv r hn hi hj hq]; exact h.mv' (by split <;> omega) hq)
theorem RO_val {r : Nat → Int32} {n i q0 : Nat} {v : Int32} (h : RO r n) (hn : n ≤ 40) (hi : i < n) (hq0 : q0 < 4) (hv : inB v (nI 0) (nI 99) = true) : RO (upd r (4 * i + q0) v) n :=
  h.hi (fun k h1 h2 => upd_n _ _ (by omega)) (fun j hj q hq => by
    unfold mv
    by_cases e : 4 * j + q = 4 * i + q0
    · rw [e, upd_s]; exact hv
    · rw [upd_n _ _ e]; exact h.mv' hj hq)
theorem RO_w {r : Nat → Int32} {n q0 : Nat} {v : Int32} (h : RO r n) (hn : n ≤ 40) (hq0 : q0 < 4) (hv : inB v (nI 0) (nI 2) = true) : RO (upd r (161 + q0) v) n :=
  RO.mk' (fun i hi q hq => by unfold mv; rw [upd_n _ _ (by omega)]; exact h.mv' hi hq) (fun q hq => by
    unfold mw
    by_cases e : q = q0
    · rw [e, upd_s]; exact hv
    · rw [upd_n _ _ (by omega)]; exact h.2.1 q hq) (fun q hq => by unfold mle; rw [upd_n _ _ (by omega)]; exact h.2.2.1 q hq) (fun q hq => by unfold mgr; rw [upd_n _ _ (by omega)]; exact h.2.2.2.1 q hq) (fun q hq => by unfold mwe; rw [upd_n _ _ (by omega)]; exact h.2.2.2.2 q hq)
theorem RO_we {r : Nat → Int32} {n q0 : Nat} {v : Int32} (h : RO r n) (hn : n ≤ 40) (hq0 : q0 < 4) (hv : inB v (nI 0) (nI 9) = true) : RO (upd r (173 + q0) v) n :=
  RO.mk' (fun i hi q hq => by unfold mv; rw [upd_n _ _ (by omega)]; exact h.mv' hi hq) (fun q hq => by unfold mw; rw [upd_n _ _ (by omega)]; exact h.2.1 q hq) (fun q hq => by unfold mle; rw [upd_n _ _ (by omega)]; exact h.2.2.1 q hq) (fun q hq => by unfold mgr; rw [upd_n _ _ (by omega)]; exact h.2.2.2.1 q hq) (fun q hq => by
    unfold mwe
    by_cases e : q = q0
    · rw [e, upd_s]; exact hv
    · rw [upd_n _ _ (by omega)]; exact h.2.2.2.2 q hq)
theorem RO_b {r : Nat → Int32} {n q0 : Nat} {v u : Int32} (h : RO r n) (hn : n ≤ 40) (hq0 : q0 < 4) (hv : inB v (nI 0) (nI 99) = true) (hu : inB u (nI 0) (nI 99) = true) : RO (upd (upd r (165 + q0) v) (169 + q0) u) n :=
  RO.mk' (fun i hi q hq => by unfold mv; rw [upd_n _ _ (by omega), upd_n _ _ (by omega)]; exact h.mv' hi hq) (fun q hq => by unfold mw; rw [upd_n _ _ (by omega), upd_n _ _ (by omega)]; exact h.2.1 q hq) (fun q hq => by
    unfold mle
    rw [upd_n _ _ (by omega)]
    by_cases e : q = q0
    · rw [e, upd_s]; exact hv
    · rw [upd_n _ _ (by omega)]; exact h.2.2.1 q hq) (fun q hq => by
    unfold mgr
    by_cases e : q = q0
    · rw [e, upd_s]; exact hu
    · rw [upd_n _ _ (by omega), upd_n _ _ (by omega)]; exact h.2.2.2.1 q hq) (fun q hq => by unfold mwe; rw [upd_n _ _ (by omega), upd_n _ _ (by omega)]; exact h.2.2.2.2 q hq)
theorem RO_pr {r : Nat → Int32} {n : Nat} (p : Nat → Bool) (h : RO r n) (hn : n ≤ 40) : RO (prD r n p n).1 (prD r n p n).2 := by
  obtain ⟨p1, p2, p3, p4⟩ := prD_row (r := r) p hn n (Nat.le_refl n)
  rw [Nat.sub_self, drL_0] at p1 p2
  exact h.hi (fun k h1 h2 => p3 k h1 (by omega)) (fun i hi q hq => by rw [p2 i hi q hq]; exact h.mv' (List.mem_range.mp (List.mem_filter.mp (getD_mem (by rw [← p1]; exact hi))).1) hq)
theorem nb_ok {f : Nat → Int32} {n k t : Nat} (ht : 9 ≤ t) (ht2 : t ≤ 99) (h : (pnS f n k t).1 = true) : ∃ m, m ≤ t ∧ nbI f n k t = nI m := by
  rcases num_lo (f := f) (n := n) (i := k) (k := 0) ht ht2 with ⟨-, h2, -⟩ | ⟨h1, -⟩
  · exact h2
  · rw [h] at h1; exact absurd h1 (by decide)
theorem nb_in {f : Nat → Int32} {n k t : Nat} (ht : 9 ≤ t) (ht2 : t ≤ 99) (h : (pnS f n k t).1 = true) : inB (nbI f n k t) (nI 0) (nI 99) = true := by
  obtain ⟨m, h1, h2⟩ := nb_ok ht ht2 h
  rw [h2, inB_n (by omega) (by omega) (by omega)]; exact decide_eq_true ⟨Nat.zero_le _, by omega⟩
theorem nh_in {f : Nat → Int32} {n i t0 : Nat} (ht : t0 ≤ 99) (h : (pfS f n i (nI t0)).1 = true) : inB (numI f i ((pfS f n i (nI t0)).2 - i)) (nI 0) (nI 99) = true := by
  obtain ⟨-, h1⟩ := num_hi (f := f) (n := n) (i := i) (k := 0) ht
  rcases h1 with ⟨-, m, h2, h3, -, h5⟩ | ⟨h1, -⟩
  · rw [h5, inB_n (by omega) (by omega) (by omega)]; exact decide_eq_true ⟨Nat.zero_le _, by omega⟩
  · rw [h] at h1; exact absurd h1 (by decide)
theorem wi_in (f : Nat → Int32) (i : Nat) : inB (wiI f i) (nI 0) (nI 2) = true := by
  unfold wiI
  split
  · decide
  · split <;> decide
theorem RO_fol {f : Nat → Int32} {n i : Nat} {r : Nat → Int32} {N : Nat} (h : RO r N) (hN : N ≤ 40) (hp : (ptS f n i).1 = true) : RO (folR f n i r N).2.1 (folR f n i r N).2.2 := by
  by_cases e1 : f i = nI 97
  · rw [fol_a e1]
    by_cases q : N < 40
    · rw [if_pos q]
      obtain ⟨h1, h2, h3, h4⟩ := pa_inv (pt_inv hp).1 (pt_a hp e1).1
      refine RO_add h q (fun z hz => ?_)
      have : z = 0 ∨ z = 1 ∨ z = 2 ∨ z = 3 := by omega
      rcases this with rfl | rfl | rfl | rfl
      · exact nb_in (by omega) (by omega) h1.1
      · exact nb_in (by omega) (by omega) h2.1
      · exact nb_in (by omega) (by omega) h3.1
      · exact nb_in (by omega) (by omega) h4.1
    · rw [if_neg q]; exact h
  · by_cases e2 : f i = nI 114
    · rw [fol_r e2]
      cases q : noB N (nbI f n (i + 1) 39)
      · rw [if_neg (by decide)]
        exact RO_del h hN (noB_nat hN q).2
      · rw [if_pos rfl]; exact h
    · obtain ⟨hs, -⟩ := pt_wb hp e1 e2
      have hq := (sd_ok hs).2
      by_cases e3 : f i = nI 119
      · rw [fol_w e3]; exact RO_w h hN hq (wi_in f i)
      · obtain ⟨hb, he⟩ := pt_b hp e1 e2 e3
        obtain ⟨-, -, ⟨b1, -⟩, ⟨b2, -, -, b3⟩⟩ := pb_inv hb
        have e4 : folR f n i r N = (true, upd (upd r (165 + sdN f i) (nbI f n (i + 3) 99)) (169 + sdN f i) (numI f (a1N f n (i + 2) + 1) ((ptS f n i).2 - (a1N f n (i + 2) + 1))), N) := by
          unfold folR; rw [if_neg e1, if_neg e2, if_neg e3]
        rw [e4]
        refine RO_b h hN hq (nb_in (by omega) (by omega) b1) ?_
        obtain ⟨m, m1, m2⟩ := nb_ok (by omega) (by omega) b1
        rw [m2] at b2 b3
        rw [he, b3]
        exact nh_in m1 b2
theorem RO_folG {f : Nat → Int32} {n : Nat} (hn : n ≤ 60) : ∀ k i (r : Nat → Int32) N, i ≤ n → n ≤ i + k → RO r N → r 160 = nI N → N ≤ 40 → (fauG f n (k + 1) i).1 = (-1) → RO (folG f n (k + 1) i r N).2.1 (folG f n (k + 1) i r N).2.2 := fun k => by
  induction k with
  | zero =>
    intro i r N hi hk h h16 hN hf
    have := (pt_inv (fau_inv hn hi hf).1).1
    omega
  | succ k ih =>
    intro i r N hi hk h h16 hN hf
    obtain ⟨hp, hr⟩ := fau_inv hn hi hf
    have hil := (pt_inv hp).1
    have hR := RO_fol h hN hp
    obtain ⟨h1, h2⟩ := folR_N (f := f) (n := n) (i := i) h16 hN
    cases hc : (folR f n i r N).1
    · rw [folG, if_pos hil, hc, if_neg (by decide)]; exact hR
    · rw [folG_s hil hc]
      rcases hr with e | ⟨l1, l2, l3⟩
      · rw [folG_end (by omega)]; exact hR
      · have := ptS_lt hi hp
        exact ih _ _ _ (by omega) (by omega) hR h1 h2 l3
/-! the world changed -/
theorem sc_up {S : MS} {st : Nat} {r : Nat → Int32} : Sc (uA (upR S st (S.1 0)) 0 r) (upR S st r) := ⟨rfl, rfl, rfl, rfl, rfl, rfl, rfl, rfl⟩
theorem rec_at {f r : Nat → Int32} {st i : Nat} (hs : st ≤ 6) (hi : i < 179) : recP f r st (179 * recN st + i) = r i := by
  unfold recP putP
  rw [if_pos (by omega)]; congr 1; omega
theorem rec_lo {f r : Nat → Int32} {st i : Nat} (hs : st ≤ 6) (hi : i < 179 * recN st) : recP f r st i = if st = 6 then f (179 + i) else f i := by
  unfold recP putP
  rw [if_neg (by omega)]
  by_cases e : st = 6
  · rw [if_pos e, if_pos e]; unfold shP; rw [if_pos (by subst e; unfold recN at hi; rw [if_pos rfl] at hi; omega)]
  · rw [if_neg e, if_neg e]
section WCH
variable {g : GT} {K K1 : Nat → Nat} {fp fp1 fk fb : Nat → Int32} {st ln : Nat} {hf hs : Bool} {o sta dq sl bf : Nat} {xs : Nat → Nat} {fs : Nat → Option Nat} {hh : Int64} {H H1 Hz : Heap}
/-- the eldest saved state forgotten -/
theorem SkB.popL (h : SkB g K fp fk fb (st + 1) ln hf hs o sta dq sl bf xs fs hh H) (c : Chg (fun q => K q = 2) H H1) (hd : DqR g (fun q => K q = 2) xs st dq H1) (hE : K (gE g) = 0) : SkB g K (fun i => fp (179 + i)) fk fb st ln hf hs o sta dq sl bf xs fs hh H1 := by
  obtain ⟨⟨a1, a2, a3, a4⟩, b, b2, b3, x, y, z⟩ := h
  have d4 : ∀ q, K q = 4 → ¬ K q = 2 := fun q hq => by omega
  have d5 : ∀ t, ∀ q, K q = 5 + t → ¬ K q = 2 := fun t q hq => by omega
  refine ⟨⟨a1.chg c (by omega), a2, a3, a4⟩, hd, b2.keep c (fun q hq => by omega), b3.chg c (by omega), fun j hj => ⟨(x j (by omega)).1, (x j (by omega)).2.elim fun m hm => ⟨m, (hm.keep c (d5 _) d4 (by omega)).row (fun i _ => congrArg fp (by omega))⟩⟩, fun i j hi hj => y i j (by omega) (by omega), fun q hq => if_map (z q hq) (fun ⟨w, m, u1, u2, u3, u4⟩ => ⟨w, m, u1, u2, fun j hj => u3 j (by omega), u4.keep c (d5 _) d4 (by omega)⟩) (fun u => u)⟩
/-- the latest saved state taken back -/
theorem SkB.undo {H2 : Heap} (h : SkB g K fp fk fb (st + 1) ln hf hs o sta dq sl bf xs fs hh H) (c : Chg (fun q => K q = 2) H H1) (hd : DqR g (fun q => K q = 2) (fun j => xs (j + 1)) st dq H1) (c2 : Chg (fun q => q = o) H1 H2) (ob : Ob g o 1 [.ref (xs 0), .ref dq, .ref sl, .ref bf, .long hh] H2) (hE : K (gE g) = 0) (hlo : gE g < gLo g) : SkB g K fp fk fb st ln hf hs o (xs 0) dq sl bf (fun j => xs (j + 1)) fs hh H2 ∧ ∃ m, StK g K (fun i => fp (179 * st + i)) m (xs 0) H2 := by
  obtain ⟨⟨a1, a2, a3, a4, a5, a6⟩, b, b2, b3, x, y, z⟩ := h
  have d4 : ∀ q, K q = 4 → ¬ K q = 2 := fun q hq => by omega
  have d5 : ∀ t, ∀ q, K q = 5 + t → ¬ K q = 2 := fun t q hq => by omega
  have k : ∀ q, K q ≠ 1 → ¬ q = o := fun q hq e => hq (by rw [e]; exact a2)
  have kk : ∀ {r : Nat → Int32} {m t : Nat}, StK g K r m t H → StK g K r m t H2 := fun hm => (hm.keep c (d5 _) d4 (by omega)).keep c2 (fun q hq => k q (by omega)) (fun q hq => k q (by omega)) (by omega)
  refine ⟨⟨⟨ob, a2, a3, a4, a5, a6⟩, hd.keep c2 (fun q hq => k q (by omega)), (b2.keep c (fun q hq => by omega)).keep c2 (fun q hq => k q (by omega)), (b3.chg c (by omega)).chg c2 (Ne.symm a4), fun j hj => ⟨fun e => by have := y _ _ (by omega) (by omega) e; omega, (x (j + 1) (by omega)).2.elim fun m hm => ⟨m, (kk hm).row (fun i _ => congrArg fp (by omega))⟩⟩, fun i j hi hj e => by have := y _ _ (by omega) (by omega) e; omega, fun q hq => if_map (z q hq) (fun ⟨w, m, u1, u2, u3, u4⟩ => ⟨w, m, u1, fun e => u3 0 (by omega) e.symm, fun j hj => u3 _ (by omega), kk u4⟩) (fun u => u)⟩, ?_⟩
  obtain ⟨m, hm⟩ := (x 0 (by omega)).2
  exact ⟨m, (kk hm).row (fun i _ => congrArg fp (by omega))⟩
/-- a slot written -/
theorem SkB.slot {v t m : Nat} {r fk1 : Nat → Int32} (h : SkB g K fp fk fb st ln hf hs o sta dq sl bf xs fs hh H) (c : Chg (fun q => q = sl) H H1) (ha : Aq g sl 5 2 (va_up fs v (some t)) H1) (ht : StK g K r m t H) (hv : v < 2) (n1 : t ≠ sta) (n2 : ∀ j, j < st → xs j ≠ t) (e1 : ∀ i, i < 179 → r i = fk1 (179 * v + i)) (e2 : ∀ q, q < 2 → q ≠ v → ∀ i, i < 179 → fk (179 * q + i) = fk1 (179 * q + i)) (hlo : gE g < gLo g) : SkB g K fp fk1 fb st ln (hf || decide (v = 0)) (hs || decide (v = 1)) o sta dq sl bf xs (va_up fs v (some t)) hh H1 := by
  obtain ⟨⟨a1, a2, a3, a4, a5, a6⟩, b, b2, b3, x, y, z⟩ := h
  have k : ∀ q, K q ≠ 1 → ¬ q = sl := fun q hq e => hq (by rw [e]; exact a3)
  have kk : ∀ {r : Nat → Int32} {m t : Nat}, StK g K r m t H → StK g K r m t H1 := fun hm => hm.keep c (fun q hq => k q (by omega)) (fun q hq => k q (by omega)) (by omega)
  refine ⟨⟨a1.chg c a4, a2, a3, a4, a5, a6⟩, b.keep c (fun q hq => k q (by omega)), b2.keep c (fun q hq => k q (by omega)), ha, fun j hj => ⟨(x j hj).1, (x j hj).2.elim fun m hm => ⟨m, kk hm⟩⟩, y, fun q hq => ?_⟩
  by_cases e : q = v
  · have f1 : (if q = 0 then (hf || decide (v = 0)) else (hs || decide (v = 1))) = true := by
      by_cases q0 : q = 0
      · rw [if_pos q0, decide_eq_true (by omega)]; simp
      · rw [if_neg q0, show decide (v = 1) = true from decide_eq_true (by omega)]; simp
    rw [f1, if_pos rfl]
    exact ⟨t, m, by unfold va_up; rw [if_pos e], n1, n2, (kk ht).row (fun i hi => by rw [e]; exact e1 i hi)⟩
  · have f1 : (if q = 0 then (hf || decide (v = 0)) else (hs || decide (v = 1))) = (if q = 0 then hf else hs) := by
      by_cases q0 : q = 0
      · rw [if_pos q0, if_pos q0, decide_eq_false (by omega)]; simp
      · rw [if_neg q0, if_neg q0, show decide (v = 1) = false from decide_eq_false (by omega)]; simp
    rw [f1]
    have e3 : va_up fs v (some t) q = fs q := by unfold va_up; rw [if_neg e]
    rw [e3]
    exact if_map (z q hq) (fun ⟨w, m, u1, u2, u3, u4⟩ => ⟨w, m, u1, u2, u3, (kk u4).row (e2 q hq e)⟩) (fun u => u)
/-- a state pushed -/
theorem SkB.push {t m : Nat} {r : Nat → Int32} (h : SkB g K fp fk fb st ln hf hs o sta dq sl bf xs fs hh H) (c : Chg (fun q => K q = 2) H H1) (hd : DqR g (fun q => K q = 2) (consN t xs) (st + 1) dq H1) (ht : StK g K r m t H) (n1 : t ≠ sta) (n2 : ∀ j, j < st → xs j ≠ t) (n3 : ∀ q w, q < 2 → fs q = some w → w ≠ t) (e1 : ∀ i, i < 179 → r i = fp1 (179 * st + i)) (e2 : ∀ i, i < 179 * st → fp i = fp1 i) (hE : K (gE g) = 0) : SkB g K fp1 fk fb (st + 1) ln hf hs o sta dq sl bf (consN t xs) fs hh H1 := by
  obtain ⟨⟨a1, a2, a3, a4⟩, b, b2, b3, x, y, z⟩ := h
  have d4 : ∀ q, K q = 4 → ¬ K q = 2 := fun q hq => by omega
  have d5 : ∀ t, ∀ q, K q = 5 + t → ¬ K q = 2 := fun t q hq => by omega
  refine ⟨⟨a1.chg c (by omega), a2, a3, a4⟩, hd, b2.keep c (fun q hq => by omega), b3.chg c (by omega), fun j hj => ?_, fun i j hi hj e => ?_, fun q hq => if_map (z q hq) (fun ⟨w, m, u1, u2, u3, u4⟩ => ⟨w, m, u1, u2, fun j hj => ?_, u4.keep c (d5 _) d4 (by omega)⟩) (fun u => u)⟩
  · unfold consN
    by_cases e : j = 0
    · rw [if_pos e]
      exact ⟨n1, m, (ht.keep c (d5 _) d4 (by omega)).row (fun i hi => (e1 i hi).trans (congrArg fp1 (by omega)))⟩
    · rw [if_neg e]
      exact ⟨(x _ (by omega)).1, (x _ (by omega)).2.elim fun m hm => ⟨m, (hm.keep c (d5 _) d4 (by omega)).row (fun i hi => (congrArg fp (by omega)).trans (e2 (179 * (st + 1 - 1 - j) + i) (by omega)))⟩⟩
  · unfold consN at e
    by_cases p : i = 0 <;> by_cases q : j = 0
    · omega
    · rw [if_pos p, if_neg q] at e; exact absurd e.symm (n2 _ (by omega))
    · rw [if_neg p, if_pos q] at e; exact absurd e (n2 _ (by omega))
    · rw [if_neg p, if_neg q] at e; have := y _ _ (by omega) (by omega) e; omega
  · unfold consN
    by_cases e : j = 0
    · rw [if_pos e]; exact fun e => n3 q w hq u1 e.symm
    · rw [if_neg e]; exact u3 _ (by omega)
/-- another state at hand, the object written -/
theorem SkB.sta' {t : Nat} (h : SkB g K fp fk fb st ln hf hs o sta dq sl bf xs fs hh H) (c : Chg (fun q => q = o) H H1) (ob : Ob g o 1 [.ref t, .ref dq, .ref sl, .ref bf, .long hh] H1) (n2 : ∀ j, j < st → xs j ≠ t) (n3 : ∀ q w, q < 2 → fs q = some w → w ≠ t) (hE : gE g < gLo g) : SkB g K fp fk fb st ln hf hs o t dq sl bf xs fs hh H1 := by
  obtain ⟨⟨a1, a2, a3, a4, a5, a6⟩, b, b2, b3, x, y, z⟩ := h
  have k : ∀ q, K q ≠ 1 → ¬ q = o := fun q hq e => hq (by rw [e]; exact a2)
  exact ⟨⟨ob, a2, a3, a4, a5, a6⟩, b.keep c (fun q hq => k q (by omega)), b2.keep c (fun q hq => k q (by omega)), b3.chg c (Ne.symm a4), fun j hj => ⟨n2 j hj, (x j hj).2.elim fun m hm => ⟨m, hm.keep c (fun q hq => k q (by omega)) (fun q hq => k q (by omega)) (by omega)⟩⟩, y, fun q hq => if_map (z q hq) (fun ⟨w, m, u1, u2, u3, u4⟩ => ⟨w, m, u1, n3 q w hq u1, u3, u4.keep c (fun q hq => k q (by omega)) (fun q hq => k q (by omega)) (by omega)⟩) (fun u => u)⟩
/-- the text written -/
theorem SkB.buf {ln1 : Nat} {fb1 : Nat → Int32} (h : SkB g K fp fk fb st ln hf hs o sta dq sl bf xs fs hh H) (c : Chg (fun q => K q = 3) H H1) (hb : BufR g (fun q => K q = 3) fb1 ln1 bf H1) (hE : K (gE g) = 0) : SkB g K fp fk fb1 st ln1 hf hs o sta dq sl bf xs fs hh H1 := by
  obtain ⟨⟨a1, a2, a3, a4⟩, b, b2, b3, x, y, z⟩ := h
  have d4 : ∀ q, K q = 4 → ¬ K q = 3 := fun q hq => by omega
  have d5 : ∀ t, ∀ q, K q = 5 + t → ¬ K q = 3 := fun t q hq => by omega
  exact ⟨⟨a1.chg c (by omega), a2, a3, a4⟩, b.keep c (fun q hq => by omega), hb, b3.chg c (by omega), fun j hj => ⟨(x j hj).1, (x j hj).2.elim fun m hm => ⟨m, hm.keep c (d5 _) d4 (by omega)⟩⟩, y, fun q hq => if_map (z q hq) (fun ⟨w, m, u1, u2, u3, u4⟩ => ⟨w, m, u1, u2, u3, u4.keep c (d5 _) d4 (by omega)⟩) (fun u => u)⟩
end WCH
section WPUT
variable {g : GT} {F Q : Nat → Prop} {S : MS} {K K1 : Nat → Nat} {n n1 st ln z : Nat} {hf hs : Bool} {o sta dq sl bf : Nat} {xs : Nat → Nat} {fs : Nat → Option Nat} {hh : Int64} {r1 : Nat → Int32} {x1 : Nat → Nat} {H H1 Hz : Heap}
/-- the state at hand written; K1 tells of new cells -/
theorem SkR.put1 (hK0 : ∀ q, (q < gLo g ∨ F q) → K q = 0) (hF : ∀ q, F q → q < Hz.size) (hB : SkB g K (S.1 2) (S.1 3) (S.1 4) st ln hf hs o sta dq sl bf xs fs hh Hz) (hJ : S.2.1 12 = nI st ∧ S.2.1 13 = nI ln ∧ S.2.1 10 = bI hf ∧ S.2.1 11 = bI hs) (hz : Hz.size = z) (e1 : ∀ q, q < z → K1 q = K q) (hEz : Ext Hz H) (c : Chg Q H H1) (hQ : ∀ q, Q q → K1 q = 5 + sta) (hE : gE g < gLo g) (hlo : gLo g ≤ z) (hr : RO r1 n1) (h : StR g (fun q => K1 q = 5 + sta) (fun q => K1 q = 4) r1 n1 x1 sta H1) : SkR g F (uA S 0 r1) n1 st ln hf hs o H1 := by
  have hK1 : ∀ q, (q < gLo g ∨ F q) → K1 q = 0 := fun q hq => by rw [e1 q (hq.elim (fun y => by omega) (fun y => by rw [← hz]; exact hF q y))]; exact hK0 q hq
  refine ⟨K1, sta, dq, sl, bf, xs, fs, hh, hK1, fun q hq => Nat.lt_of_lt_of_le (hF q hq) (Nat.le_trans hEz.1 c.1), (((hB.re (fun q hq => (e1 q (by rw [← hz]; exact hq)).symm)).ext hEz).keep c (fun q h1 h2 y => h2 (hQ q y)) (fun y => by have := hQ _ y; have := hK1 (gE g) (Or.inl hE); omega)), ⟨hr, x1, h⟩, hJ⟩
theorem SkR.put0 (hK0 : ∀ q, (q < gLo g ∨ F q) → K q = 0) (hF : ∀ q, F q → q < Hz.size) (hB : SkB g K (S.1 2) (S.1 3) (S.1 4) st ln hf hs o sta dq sl bf xs fs hh Hz) (hJ : S.2.1 12 = nI st ∧ S.2.1 13 = nI ln ∧ S.2.1 10 = bI hf ∧ S.2.1 11 = bI hs) (hz : Hz.size = z) (hEz : Ext Hz H) (c : Chg (fun q => K q = 5 + sta ∧ q < z) H H1) (hE : gE g < gLo g) (hlo : gLo g ≤ z) (hr : RO r1 n1) (h : StR g (fun q => K q = 5 + sta ∧ q < z) (fun q => K q = 4 ∧ q < z) r1 n1 x1 sta H1) : SkR g F (uA S 0 r1) n1 st ln hf hs o H1 :=
  SkR.put1 hK0 hF hB hJ hz (fun _ _ => rfl) hEz c (fun q hq => hq.1) hE hlo hr (h.mono (fun q a _ => a.1) (fun q a _ => a.1))
end WPUT
theorem OpP.mk {g : GT} {F : Nat → Prop} {o : Nat} {x : Nat × Option Value × MS} {v r : Option Value} {S1 : MS} {H H1 : Heap} (h : x = (0, v, S1)) (hr : r = v) (hs : SkX g F S1 o H1) (c : Chg (fun q => ¬ F q) H H1) : OpP g F o x r H H1 := by subst h; exact ⟨rfl, hr, hs, c⟩
theorem OpX.x1 {g : GT} {F : Nat → Prop} {o : Nat} {E E1 E2 : String} {x : Nat × Option Value × MS} {S : MS} {H H1 : Heap} (h : x = x_ S 1) (hE : E = E1) (hs : SkX g F S o H1) (c : Chg (fun q => ¬ F q) H H1) : OpX g F o E1 E2 x E H H1 := by subst h; exact ⟨Or.inl ⟨hE, rfl⟩, hs, c⟩
theorem OpX.x2 {g : GT} {F : Nat → Prop} {o : Nat} {E E1 E2 : String} {x : Nat × Option Value × MS} {S : MS} {H H1 : Heap} (h : x = x_ S 2) (hE : E = E2) (hs : SkX g F S o H1) (c : Chg (fun q => ¬ F q) H H1) : OpX g F o E1 E2 x E H H1 := by subst h; exact ⟨Or.inr ⟨hE, rfl⟩, hs, c⟩
theorem OpX.n1 {g : GT} {F : Nat → Prop} {o : Nat} {E E1 E2 : String} {x : Nat × Option Value × MS} {S : MS} {v : Option Value} {H H1 : Heap} (h : x = (1, v, S)) (hE : E = E1) (hs : SkX g F S o H1) (c : Chg (fun q => ¬ F q) H H1) : OpX g F o E1 E2 x E H H1 := by subst h; exact ⟨Or.inl ⟨hE, rfl⟩, hs, c⟩
theorem OpX.n2 {g : GT} {F : Nat → Prop} {o : Nat} {E E1 E2 : String} {x : Nat × Option Value × MS} {S : MS} {v : Option Value} {H H1 : Heap} (h : x = (2, v, S)) (hE : E = E2) (hs : SkX g F S o H1) (c : Chg (fun q => ¬ F q) H H1) : OpX g F o E1 E2 x E H H1 := by subst h; exact ⟨Or.inr ⟨hE, rfl⟩, hs, c⟩
theorem SkR.x {g : GT} {F : Nat → Prop} {S : MS} {n st ln : Nat} {hf hs : Bool} {o : Nat} {H : Heap} (h : SkR g F S n st ln hf hs o H) : SkX g F S o H := ⟨n, st, ln, hf, hs, h⟩
theorem s_add_1 {S : MS} {n st : Nat} {a b q t : Int32} (h : noVs a b q t = true) : s_add S n st a b q t = x_ S 1 := if_pos h
theorem s_add_2 {S : MS} {n st : Nat} {a b q t : Int32} (h : noVs a b q t = false) (h2 : n = 40) : s_add S n st a b q t = x_ S 2 := by unfold s_add; rw [h, if_neg (by decide), if_pos h2]
theorem s_add_0 {S : MS} {n st : Nat} {a b q t : Int32} (h : noVs a b q t = false) (h2 : ¬ n = 40) : s_add S n st a b q t = (0, vI (nI n), upR S st (addR (S.1 0) n a b q t)) := by unfold s_add; rw [h, if_neg (by decide), if_neg h2]
theorem s_rem_1 {S : MS} {n st : Nat} {i : Int32} (h : noB n i = true) : s_remove S n st i = x_ S 1 := if_pos h
theorem s_rem_0 {S : MS} {n st : Nat} {i : Int32} (h : noB n i = false) : s_remove S n st i = (0, vI (nI (n - 1)), upR S st (delR (S.1 0) n i.toNatClampNeg)) := by unfold s_remove; rw [h, if_neg (by decide)]
theorem s_chg_1 {S : MS} {n st : Nat} {i q v : Int32} (h : (noB n i || noS q) = true) : s_change S n st i q v = x_ S 1 := if_pos h
theorem s_chg_2 {S : MS} {n st : Nat} {i q v : Int32} (h : (noB n i || noS q) = false) (h2 : noV v = true) : s_change S n st i q v = x_ S 2 := by unfold s_change; rw [h, if_neg (by decide), if_pos h2]
theorem s_chg_0 {S : MS} {n st : Nat} {i q v : Int32} (h : (noB n i || noS q) = false) (h2 : noV v = false) : s_change S n st i q v = (0, vI (S.1 0 (4 * i.toNatClampNeg + q.toNatClampNeg)), upR S st (upd (S.1 0) (4 * i.toNatClampNeg + q.toNatClampNeg) v)) := by unfold s_change; rw [h, if_neg (by decide), h2, if_neg (by decide)]
theorem s_set_1 {S : MS} {b st : Nat} {bad : Bool} {q v : Int32} (h : noS q = true) : s_set b bad S st q v = x_ S 1 := if_pos h
theorem s_set_2 {S : MS} {b st : Nat} {bad : Bool} {q v : Int32} (h : noS q = false) (h2 : bad = true) : s_set b bad S st q v = x_ S 2 := by unfold s_set; rw [h, if_neg (by decide), if_pos h2]
theorem s_set_0 {S : MS} {b st : Nat} {bad : Bool} {q v : Int32} (h : noS q = false) (h2 : bad = false) : s_set b bad S st q v = (0, vI (S.1 0 (b + q.toNatClampNeg)), upR S st (upd (S.1 0) (b + q.toNatClampNeg) v)) := by unfold s_set; rw [h, if_neg (by decide), h2, if_neg (by decide)]
theorem s_bnd_1 {S : MS} {n st : Nat} {q a b : Int32} (h : noS q = true) : s_bounds S n st q a b = x_ S 1 := if_pos h
theorem s_bnd_2 {S : MS} {n st : Nat} {q a b : Int32} (h : noS q = false) (h2 : (noV a || !inB b a (nI 99)) = true) : s_bounds S n st q a b = x_ S 2 := by unfold s_bounds; rw [h, if_neg (by decide), if_pos h2]
theorem s_bnd_0 {S : MS} {n st : Nat} {q a b : Int32} (h : noS q = false) (h2 : (noV a || !inB b a (nI 99)) = false) : s_bounds S n st q a b = (0, vI (nI (cnt (cB (upd (upd (S.1 0) (165 + q.toNatClampNeg) a) (169 + q.toNatClampNeg) b)) n)), upR S st (upd (upd (S.1 0) (165 + q.toNatClampNeg) a) (169 + q.toNatClampNeg) b)) := by unfold s_bounds; rw [h, if_neg (by decide), h2, if_neg (by decide)]
theorem s_app_1 {S : MS} {ln : Nat} {v : Int32} (h : inB v (nI 33) (nI 126) = false) : s_append S ln v = x_ S 1 := by unfold s_append; rw [h]; rfl
theorem s_app_2 {S : MS} {ln : Nat} {v : Int32} (h : inB v (nI 33) (nI 126) = true) (h2 : ln = 60) : s_append S ln v = x_ S 2 := by unfold s_append; rw [h, if_neg (by decide), if_pos h2]
theorem s_app_0 {S : MS} {ln : Nat} {v : Int32} (h : inB v (nI 33) (nI 126) = true) (h2 : ¬ ln = 60) : s_append S ln v = (0, vI (nI (ln + 1)), uS (uA S 4 (upd (S.1 4) ln v)) 13 (nI (ln + 1))) := by unfold s_append; rw [h, if_neg (by decide), if_neg h2]
theorem inB_up {u v : Int32} (h : inB v (nI 0) (nI 99) = true) (h2 : inB u v (nI 99) = true) : inB u (nI 0) (nI 99) = true := by
  unfold inB at h h2 ⊢
  rw [Bool.and_eq_true, decide_eq_true_eq, decide_eq_true_eq] at h h2 ⊢
  exact ⟨Int32.le_trans h.1 h2.1, h2.2⟩
