/-! THE LAW: what the system computes answers as the model does (no program in sight) -/
/-! the law: what the system's lists say -/
theorem and_1 (z : Int32) : z &&& nI 1 = nI 0 ∨ z &&& nI 1 = nI 1 := by
  obtain ⟨j, hj, e⟩ := pk_andE z (m := nI 1) 1 (by decide)
  rw [e]
  rcases j with _ | _ | j
  · exact Or.inl rfl
  · exact Or.inr rfl
  · omega
theorem shr_and (x y c : Int32) : (x &&& y) >>> c = (x >>> c) &&& (y >>> c) := by
  apply Int32.toBitVec_inj.mp
  rw [Int32.toBitVec_and, Int32.toBitVec_shiftRight, Int32.toBitVec_shiftRight, Int32.toBitVec_shiftRight, Int32.toBitVec_and]
  exact BitVec.sshiftRight_and_distrib _ _ _
theorem hasB_and (x y : Int32) (s : Nat) : hasB (x &&& y) s = (hasB x s && hasB y s) := by
  unfold hasB
  rw [shr_and]
  generalize x >>> (nI s &&& 31) = a
  generalize y >>> (nI s &&& 31) = b
  have e : a &&& b &&& nI 1 = (a &&& nI 1) &&& (b &&& nI 1) := by
    rw [Int32.and_assoc, Int32.and_assoc, ← Int32.and_assoc (nI 1) b, Int32.and_comm (nI 1) b, Int32.and_assoc b, Int32.and_self]
  rw [e]
  rcases and_1 a with h | h <;> rcases and_1 b with h2 | h2 <;> rw [h, h2] <;> decide
theorem hasB_mat (w : Nat → Int32) {s : Nat} (hs : s < 4) : hasB (matI w) s = matB w s := by
  unfold matI
  simp only [orB]
  generalize h0 : matB w 0 = b0
  generalize h1 : matB w 1 = b1
  generalize h2 : matB w 2 = b2
  generalize h3 : matB w 3 = b3
  have : s = 0 ∨ s = 1 ∨ s = 2 ∨ s = 3 := by omega
  rcases this with rfl | rfl | rfl | rfl
  · rw [h0]; revert b0 b1 b2 b3; intros; subst_vars; cases matB w 0 <;> cases matB w 1 <;> cases matB w 2 <;> cases matB w 3 <;> decide
  · rw [h1]; subst_vars; cases matB w 0 <;> cases matB w 1 <;> cases matB w 2 <;> cases matB w 3 <;> decide
  · rw [h2]; subst_vars; cases matB w 0 <;> cases matB w 1 <;> cases matB w 2 <;> cases matB w 3 <;> decide
  · rw [h3]; subst_vars; cases matB w 0 <;> cases matB w 1 <;> cases matB w 2 <;> cases matB w 3 <;> decide
/-- a set's side that matters -/
def swB (w : Nat → Int32) (t : Int32) (s : Nat) : Bool := hasB t s && matB w s
theorem swB_eq (w : Nat → Int32) (t : Int32) {s : Nat} (hs : s < 4) : hasB (t &&& matI w) s = swB w t s := by
  rw [hasB_and, hasB_mat w hs]; rfl
theorem has15 {s : Nat} (hs : s < 4) : hasB (nI 15) s = true := by
  have : s = 0 ∨ s = 1 ∨ s = 2 ∨ s = 3 := by omega
  rcases this with rfl | rfl | rfl | rfl <;> decide
theorem swB_15 (w : Nat → Int32) {s : Nat} (hs : s < 4) : swB w (nI 15) s = hasB (matI w) s := by
  rw [hasB_mat w hs]; unfold swB; rw [has15 hs]; rfl
theorem betN_congr {w f h : Nat → Int32} {P Q : Nat → Bool} (e : ∀ s, s < 4 → P s = Q s) : betN w f h P = betN w f h Q := cnt_congr (fun s hs => by rw [e s hs])
theorem beyB_congr {w f h : Nat → Int32} {P Q : Nat → Bool} (e : ∀ s, s < 4 → P s = Q s) : beyB w f h P = beyB w f h Q := by
  unfold beyB; rw [betN_congr e, betN_congr e]
/-- the system's isAbove, of numbers -/
def abv (r : Nat → Int32) (t : Int32) (i j : Nat) : Bool := eB r (swB (mw r) t) i j
theorem abv_eq (r : Nat → Int32) (t : Int32) (i j : Nat) : abv r t i j = eB r (hasB (t &&& matI (mw r))) i j := beyB_congr (fun s hs => (swB_eq _ _ hs).symm)
theorem abv_15 (r : Nat → Int32) (i j : Nat) : abv r (nI 15) i j = eB r (hasB (matI (mw r))) i j := beyB_congr (fun s hs => swB_15 _ hs)
theorem range_filter (p : Nat → Bool) : ∀ n, ((List.range n).filter p).length = cnt p n
  | 0 => rfl
  | n + 1 => by
    rw [List.range_succ, List.filter_append, List.length_append, range_filter p n, cnt]
    by_cases h : p n = true <;> simp [h]
theorem range_all (p : Nat → Bool) : ∀ n, (List.range n).all p = allB p n
  | 0 => rfl
  | n + 1 => by rw [List.range_succ, List.all_append, range_all p n, allB]; simp
theorem range_any (p : Nat → Bool) (n : Nat) : (List.range n).any p = anyB p n := by
  unfold anyB; rw [← range_all, List.any_eq_not_all_not]
/-- those that count -/
def actL (r : Nat → Int32) (n : Nat) : List Nat := (List.range n).filter (cB r)
/-- is it beaten by one of some? -/
def isBt (r : Nat → Int32) (t : Int32) (L : List Nat) (i : Nat) : Bool := L.any (fun j => abv r t j i)
def tolL (r : Nat → Int32) (t : Int32) (L : List Nat) : List Nat := L.filter (fun i => !isBt r t L i)
theorem isBt_act (r : Nat → Int32) (t : Int32) (n i : Nat) : isBt r t (actL r n) i = anyB (fun j => cB r j && abv r t j i) n := by
  unfold isBt actL
  rw [List.any_filter, range_any]
theorem tell_eq (r : Nat → Int32) (t : Int32) (n i : Nat) : tellB r n (hasB (t &&& matI (mw r))) i = (cB r i && !isBt r t (actL r n) i) := by
  rw [isBt_act]; unfold tellB anyB
  rw [Bool.not_not]
  congr 1
  exact allB_congr (fun k _ => by show _ = !(cB r k && abv r t k i); rw [abv_eq, Bool.not_and])
theorem tell_15 (r : Nat → Int32) (n i : Nat) : tellB r n (hasB (matI (mw r))) i = (cB r i && !isBt r (nI 15) (actL r n) i) := by
  rw [isBt_act]; unfold tellB anyB
  rw [Bool.not_not]
  congr 1
  exact allB_congr (fun k _ => by show _ = !(cB r k && abv r (nI 15) k i); rw [abv_15, Bool.not_and])
theorem tol_t (r : Nat → Int32) (t : Int32) (n : Nat) : tolL r t (actL r n) = (List.range n).filter (tellB r n (hasB (t &&& matI (mw r)))) := by
  unfold tolL
  rw [show actL r n = (List.range n).filter (cB r) from rfl, List.filter_filter]
  exact List.filter_congr (fun k _ => by rw [tell_eq, Bool.and_comm]; rfl)
theorem tol_15 (r : Nat → Int32) (n : Nat) : tolL r (nI 15) (actL r n) = (List.range n).filter (tellB r n (hasB (matI (mw r)))) := by
  unfold tolL
  rw [show actL r n = (List.range n).filter (cB r) from rfl, List.filter_filter]
  exact List.filter_congr (fun k _ => by rw [tell_15, Bool.and_comm]; rfl)
theorem isTB_tell {r : Nat → Int32} {n i : Nat} : isTB r n i = tellB r n (hasB (matI (mw r))) i := by
  unfold isTB tellB
  by_cases h : cB r i = true
  · rw [h, Bool.true_and, Bool.true_and]
    exact allB_congr (fun k _ => by unfold beatB; rw [h]; cases cB r k <;> simp)
  · simp [h]

/-! the window; the row by sums -/
theorem bey_trans {w f h k : Nat → Int32} {P : Nat → Bool} (a : beyB w f h P = true) (b : beyB w h k P = true) : beyB w f k P = true := by
  rw [bey_iff] at a b ⊢
  obtain ⟨a1, s, hs, hp, ha⟩ := a
  obtain ⟨b1, -⟩ := b
  refine ⟨fun q hq hP x => ?_, s, hs, hp, ?_⟩
  · have h1 := a1 q hq hP
    have h2 := b1 q hq hP
    rw [Int32.lt_iff_toInt_lt] at h1 h2 x
    omega
  · have h2 := b1 s hs hp
    rw [Int32.lt_iff_toInt_lt] at h2 ha ⊢
    omega
theorem abv_trans {r : Nat → Int32} {t : Int32} {i j k : Nat} (a : abv r t i j = true) (b : abv r t j k = true) : abv r t i k = true := bey_trans a b
theorem abv_gs {r : Nat → Int32} {n i j : Nat} (h : RO r n) (hi : i < n) (hj : j < n) (b : abv r (nI 15) i j = true) : gsR r j < gsR r i := by
  rw [abv_15] at b
  exact bey_gs (h.v hi) (h.v hj) b
theorem max_at (p : Nat → Bool) (f : Nat → Nat) : ∀ m, (∃ j, j < m ∧ p j = true) → ∃ j, j < m ∧ p j = true ∧ ∀ k, k < m → p k = true → f k ≤ f j
  | 0, h => by obtain ⟨j, hj, -⟩ := h; omega
  | m + 1, h => by
    by_cases q : ∃ j, j < m ∧ p j = true
    · obtain ⟨j, hj, hp, hm⟩ := max_at p f m q
      by_cases z : p m = true ∧ f j < f m
      · refine ⟨m, by omega, z.1, fun k hk hp2 => ?_⟩
        rcases Nat.lt_or_ge k m with y | y
        · have := hm k y hp2; omega
        · have : k = m := by omega
          subst this; exact Nat.le_refl _
      · refine ⟨j, by omega, hp, fun k hk hp2 => ?_⟩
        rcases Nat.lt_or_ge k m with y | y
        · exact hm k y hp2
        · have : k = m := by omega
          subst this
          exact Nat.le_of_not_lt (fun x => z ⟨hp2, x⟩)
    · obtain ⟨j, hj, hp⟩ := h
      have : j = m := Nat.le_antisymm (by omega) (Nat.le_of_not_lt (fun x => q ⟨j, x, hp⟩))
      subst this
      refine ⟨j, by omega, hp, fun k hk hp2 => ?_⟩
      rcases Nat.lt_or_ge k j with y | y
      · exact absurd ⟨k, y, hp2⟩ q
      · have : k = j := by omega
        subst this; exact Nat.le_refl _
/-- told among the first m -/
def tlB (r : Nat → Int32) (m i : Nat) : Bool := cB r i && allB (fun j => !(cB r j && abv r (nI 15) j i)) m
theorem tlB_eq (r : Nat → Int32) (m i : Nat) : tlB r m i = tellB r m (hasB (matI (mw r))) i := by
  unfold tlB tellB
  congr 1
  exact allB_congr (fun k _ => by rw [abv_15, Bool.not_and])
theorem tlB_iff {r : Nat → Int32} {m i : Nat} : tlB r m i = true ↔ cB r i = true ∧ ∀ j, j < m → cB r j = true → ¬ abv r (nI 15) j i = true := by
  unfold tlB
  rw [Bool.and_eq_true, allB_iff]
  constructor
  · rintro ⟨h1, h2⟩
    refine ⟨h1, fun j hj hc ha => ?_⟩
    have := h2 j hj
    simp [hc, ha] at this
  · rintro ⟨h1, h2⟩
    refine ⟨h1, fun j hj => ?_⟩
    have := h2 j hj
    cases hc : cB r j <;> simp_all
/-- who is beaten is beaten by one that none beats -/
theorem beaten_top {r : Nat → Int32} {n m i j : Nat} (h : RO r n) (hm : m ≤ n) (hi : i < n) (hj : j < m) (hc : cB r j = true) (hb : abv r (nI 15) j i = true) : ∃ k, k < m ∧ tlB r m k = true ∧ abv r (nI 15) k i = true ∧ gsR r i < gsR r k := by
  obtain ⟨k, hk, hp, hx⟩ := max_at (fun k => cB r k && abv r (nI 15) k i) (gsR r) m ⟨j, hj, by simp [hc, hb]⟩
  simp only [Bool.and_eq_true] at hp hx
  refine ⟨k, hk, tlB_iff.mpr ⟨hp.1, fun z hz hcz hz2 => ?_⟩, hp.2, abv_gs h (by omega) hi hp.2⟩
  have h1 := abv_gs h (by omega) (by omega) hz2
  have h2 := hx z hz ⟨hcz, abv_trans hz2 hp.2⟩
  omega
def winL (r : Nat → Int32) : Nat → List Nat
  | 0 => []
  | m + 1 => if cB r m && !isBt r (nI 15) (winL r m) m then (winL r m).filter (fun j => !abv r (nI 15) m j) ++ [m] else winL r m
theorem isBt_iff {r : Nat → Int32} {t : Int32} {L : List Nat} {i : Nat} : isBt r t L i = true ↔ ∃ j, j ∈ L ∧ abv r t j i = true := by
  unfold isBt; rw [List.any_eq_true]
theorem win_eq {r : Nat → Int32} {n : Nat} (h : RO r n) : ∀ m, m ≤ n → winL r m = (List.range m).filter (tlB r m)
  | 0, _ => rfl
  | m + 1, hm => by
    have ih := win_eq h m (by omega)
    have hbt : isBt r (nI 15) (winL r m) m = true ↔ ∃ j, j < m ∧ cB r j = true ∧ abv r (nI 15) j m = true := by
      rw [isBt_iff, ih]
      constructor
      · rintro ⟨j, hj, ha⟩
        rw [List.mem_filter, List.mem_range] at hj
        exact ⟨j, hj.1, (tlB_iff.mp hj.2).1, ha⟩
      · rintro ⟨j, hj, hc, ha⟩
        obtain ⟨k, hk, ht, hka, -⟩ := beaten_top h (by omega) (by omega) hj hc ha
        exact ⟨k, by rw [List.mem_filter, List.mem_range]; exact ⟨hk, ht⟩, hka⟩
    rw [winL, List.range_succ, List.filter_append]
    by_cases q : (cB r m && !isBt r (nI 15) (winL r m) m) = true
    · rw [if_pos q, ih, List.filter_filter]
      rw [Bool.and_eq_true] at q
      have hnb : ¬ ∃ j, j < m ∧ cB r j = true ∧ abv r (nI 15) j m = true := fun x => by
        have := hbt.mpr x
        rw [this] at q; exact absurd q.2 (by decide)
      congr 1
      · refine List.filter_congr (fun k hk => ?_)
        rw [List.mem_range] at hk
        rw [Bool.eq_iff_iff, Bool.and_eq_true, tlB_iff, tlB_iff]
        constructor
        · rintro ⟨a, b, c⟩
          refine ⟨b, fun j hj hc ha => ?_⟩
          rcases Nat.lt_or_ge j m with y | y
          · exact c j y hc ha
          · have : j = m := by omega
            subst this
            rw [ha] at a; exact absurd a (by decide)
        · rintro ⟨b, c⟩
          refine ⟨?_, b, fun j hj => c j (by omega)⟩
          have := c m (by omega) q.1
          simpa using this
      · have : tlB r (m + 1) m = true := tlB_iff.mpr ⟨q.1, fun j hj hc ha => by
          rcases Nat.lt_or_ge j m with y | y
          · exact hnb ⟨j, y, hc, ha⟩
          · have : j = m := by omega
            subst this
            exact absurd (abv_gs h (by omega) (by omega) ha) (Nat.lt_irrefl _)⟩
        simp [this]
    · rw [if_neg q, ih]
      have hf : tlB r (m + 1) m = false := by
        by_cases hc : cB r m = true
        · have hb : isBt r (nI 15) (winL r m) m = true := by
            cases z : isBt r (nI 15) (winL r m) m
            · exact absurd (by rw [hc, z]; rfl) q
            · rfl
          obtain ⟨j, hj, hcj, ha⟩ := hbt.mp hb
          cases z : tlB r (m + 1) m
          · rfl
          · exact absurd ha ((tlB_iff.mp z).2 j (by omega) hcj)
        · unfold tlB; simp [hc]
      rw [show (([m] : List Nat).filter (tlB r (m + 1))) = [] by simp [hf], List.append_nil]
      refine List.filter_congr (fun k hk => ?_)
      rw [List.mem_range] at hk
      rw [Bool.eq_iff_iff, tlB_iff, tlB_iff]
      constructor
      · rintro ⟨b, c⟩
        refine ⟨b, fun j hj hc ha => ?_⟩
        rcases Nat.lt_or_ge j m with y | y
        · exact c j y hc ha
        · have : j = m := by omega
          subst this
          have hb : isBt r (nI 15) (winL r j) j = true := by
            cases z : isBt r (nI 15) (winL r j) j
            · exact absurd (by rw [hc, z]; rfl) q
            · rfl
          obtain ⟨i, hi, hci, hai⟩ := hbt.mp hb
          exact c i hi hci (abv_trans hai ha)
      · rintro ⟨b, c⟩
        exact ⟨b, fun j hj => c j (by omega)⟩
theorem win_told {r : Nat → Int32} {n k : Nat} (h : RO r n) (hk : k < n) : (winL r n).any (fun j => j == k) = isTB r n k := by
  rw [win_eq h n (Nat.le_refl _), isTB_tell, ← tlB_eq, Bool.eq_iff_iff, List.any_eq_true]
  constructor
  · rintro ⟨j, hj, e⟩
    rw [List.mem_filter] at hj
    have := beq_iff_eq.mp e
    subst this; exact hj.2
  · exact fun e => ⟨k, by rw [List.mem_filter, List.mem_range]; exact ⟨hk, e⟩, beq_self_eq_true _⟩

/-! rows in order -/
/-- where i goes into a row: behind the last that it isn't ahead of -/
def atN (ah : Nat → Nat → Bool) (i : Nat) (L : List Nat) : Nat → Nat
  | 0 => 0
  | k + 1 => if ah i (L.getD k 0) then atN ah i L k else k + 1
def insL (ah : Nat → Nat → Bool) (L : List Nat) (i : Nat) : List Nat := L.take (atN ah i L L.length) ++ i :: L.drop (atN ah i L L.length)
def ordL (ah : Nat → Nat → Bool) (L : List Nat) : List Nat := L.foldl (insL ah) []
theorem atN_le (ah : Nat → Nat → Bool) (i : Nat) (L : List Nat) : ∀ k, atN ah i L k ≤ k
  | 0 => Nat.le_refl _
  | k + 1 => by unfold atN; have := atN_le ah i L k; split <;> omega
theorem atN_up {ah : Nat → Nat → Bool} {i : Nat} {L : List Nat} : ∀ {k z : Nat}, atN ah i L k ≤ z → z < k → ah i (L.getD z 0) = true
  | 0, z, _, h => absurd h (Nat.not_lt_zero _)
  | k + 1, z, h1, h2 => by
    unfold atN at h1
    split at h1
    · rename_i q
      rcases Nat.lt_or_ge z k with y | y
      · exact atN_up h1 y
      · have : z = k := by omega
        subst this; exact q
    · omega
theorem atN_dn {ah : Nat → Nat → Bool} {i : Nat} {L : List Nat} : ∀ {k : Nat}, 0 < atN ah i L k → ah i (L.getD (atN ah i L k - 1) 0) = false
  | 0, h => absurd h (Nat.not_lt_zero _)
  | k + 1, h => by
    unfold atN at h ⊢
    split
    · rename_i q
      rw [if_pos q] at h
      exact atN_dn h
    · rename_i q
      simpa using q
/-- by scores: who comes first -/
def ahS (sc : Nat → Int32) (i j : Nat) : Bool := decide (sc j < sc i)
def Fst (sc : Nat → Int32) (a b : Nat) : Prop := sc b < sc a ∨ (sc b = sc a ∧ a < b)
theorem Fst.irr {sc : Nat → Int32} {a b : Nat} (h : Fst sc a b) : ¬ Fst sc b a := by
  unfold Fst at *
  simp only [Int32.lt_iff_toInt_lt, ← Int32.toInt_inj] at *
  omega
theorem getD_at {L : List Nat} {k : Nat} (h : k < L.length) : L.getD k 0 = L[k] := by simp [List.getD, h]
theorem Fst.trans {sc : Nat → Int32} {a b c : Nat} (h : Fst sc a b) (h2 : Fst sc b c) : Fst sc a c := by
  unfold Fst at *
  simp only [Int32.lt_iff_toInt_lt, ← Int32.toInt_inj] at *
  omega
theorem ins_perm (ah : Nat → Nat → Bool) (L : List Nat) (i : Nat) : (insL ah L i).Perm (i :: L) := by
  unfold insL
  refine List.perm_middle.trans ?_
  rw [List.take_append_drop]
theorem ord_perm (ah : Nat → Nat → Bool) (L : List Nat) : (ordL ah L).Perm L := by
  unfold ordL
  have : ∀ (L A : List Nat), (L.foldl (insL ah) A).Perm (A ++ L) := by
    intro L
    induction L with
    | nil => intro A; simp
    | cons x L ih =>
      intro A
      rw [List.foldl_cons]
      refine (ih _).trans ?_
      refine ((ins_perm ah A x).append_right L).trans ?_
      exact List.perm_middle.symm
  simpa using this L []
theorem ins_sorted {sc : Nat → Int32} {L : List Nat} {i : Nat} (h : L.Pairwise (Fst sc)) (hi : ∀ x, x ∈ L → x < i) : (insL (ahS sc) L i).Pairwise (Fst sc) := by
  unfold insL
  have hp := atN_le (ahS sc) i L L.length
  have hu := @atN_up (ahS sc) i L L.length
  have hd := @atN_dn (ahS sc) i L L.length
  generalize atN (ahS sc) i L L.length = p at hp hu hd
  have hs : (L.take p ++ L.drop p).Pairwise (Fst sc) := by rw [List.take_append_drop]; exact h
  rw [List.pairwise_append] at hs ⊢
  obtain ⟨s1, s2, s3⟩ := hs
  have hB : ∀ x, x ∈ L.drop p → Fst sc i x := by
    intro x hx
    obtain ⟨k, hk, e⟩ := List.getElem_of_mem hx
    rw [List.getElem_drop] at e
    rw [List.length_drop] at hk
    have := hu (z := p + k) (by omega) (by omega)
    rw [getD_at (by omega), e] at this
    exact Or.inl (of_decide_eq_true this)
  have hA : ∀ x, x ∈ L.take p → Fst sc x i := by
    intro x hx
    have hxi := hi x (List.mem_of_mem_take hx)
    obtain ⟨k, hk, e⟩ := List.getElem_of_mem hx
    rw [List.length_take] at hk
    rw [List.getElem_take] at e
    have h0 := hd (by omega)
    rw [getD_at (by omega)] at h0
    have h1 : ¬ sc L[p - 1] < sc i := of_decide_eq_false h0
    have h2 : k = p - 1 ∨ Fst sc x L[p - 1] := by
      rcases Nat.lt_or_ge k (p - 1) with y | y
      · right
        rw [← e]
        exact List.pairwise_iff_getElem.mp h k (p - 1) (by omega) (by omega) y
      · left; omega
    rcases h2 with h2 | h2
    · subst h2
      rw [e] at h1
      unfold Fst
      simp only [Int32.lt_iff_toInt_lt, ← Int32.toInt_inj] at *
      omega
    · unfold Fst at h2 ⊢
      simp only [Int32.lt_iff_toInt_lt, ← Int32.toInt_inj] at *
      omega
  refine ⟨s1, List.pairwise_cons.mpr ⟨hB, s2⟩, fun a ha b hb => ?_⟩
  rcases List.mem_cons.mp hb with rfl | hb
  · exact hA a ha
  · exact s3 a ha b hb
theorem ord_sorted {sc : Nat → Int32} {L : List Nat} (h : L.Pairwise (· < ·)) : (ordL (ahS sc) L).Pairwise (Fst sc) := by
  unfold ordL
  have : ∀ (L A : List Nat), A.Pairwise (Fst sc) → (∀ x, x ∈ A → ∀ y, y ∈ L → x < y) → L.Pairwise (· < ·) → (L.foldl (insL (ahS sc)) A).Pairwise (Fst sc) := by
    intro L
    induction L with
    | nil => intro A h1 _ _; exact h1
    | cons x L ih =>
      intro A h1 h2 h3
      rw [List.foldl_cons]
      rw [List.pairwise_cons] at h3
      refine ih _ (ins_sorted h1 (fun y hy => h2 y hy x (List.mem_cons_self ..))) (fun a ha y hy => ?_) h3.2
      have := (ins_perm (ahS sc) A x).mem_iff.mp ha
      rcases List.mem_cons.mp this with rfl | ha
      · exact h3.1 y hy
      · exact h2 a ha y (List.mem_cons_of_mem _ hy)
  exact this L [] List.Pairwise.nil (by simp) h
theorem range_lt (n : Nat) : (List.range n).Pairwise (· < ·) := List.pairwise_lt_range
theorem act_lt (r : Nat → Int32) (n : Nat) : (actL r n).Pairwise (· < ·) := (range_lt n).filter _
/-- in an ordered row a thing's place is the number of those ahead -/
theorem place_eq {sc : Nat → Int32} {L : List Nat} (h : L.Pairwise (Fst sc)) {k : Nat} (hk : k < L.length) (q : Nat → Bool) (hq : ∀ a, q a = true ↔ Fst sc a L[k]) : (L.filter q).length = k := by
  have e : L.take k ++ L[k] :: L.drop (k + 1) = L := by rw [← List.drop_eq_getElem_cons hk, List.take_append_drop]
  have h' := h
  rw [← e, List.pairwise_append, List.pairwise_cons] at h'
  obtain ⟨h1, ⟨h2, h3⟩, h4⟩ := h'
  have f1 : (L.take k).filter q = L.take k := List.filter_eq_self.mpr (fun a ha => (hq a).mpr (h4 a ha _ (List.mem_cons_self ..)))
  have f2 : (L[k] :: L.drop (k + 1)).filter q = [] := by
    rw [List.filter_eq_nil_iff]
    intro a ha
    rcases List.mem_cons.mp ha with rfl | ha
    · exact fun x => absurd ((hq _).mp x) (fun y => y.irr y)
    · exact fun x => (h2 a ha).irr ((hq _).mp x)
  have : L.filter q = L.take k := by
    conv => lhs; rw [← e]
    rw [List.filter_append, f1, f2, List.append_nil]
  rw [this, List.length_take]
  omega
/-- the told, out of the row by sums -/
def sumL (r : Nat → Int32) : List Nat → List Nat
  | L => L.foldl (fun T i => if !isBt r (nI 15) T i then T ++ [i] else T) []
theorem sum_step (r : Nat → Int32) (L : List Nat) (i : Nat) : sumL r (L ++ [i]) = if !isBt r (nI 15) (sumL r L) i then sumL r L ++ [i] else sumL r L := by
  unfold sumL; rw [List.foldl_append]; rfl

def smI (w f : Nat → Int32) : Nat → Int32
  | 0 => nI 0
  | n + 1 => smI w f n + (if matB w n then goodI w f n else nI 0)
def smR (r : Nat → Int32) (i : Nat) : Int32 := smI (mw r) (mv r i) 4
theorem smI_n {w f : Nat → Int32} (h : VO f) : ∀ k, k ≤ 4 → smI w f k = nI (sumN (fun s => if hasB (matI w) s then gN w f s else 0) k)
  | 0, _ => rfl
  | k + 1, hk => by
    rw [smI, smI_n h k (by omega), sumN, hasB_mat w (by omega)]
    cases q : matB w k
    · simp [nI_add]
    · simp only [if_true]
      rw [(gN_ok h (by omega)).1, nI_add]
theorem smR_n {r : Nat → Int32} {n i : Nat} (h : RO r n) (hi : i < n) : smR r i = nI (gsR r i) := smI_n (h.v hi) 4 (Nat.le_refl _)
theorem gsR_le {r : Nat → Int32} {n i : Nat} (h : RO r n) (hi : i < n) : gsR r i ≤ 396 := gsN_le (h.v hi)
theorem sum_told {r : Nat → Int32} {n : Nat} (h : RO r n) : sumL r (ordL (ahS (smR r)) (actL r n)) = (ordL (ahS (smR r)) (actL r n)).filter (tlB r n) := by
  have hs := ord_sorted (sc := smR r) (act_lt r n)
  have hp := ord_perm (ahS (smR r)) (actL r n)
  generalize ordL (ahS (smR r)) (actL r n) = L at hs hp
  have hm : ∀ x, x ∈ L ↔ x < n ∧ cB r x = true := fun x => by
    rw [hp.mem_iff]; unfold actL; rw [List.mem_filter, List.mem_range]
  have : ∀ k, k ≤ L.length → sumL r (L.take k) = (L.take k).filter (tlB r n) := by
    intro k
    induction k with
    | zero => intro _; rfl
    | succ k ih =>
      intro hk
      have hx : L[k] ∈ L := List.getElem_mem _
      obtain ⟨hx1, hx2⟩ := (hm _).mp hx
      rw [List.take_succ_eq_append_getElem (by omega), sum_step, ih (by omega), List.filter_append]
      have e : isBt r (nI 15) ((L.take k).filter (tlB r n)) L[k] = !tlB r n L[k] := by
        rw [Bool.eq_iff_iff, Bool.not_eq_true', isBt_iff]
        constructor
        · rintro ⟨j, hj, ha⟩
          rw [List.mem_filter] at hj
          obtain ⟨hj1, hj2⟩ := (hm _).mp (List.mem_of_mem_take hj.1)
          cases z : tlB r n L[k]
          · rfl
          · exact absurd ha ((tlB_iff.mp z).2 j hj1 hj2)
        · intro hf
          have : ¬ (cB r L[k] = true ∧ ∀ j, j < n → cB r j = true → ¬ abv r (nI 15) j L[k] = true) := fun x => by
            rw [← tlB_iff] at x; rw [x] at hf; exact absurd hf (by decide)
          have : ∃ j, j < n ∧ cB r j = true ∧ abv r (nI 15) j L[k] = true := Classical.byContradiction (fun z => this ⟨hx2, fun j h1 h2 h3 => z ⟨j, h1, h2, h3⟩⟩)
          obtain ⟨j, hj, hc, ha⟩ := this
          obtain ⟨z, hz, ht, hza, hgs⟩ := beaten_top h (Nat.le_refl n) hx1 hj hc ha
          refine ⟨z, ?_, hza⟩
          rw [List.mem_filter]
          refine ⟨?_, ht⟩
          have hzL : z ∈ L := (hm z).mpr ⟨hz, (tlB_iff.mp ht).1⟩
          obtain ⟨p, hp1, hp2⟩ := List.getElem_of_mem hzL
          have hpk : p < k := by
            refine Nat.lt_of_not_le (fun y => ?_)
            have hF : z = L[k] ∨ Fst (smR r) L[k] z := by
              rcases Nat.eq_or_lt_of_le y with y | y
              · subst y; exact Or.inl hp2.symm
              · right; rw [← hp2]; exact List.pairwise_iff_getElem.mp hs k p (by omega) (by omega) y
            rcases hF with e | hF
            · rw [← e] at hgs; omega
            · have g1 := gsR_le h hz
              have g2 := gsR_le h hx1
              unfold Fst at hF
              rw [smR_n h hz, smR_n h hx1, nI_ltI (by omega) (by omega), nI_eq (by omega) (by omega)] at hF
              omega
          rw [← hp2]
          exact List.mem_take_iff_getElem.mpr ⟨p, by omega, rfl⟩
      rw [e, Bool.not_not]
      cases z : tlB r n L[k] <;> simp [z]
  have := this L.length (Nat.le_refl _)
  rwa [List.take_length] at this
theorem sums_len {r : Nat → Int32} {n : Nat} (h : RO r n) : (sumL r (ordL (ahS (smR r)) (actL r n))).length = cnt (tellB r n (hasB (matI (mw r)))) n := by
  rw [sum_told h, ((ord_perm (ahS (smR r)) (actL r n)).filter _).length_eq]
  unfold actL
  rw [List.filter_filter, range_filter]
  exact cnt_congr (fun k _ => by rw [tlB_eq]; unfold tellB; cases cB r k <;> simp)
/-- the scored row -/
def scrL (r : Nat → Int32) (n : Nat) : List Nat := ordL (ahS (scoI r)) (actL r n)
theorem scr_len (r : Nat → Int32) (n : Nat) : (scrL r n).length = cnt (cB r) n := by
  unfold scrL
  rw [(ord_perm _ _).length_eq]; exact range_filter _ _
theorem scr_mem {r : Nat → Int32} {n x : Nat} : x ∈ scrL r n ↔ x < n ∧ cB r x = true := by
  unfold scrL
  rw [(ord_perm _ _).mem_iff]; unfold actL; rw [List.mem_filter, List.mem_range]
theorem scr_rnk {r : Nat → Int32} {n p : Nat} (hp : p < (scrL r n).length) : rnkN r n (scrL r n)[p] = p := by
  have hx := scr_mem.mp (List.getElem_mem hp)
  have e := place_eq (ord_sorted (sc := scoI r) (act_lt r n)) hp (fun a => decide (scoI r (scrL r n)[p] < scoI r a) || (decide (scoI r a = scoI r (scrL r n)[p]) && decide (a < (scrL r n)[p]))) (fun a => by
    unfold Fst
    rw [Bool.or_eq_true, Bool.and_eq_true, decide_eq_true_eq, decide_eq_true_eq, decide_eq_true_eq]
    exact ⟨fun x => x.imp (fun y => y) (fun y => ⟨y.1.symm, y.2⟩), fun x => x.imp (fun y => y) (fun y => ⟨y.1.symm, y.2⟩)⟩)
  rw [((ord_perm _ _).filter _).length_eq] at e
  unfold actL at e
  rw [List.filter_filter, range_filter] at e
  conv => rhs; rw [← e]
  unfold rnkN
  refine cnt_congr (fun j hj => ?_)
  unfold ahB
  rw [Bool.and_comm]
theorem rnk_scr {r : Nat → Int32} {n k : Nat} (hk : k < n) (hc : cB r k = true) : ∃ p, ∃ h : p < (scrL r n).length, (scrL r n)[p] = k := by
  obtain ⟨p, h, e⟩ := List.getElem_of_mem (scr_mem.mpr ⟨hk, hc⟩)
  exact ⟨p, h, e⟩
/-- the one of rank p -/
theorem scr_fst {r : Nat → Int32} {n p : Nat} (hn : n ≤ 40) (hp : p < (scrL r n).length) : fstI (fun k => cB r k && decide (nI (rnkN r n k) = nI p)) n = nI (scrL r n)[p] := by
  have hx := scr_mem.mp (List.getElem_mem hp)
  have hr := scr_rnk hp
  have hpl : p < 41 := by have := scr_len r n; have := cnt_le (cB r) n; omega
  have hlow : ∀ m, m ≤ (scrL r n)[p] → fstI (fun k => cB r k && decide (nI (rnkN r n k) = nI p)) m = (-1) := by
    intro m
    induction m with
    | zero => intro _; rfl
    | succ m ih =>
      intro hm
      refine fstI_s (ih (by omega)) ?_
      show (cB r m && decide (nI (rnkN r n m) = nI p)) = false
      by_cases hc : cB r m = true
      · rw [hc, Bool.true_and, decide_eq_false_iff_not]
        intro e
        obtain ⟨q, hq, eq⟩ := rnk_scr (n := n) (k := m) (by omega) hc
        have e2 := scr_rnk hq
        rw [eq] at e2
        rw [e2, nI_eq (by have := scr_len r n; have := cnt_le (cB r) n; omega) (by omega)] at e
        subst e
        omega
      · simp [hc]
  exact fstI_k (by omega) (hlow _ (Nat.le_refl _)) (by show (cB r _ && decide (nI (rnkN r n _) = nI p)) = true; rw [hr, hx.2]; simp) n hx.1

/-! layers: by peeling, by rows -/
theorem beat_abv {r : Nat → Int32} {i j : Nat} : beatB r i j = (cB r i && cB r j && abv r (nI 15) i j) := by unfold beatB; rw [abv_15]
def plL (r : Nat → Int32) (n : Nat) : Nat → List Nat
  | 0 => actL r n
  | w + 1 => (plL r n w).filter (fun i => !(tolL r (nI 15) (plL r n w)).any (fun j => j == i))
def lyL (r : Nat → Int32) (n w : Nat) : List Nat := (List.range n).filter (fun i => decide (w < LY r n i))
theorem ly_c {r : Nat → Int32} {n k w : Nat} (h : RO r n) (hk : k < n) (hw : w < LY r n k) : cB r k = true := by
  cases z : cB r k
  · have := (LY_0 h hk).mpr z; omega
  · rfl
theorem ly_top {r : Nat → Int32} {n : Nat} (h : RO r n) (w : Nat) : tolL r (nI 15) (lyL r n w) = (List.range n).filter (fun i => decide (LY r n i = w + 1)) := by
  unfold tolL
  rw [show lyL r n w = (List.range n).filter (fun i => decide (w < LY r n i)) from rfl, List.filter_filter]
  refine List.filter_congr (fun k hk => ?_)
  rw [List.mem_range] at hk
  rw [← LY_is h hk, Bool.and_comm]
  by_cases q : w < LY r n k
  · rw [decide_eq_true q, Bool.true_and, Bool.true_and]
    unfold isBt
    rw [List.any_filter, range_any]
    unfold anyB
    rw [Bool.not_not]
    refine allB_congr (fun j hj => ?_)
    rw [beat_abv, ly_c h hk q]
    by_cases z : w < LY r n j
    · rw [ly_c h hj z]; simp [z, Nat.not_le_of_lt z]
    · simp [z, Nat.le_of_not_lt z]
  · rw [decide_eq_false q]; rfl
theorem ly_next {r : Nat → Int32} {n : Nat} (h : RO r n) (w : Nat) : (lyL r n w).filter (fun i => !(tolL r (nI 15) (lyL r n w)).any (fun j => j == i)) = lyL r n (w + 1) := by
  rw [ly_top h]
  unfold lyL
  rw [List.filter_filter]
  refine List.filter_congr (fun k hk => ?_)
  rw [List.any_filter, range_any]
  rw [Bool.eq_iff_iff, Bool.and_eq_true, Bool.not_eq_true', decide_eq_true_eq, decide_eq_true_eq]
  rw [List.mem_range] at hk
  constructor
  · rintro ⟨h1, h2⟩
    refine Nat.lt_of_le_of_ne h2 (fun e => ?_)
    have : anyB (fun a => decide (LY r n a = w + 1) && (a == k)) n = true := anyB_t (k := k) (by simp [e]) hk
    rw [this] at h1; exact absurd h1 (by decide)
  · intro h2
    refine ⟨?_, by omega⟩
    cases z : anyB (fun a => decide (LY r n a = w + 1) && (a == k)) n
    · rfl
    · unfold anyB at z
      rw [Bool.not_eq_true', ← Bool.not_eq_true, allB_iff] at z
      exact absurd (fun j hj => by
        by_cases e : j = k
        · subst e; simp; omega
        · simp [e]) z
theorem act_ly {r : Nat → Int32} {n : Nat} (h : RO r n) : actL r n = lyL r n 0 := by
  unfold actL lyL
  refine List.filter_congr (fun k hk => ?_)
  rw [List.mem_range] at hk
  have := LY_0 h hk
  cases z : cB r k
  · rw [z] at this; have := this.mpr rfl; simp [this]
  · rw [z] at this
    have : ¬ LY r n k = 0 := fun e => absurd (this.mp e) (by decide)
    exact (decide_eq_true (Nat.pos_of_ne_zero this)).symm
theorem pl_ly {r : Nat → Int32} {n : Nat} (h : RO r n) : ∀ w, plL r n w = lyL r n w
  | 0 => act_ly h
  | w + 1 => by rw [plL, pl_ly h w, ly_next h]
/-- one row's end, out of the others' -/
def FrN (r : Nat → Int32) (n : Nat) (R : Nat → Nat) (k : Nat) : Nat := if cB r k then maxN (fun j => if cB r j && abv r (nI 15) j k then R j else 0) n + 1 else 0
theorem maxN_mono {f h : Nat → Nat} : ∀ {n : Nat}, (∀ k, k < n → f k ≤ h k) → maxN f n ≤ maxN h n := fun {n} e => maxN_le (fun k hk => Nat.le_trans (e k hk) (maxN_ge hk))
theorem Fr_mono {r : Nat → Int32} {n : Nat} {R R1 : Nat → Nat} (h : ∀ j, j < n → R j ≤ R1 j) (k : Nat) : FrN r n R k ≤ FrN r n R1 k := by
  unfold FrN
  split
  · have := maxN_mono (f := fun j => if cB r j && abv r (nI 15) j k then R j else 0) (h := fun j => if cB r j && abv r (nI 15) j k then R1 j else 0) (n := n) (fun j hj => by
      have := h j hj
      show (if _ then _ else _) ≤ (if _ then _ else _)
      split <;> omega)
    omega
  · exact Nat.le_refl _
theorem Fr_congr {r : Nat → Int32} {n : Nat} {R R1 : Nat → Nat} (h : ∀ j, j < n → R j = R1 j) (k : Nat) : FrN r n R k = FrN r n R1 k :=
  Nat.le_antisymm (Fr_mono (fun j hj => Nat.le_of_eq (h j hj)) k) (Fr_mono (fun j hj => Nat.le_of_eq (h j hj).symm) k)
theorem Fr_LY {r : Nat → Int32} {n k : Nat} (h : RO r n) (hk : k < n) : FrN r n (LY r n) k = LY r n k := by
  rw [LY_eq h hk]; unfold FrN
  by_cases z : cB r k = true
  · rw [if_pos z, if_pos z, Nat.add_comm]
    congr 1
    refine maxN_congr (fun j hj => ?_)
    rw [beat_abv, z, Bool.and_true]
  · rw [if_neg z, if_neg z]
def InvR (r : Nat → Int32) (n : Nat) (R : Nat → Nat) : Prop := (∀ k, k < n → R k ≤ LY r n k) ∧ ∀ k, k < n → R k ≤ FrN r n R k
theorem InvR.zero (r : Nat → Int32) (n : Nat) : InvR r n (fun _ => 0) := ⟨fun _ _ => Nat.zero_le _, fun _ _ => Nat.zero_le _⟩
theorem InvR.le {r : Nat → Int32} {n : Nat} {R : Nat → Nat} (h : RO r n) (i : InvR r n R) {k : Nat} (hk : k < n) : FrN r n R k ≤ LY r n k := by
  rw [← Fr_LY h hk]; exact Fr_mono i.1 k
theorem InvR.step {r : Nat → Int32} {n : Nat} {R : Nat → Nat} (h : RO r n) (i : InvR r n R) {k : Nat} (hk : k < n) : InvR r n (va_up R k (FrN r n R k)) := by
  have hm : ∀ j, j < n → R j ≤ va_up R k (FrN r n R k) j := fun j hj => by
    unfold va_up; split
    · rename_i e; subst e; exact i.2 j hj
    · exact Nat.le_refl _
  refine ⟨fun j hj => ?_, fun j hj => ?_⟩
  · unfold va_up; split
    · rename_i e; subst e; exact i.le h hj
    · exact i.1 j hj
  · refine Nat.le_trans ?_ (Fr_mono hm j)
    unfold va_up; split
    · rename_i e; subst e; exact Nat.le_refl _
    · exact i.2 j hj
/-- how much is lacking -/
def lckN (r : Nat → Int32) (n : Nat) (R : Nat → Nat) : Nat := sumN (fun k => LY r n k - R k) n
theorem lck_le (r : Nat → Int32) (n : Nat) (R : Nat → Nat) : lckN r n R ≤ n * 400 := sumN_le (fun k => by have := LY_le r n k; omega) n
theorem lck_step {r : Nat → Int32} {n : Nat} {R : Nat → Nat} (h : RO r n) (i : InvR r n R) {k : Nat} (hk : k < n) (hne : FrN r n R k ≠ R k) : lckN r n (va_up R k (FrN r n R k)) < lckN r n R := by
  unfold lckN
  have h1 := i.2 k hk
  have h2 := i.le h hk
  refine sumN_lt' (k := k) ?_ hk (fun j hj => ?_)
  · simp only [va_up, if_true]; omega
  · unfold va_up; split
    · rename_i e; subst e; omega
    · exact Nat.le_refl _
theorem uu_self {R : Nat → Nat} {k v : Nat} (h : v = R k) : va_up R k v = R := by
  funext j; unfold va_up; split
  · rename_i e; subst e; exact h
  · rfl
theorem rows_end {r : Nat → Int32} {n : Nat} {R : Nat → Nat} (h : RO r n) (e : ∀ k, k < n → FrN r n R k = R k) : ∀ k, k < n → R k = LY r n k := by
  have : ∀ f k, k < n → 397 ≤ f + gsR r k → R k = LY r n k := by
    intro f
    induction f with
    | zero => intro k hk q; have := gsR_le h hk; omega
    | succ f ih =>
      intro k hk q
      rw [← e k hk, ← Fr_LY h hk]
      unfold FrN
      by_cases z : cB r k = true
      · rw [if_pos z, if_pos z]
        congr 1
        refine maxN_congr (fun j hj => ?_)
        by_cases y : (cB r j && abv r (nI 15) j k) = true
        · rw [if_pos y, if_pos y]
          rw [Bool.and_eq_true] at y
          have := abv_gs h hj hk y.2
          exact ih j hj (by omega)
        · rw [if_neg y, if_neg y]
      · rw [if_neg z, if_neg z]
  exact fun k hk => this 400 k hk (by omega)

/-! told at a place; weakly; what would be; what is reached -/
theorem fil_get {T : Nat → Bool} : ∀ {n p : Nat} (h : p < ((List.range n).filter T).length), ((List.range n).filter T)[p] < n ∧ T ((List.range n).filter T)[p] = true ∧ cnt T ((List.range n).filter T)[p] = p
  | 0, p, h => absurd h (Nat.not_lt_zero _)
  | n + 1, p, h => by
    have e : (List.range (n + 1)).filter T = (List.range n).filter T ++ ([n].filter T) := by rw [List.range_succ, List.filter_append]
    by_cases q : p < ((List.range n).filter T).length
    · have e2 : ((List.range (n + 1)).filter T)[p] = ((List.range n).filter T)[p] := by
        simp only [e]; exact List.getElem_append_left q
      obtain ⟨h1, h2, h3⟩ := fil_get q
      rw [e2]
      exact ⟨by omega, h2, h3⟩
    · have hl : ((List.range (n + 1)).filter T).length = ((List.range n).filter T).length + (if T n then 1 else 0) := by
        rw [e, List.length_append]; cases z : T n <;> simp [z]
      have z : T n = true := by
        cases z : T n
        · rw [z] at hl; simp at hl; omega
        · rfl
      rw [z] at hl
      simp only [if_true] at hl
      have hp : p = ((List.range n).filter T).length := by omega
      have e2 : ((List.range (n + 1)).filter T)[p] = n := by
        simp only [e]
        rw [List.getElem_append_right (by omega)]
        simp [z, hp]
      rw [e2]
      exact ⟨by omega, z, by rw [hp, range_filter]⟩
theorem fil_fst {T : Nat → Bool} {n p : Nat} (hn : n ≤ 40) (hp : p < ((List.range n).filter T).length) : fstI (fun k => T k && decide (nI (cnt T k) = nI p)) n = nI ((List.range n).filter T)[p] := by
  obtain ⟨h1, h2, h3⟩ := fil_get hp
  have hb : p < n := by rw [range_filter] at hp; have := cnt_le T n; omega
  have hlow : ∀ m, m ≤ ((List.range n).filter T)[p] → fstI (fun k => T k && decide (nI (cnt T k) = nI p)) m = (-1) := by
    intro m
    induction m with
    | zero => intro _; rfl
    | succ m ih =>
      intro hm
      refine fstI_s (ih (by omega)) ?_
      show (T m && decide (nI (cnt T m) = nI p)) = false
      by_cases hc : T m = true
      · rw [hc, Bool.true_and, decide_eq_false_iff_not, nI_eq (by have := cnt_le T m; omega) (by omega)]
        intro e
        have : cnt T (m + 1) ≤ cnt T ((List.range n).filter T)[p] := cnt_mono (fun _ h => h) (by omega)
        rw [cnt, hc] at this
        simp only [if_true] at this
        omega
      · simp [hc]
  exact fstI_k (by omega) (hlow _ (Nat.le_refl _)) (by show (T _ && decide (nI (cnt T _) = nI p)) = true; rw [h2, h3]; simp) n h1
theorem fst_no {p : Nat → Bool} : ∀ {n : Nat}, (∀ k, k < n → p k = false) → fstI p n = (-1)
  | 0, _ => rfl
  | n + 1, h => fstI_s (fst_no (fun k hk => h k (by omega))) (h n (by omega))
/-- weakly -/
def asN (w f h : Nat → Int32) (t : Int32) : Nat := cnt (fun s => swB w t s && decide (goodI w h s ≤ goodI w f s)) 4
def wkB (r : Nat → Int32) (t : Int32) (k i : Nat) : Bool := decide (t ≤ nI (asN (mw r) (mv r k) (mv r i) (nI 15))) && decide (0 < betN (mw r) (mv r k) (mv r i) (swB (mw r) (nI 15)))
theorem cnt_and {p q : Nat → Bool} : ∀ n, cnt (fun s => p s && q s) n + cnt (fun s => p s && !q s) n = cnt p n
  | 0 => rfl
  | n + 1 => by
    have := cnt_and (p := p) (q := q) n
    simp only [cnt]
    by_cases hp : p n = true <;> by_cases hq : q n = true <;> simp [hp, hq] <;> omega
theorem as_eq (w f h : Nat → Int32) : nI (cnt (matB w) 4) - nI (betN w h f (hasB (matI w))) = nI (asN w f h (nI 15)) := by
  have e1 : betN w h f (hasB (matI w)) = cnt (fun s => matB w s && !decide (goodI w h s ≤ goodI w f s)) 4 := cnt_congr (fun s hs => by
    rw [hasB_mat w hs]
    congr 1
    by_cases q : goodI w f s < goodI w h s
    · rw [decide_eq_true q, decide_eq_false (nle_of_lt q)]; rfl
    · rw [decide_eq_false q, decide_eq_true (le_of_nlt q)]; rfl)
  have e2 : asN w f h (nI 15) = cnt (fun s => matB w s && decide (goodI w h s ≤ goodI w f s)) 4 := cnt_congr (fun s hs => by rw [swB_15 w hs, hasB_mat w hs])
  have := cnt_and (p := matB w) (q := fun s => decide (goodI w h s ≤ goodI w f s)) 4
  rw [← e2, ← e1] at this
  rw [pk_sub (by omega)]
  congr 1
  omega
theorem bet_self (w f : Nat → Int32) (P : Nat → Bool) : betN w f f P = 0 := by
  unfold betN
  exact cnt_ff (fun k => by simp [Int32.lt_iff_toInt_lt]) 4
theorem wk_eq (r : Nat → Int32) (t : Int32) (i k : Nat) : wbB r t i k = (cB r k && wkB r t k i) := by
  unfold wbB wkB
  rw [as_eq, betN_congr (fun s hs => swB_15 (mw r) hs)]
  by_cases q : k = i
  · subst q; simp [bet_self]
  · simp [q]
theorem weak_len (r : Nat → Int32) (t : Int32) (n : Nat) : ((actL r n).filter (fun i => !(actL r n).any (fun k => wkB r t k i))).length = cnt (fun k => cB r k && !anyB (wbB r t k) n) n := by
  conv => lhs; rw [show actL r n = (List.range n).filter (cB r) from rfl]
  rw [List.filter_filter, range_filter]
  refine cnt_congr (fun i _ => ?_)
  rw [Bool.and_comm, List.any_filter, range_any]
  congr 2
  unfold anyB
  congr 1
  exact allB_congr (fun k _ => by rw [wk_eq])
/-- an offer that isn't among them -/
def btV (r : Nat → Int32) (t : Int32) (L : List Nat) (v : Nat → Int32) : Bool := L.any (fun j => beyB (mw r) (mv r j) v (swB (mw r) t))
theorem btV_mv (r : Nat → Int32) (t : Int32) (L : List Nat) (i : Nat) : btV r t L (mv r i) = isBt r t L i := rfl
theorem up_15 (w f h : Nat → Int32) : upN w f h = betN w f h (swB w (nI 15)) := cnt_congr (fun s hs => by rw [swB_15 w hs, hasB_mat w hs])
theorem ag_1 (w f h : Nat → Int32) : decide (agN w f h = 1) = beyB w f h (swB w (nI 15)) := by
  unfold agN beyB
  rw [up_15, up_15]
  generalize betN w f h (swB w (nI 15)) = a
  generalize betN w h f (swB w (nI 15)) = b
  rw [Bool.eq_iff_iff, Bool.and_eq_true, decide_eq_true_eq, decide_eq_true_eq, decide_eq_true_eq]
  split
  · rename_i q; exact ⟨fun _ => ⟨q.2, q.1⟩, fun _ => rfl⟩
  · rename_i q
    constructor
    · split
      · intro x; cases x
      · intro x; cases x
    · rintro ⟨x, y⟩; exact absurd ⟨y, x⟩ q
theorem ag_2 (w f h : Nat → Int32) : decide (agN w f h = 2) = beyB w h f (swB w (nI 15)) := by
  unfold agN beyB
  rw [up_15, up_15]
  generalize betN w f h (swB w (nI 15)) = a
  generalize betN w h f (swB w (nI 15)) = b
  rw [Bool.eq_iff_iff, Bool.and_eq_true, decide_eq_true_eq, decide_eq_true_eq, decide_eq_true_eq]
  split
  · rename_i q; exact ⟨fun x => absurd x (by decide), fun x => by omega⟩
  · rename_i q
    split
    · rename_i q2; exact ⟨fun _ => ⟨q2.2, q2.1⟩, fun _ => rfl⟩
    · rename_i q2
      refine ⟨fun x => absurd x (by decide), fun x => absurd (And.intro x.2 x.1) q2⟩
theorem stand_eq (r : Nat → Int32) (n : Nat) (v : Nat → Int32) : unB r n v = (couB (mle r) (mgr r) v && !btV r (nI 15) (actL r n) v) := by
  unfold unB btV actL
  rw [List.any_filter, range_any]
  unfold anyB
  rw [Bool.not_not]
  congr 1
  exact allB_congr (fun k _ => by rw [ag_1, Bool.not_and])

/-! what is reached -/
def bsL (r : Nat → Int32) (a b : Nat) (x : Int32) (L : List Nat) : Int32 := L.foldl (fun v i => if x ≤ goodI (mw r) (mv r i) a then mxI v (goodI (mw r) (mv r i) b) else v) (-1)
theorem bsL_s (r : Nat → Int32) (a b : Nat) (x : Int32) (L : List Nat) (i : Nat) : bsL r a b x (L ++ [i]) = if x ≤ goodI (mw r) (mv r i) a then mxI (bsL r a b x L) (goodI (mw r) (mv r i) b) else bsL r a b x L := by
  unfold bsL; rw [List.foldl_append]; rfl
theorem bs_best (r : Nat → Int32) (a b : Nat) (x : Int32) : ∀ n, bsL r a b x (actL r n) = bestI r a b x n
  | 0 => rfl
  | n + 1 => by
    have ih := bs_best r a b x n
    have e : actL r (n + 1) = actL r n ++ ([n].filter (cB r)) := by unfold actL; rw [List.range_succ, List.filter_append]
    rw [e, bestI]
    cases hc : cB r n
    · simp [hc, ih]
    · rw [show [n].filter (cB r) = [n] by simp [hc], bsL_s, ih]
      unfold mxI
      by_cases h1 : x ≤ goodI (mw r) (mv r n) a
      · by_cases h2 : bestI r a b x n < goodI (mw r) (mv r n) b
        · simp [h1, h2]
        · simp [h1, h2]
      · simp [h1]
def stL (r : Nat → Int32) (n a b : Nat) : Nat → Int32
  | 0 => nI 0
  | x + 1 => stL r n a b x + (bsL r a b (nI x) (actL r n) + nI 1)
theorem st_rea (r : Nat → Int32) (n a b : Nat) : ∀ x, stL r n a b x = reaI r n a b x
  | 0 => rfl
  | x + 1 => by rw [stL, reaI, st_rea r n a b x, bs_best]
/-- is a pair reached? -/
def rdB (r : Nat → Int32) (L : List Nat) (a b x y : Nat) : Bool := L.any (fun i => decide (nI x ≤ goodI (mw r) (mv r i) a) && decide (nI y ≤ goodI (mw r) (mv r i) b))
theorem any_s (p : Nat → Bool) (n : Nat) : anyB p (n + 1) = (anyB p n || p n) := by
  unfold anyB; rw [allB_1, Bool.not_and, Bool.not_not]
theorem best_is {r : Nat → Int32} {n a b x : Nat} (h : RO r n) (ha : a < 4) (hb : b < 4) (hx : x < 100) : ∀ m, m ≤ n → ∃ v : Nat, v ≤ 100 ∧ bestI r a b (nI x) m + nI 1 = nI v ∧ ∀ y, y < 100 → (decide (y < v) = anyB (fun i => cB r i && (decide (nI x ≤ goodI (mw r) (mv r i) a) && decide (nI y ≤ goodI (mw r) (mv r i) b))) m)
  | 0, _ => ⟨0, by omega, by show (-1 : Int32) + nI 1 = nI 0; decide, fun y _ => rfl⟩
  | m + 1, hm => by
    obtain ⟨v, hv, e, hy⟩ := best_is h ha hb hx m (by omega)
    have e' : bestI r a b (nI x) m = nI v - nI 1 := by rw [← e, Int32.add_sub_cancel]
    obtain ⟨g1, g2⟩ := gN_ok (w := mw r) (h.v (i := m) (by omega)) ha
    obtain ⟨g3, g4⟩ := gN_ok (w := mw r) (h.v (i := m) (by omega)) hb
    rw [bestI]
    rw [g1, g3]
    generalize gN (mw r) (mv r m) a = ga at g1 g2
    generalize gN (mw r) (mv r m) b = gb at g3 g4
    have hlt : bestI r a b (nI x) m < nI gb ↔ v < gb + 1 := by
      rw [e', Int32.lt_iff_toInt_lt, nI_toInt (by omega)]
      rcases v with _ | v
      · have : (nI 0 - nI 1).toInt = -1 := by decide
        rw [this]; omega
      · rw [pk_sub (by omega), nI_toInt (by omega)]; omega
    have hle : nI x ≤ nI ga ↔ x ≤ ga := nI_leI (by omega) (by omega)
    by_cases q : cB r m = true ∧ x ≤ ga ∧ v < gb + 1
    · rw [if_pos (by rw [q.1, decide_eq_true (hle.mpr q.2.1), decide_eq_true (hlt.mpr q.2.2)]; rfl)]
      refine ⟨gb + 1, by omega, by rw [nI_add], fun y hy2 => ?_⟩
      rw [any_s, ← hy y hy2]
      show _ = (decide (y < v) || (cB r m && (decide (nI x ≤ goodI (mw r) (mv r m) a) && decide (nI y ≤ goodI (mw r) (mv r m) b))))
      rw [g1, g3, q.1, decide_eq_true (hle.mpr q.2.1), Bool.true_and, Bool.true_and]
      have : nI y ≤ nI gb ↔ y ≤ gb := nI_leI (by omega) (by omega)
      rw [Bool.eq_iff_iff, Bool.or_eq_true, decide_eq_true_eq, decide_eq_true_eq, decide_eq_true_eq, this]
      omega
    · have hf : ¬ (cB r m && (decide (nI x ≤ nI ga) && decide (bestI r a b (nI x) m < nI gb))) = true := by
        rw [Bool.and_eq_true, Bool.and_eq_true, decide_eq_true_eq, decide_eq_true_eq, hle, hlt]; exact q
      rw [if_neg hf]
      refine ⟨v, hv, e, fun y hy2 => ?_⟩
      rw [any_s, ← hy y hy2]
      show _ = (decide (y < v) || (cB r m && (decide (nI x ≤ goodI (mw r) (mv r m) a) && decide (nI y ≤ goodI (mw r) (mv r m) b))))
      rw [g1, g3]
      have : nI y ≤ nI gb ↔ y ≤ gb := nI_leI (by omega) (by omega)
      rw [Bool.eq_iff_iff, Bool.or_eq_true, Bool.and_eq_true, Bool.and_eq_true, decide_eq_true_eq, decide_eq_true_eq, decide_eq_true_eq, this, hle]
      constructor
      · exact Or.inl
      · rintro (z | ⟨z1, z2, z3⟩)
        · exact z
        · have : ¬ v < gb + 1 := fun z4 => q ⟨z1, z2, z4⟩
          omega
theorem cnt_lt (v : Nat) : ∀ n, cnt (fun y => decide (y < v)) n = min v n
  | 0 => by simp [cnt]
  | n + 1 => by
    rw [cnt, cnt_lt v n]
    by_cases q : n < v
    · simp [q]; omega
    · simp [q]; omega
theorem cnt_add (p : Nat → Bool) (k : Nat) : ∀ n, cnt p (k + n) = cnt p k + cnt (fun y => p (k + y)) n
  | 0 => rfl
  | n + 1 => by
    rw [show k + (n + 1) = (k + n) + 1 by omega, cnt, cnt_add p k n, cnt]; omega
theorem cnt_100 (p : Nat → Bool) : ∀ m, cnt p (100 * m) = sumN (fun x => cnt (fun y => p (100 * x + y)) 100) m
  | 0 => rfl
  | m + 1 => by rw [Nat.mul_succ, cnt_add, cnt_100 p m, sumN]
def prsN (r : Nat → Int32) (n a b : Nat) : Nat := cnt (fun z => rdB r (actL r n) a b (z / 100) (z % 100)) 10000
theorem sum_nI {f : Nat → Int32} {h : Nat → Nat} : ∀ m, (∀ x, x < m → f x = nI (h x)) → (∀ S : Nat → Int32, S 0 = nI 0 → (∀ x, S (x + 1) = S x + f x) → S m = nI (sumN h m))
  | 0, _, S, h0, _ => h0
  | m + 1, e, S, h0, hs => by
    rw [hs, sum_nI m (fun x hx => e x (by omega)) S h0 hs, e m (by omega), nI_add]; rfl
theorem prs_rea {r : Nat → Int32} {n a b : Nat} (h : RO r n) (ha : a < 4) (hb : b < 4) : nI (prsN r n a b) = reaI r n a b 100 := by
  have key : ∀ x, x < 100 → bestI r a b (nI x) n + nI 1 = nI (cnt (fun y => rdB r (actL r n) a b ((100 * x + y) / 100) ((100 * x + y) % 100)) 100) := by
    intro x hx
    obtain ⟨v, hv, e, hy⟩ := best_is h ha hb hx n (Nat.le_refl n)
    rw [e]
    congr 1
    rw [show v = min v 100 by omega, ← cnt_lt]
    refine cnt_congr (fun y hy2 => ?_)
    rw [hy y hy2, show (100 * x + y) / 100 = x by omega, show (100 * x + y) % 100 = y by omega]
    unfold rdB actL
    rw [List.any_filter, range_any]
  rw [sum_nI (f := fun x => bestI r a b (nI x) n + nI 1) (h := fun x => cnt (fun y => rdB r (actL r n) a b ((100 * x + y) / 100) ((100 * x + y) % 100)) 100) 100 key (reaI r n a b) rfl (fun _ => rfl)]
  unfold prsN
  rw [show 10000 = 100 * 100 from rfl, cnt_100]
theorem prs_le (r : Nat → Int32) (n a b : Nat) : prsN r n a b ≤ 10000 := cnt_le _ _

/-! by how much better -/
def rvI (r : Nat → Int32) (i q b : Nat) : Int32 := r (4 * i + q) + (if mw r q = nI 1 then nI b else -nI b)
theorem rv_eq (r : Nat → Int32) (i q b : Nat) : r (4 * i + q) + (if mw r q = nI 1 then nI 1 else (-1)) * nI b = rvI r i q b := by
  unfold rvI
  split
  · rw [pk_mul, Nat.one_mul]
  · rw [m1_mul]
/-- told with the value v on side q -/
def twV (r : Nat → Int32) (n i q : Nat) (v : Int32) : Bool := !btV r (nI 15) ((actL r n).filter (fun j => !(j == i))) (upd (mv r i) q v)
def trG (r : Nat → Int32) (n i q : Nat) : Nat → Nat → Int32
  | 0, _ => (-1)
  | f + 1, b => if twV r n i q (rvI r i q b) then nI b else if inB (rvI r i q (b + 1)) (mle r q) (mgr r q) then trG r n i q f (b + 1) else (-1)
theorem mv_upd_s (r : Nat → Int32) {i q : Nat} (hq : q < 4) (v : Int32) {s : Nat} (hs : s < 4) : mv (upd r (4 * i + q) v) i s = upd (mv r i) q v s := by
  unfold mv upd
  by_cases e : s = q
  · subst e; simp
  · rw [if_neg (by omega), if_neg e]
theorem mv_upd_n (r : Nat → Int32) {i j q : Nat} (hq : q < 4) (v : Int32) (h : j ≠ i) {s : Nat} (hs : s < 4) : mv (upd r (4 * i + q) v) j s = mv r j s := by
  unfold mv upd
  rw [if_neg (by omega)]
theorem hi_upd (r : Nat → Int32) {n i q : Nat} (hn : n ≤ 40) (hi : i < n) (hq : q < 4) (v : Int32) {j : Nat} (hj : 160 ≤ j) : upd r (4 * i + q) v j = r j := by
  unfold upd; rw [if_neg (by omega)]
theorem mw_upd (r : Nat → Int32) {n i q : Nat} (hn : n ≤ 40) (hi : i < n) (hq : q < 4) (v : Int32) : mw (upd r (4 * i + q) v) = mw r ∧ mle (upd r (4 * i + q) v) = mle r ∧ mgr (upd r (4 * i + q) v) = mgr r := by
  refine ⟨?_, ?_, ?_⟩ <;> funext s <;> exact hi_upd r hn hi hq v (by omega)
theorem good_congr {w f h : Nat → Int32} {s : Nat} (e : f s = h s) : goodI w f s = goodI w h s := by unfold goodI; rw [e]
theorem bet_v {w f f1 h h1 : Nat → Int32} {P : Nat → Bool} (e : ∀ s, s < 4 → f s = f1 s) (e2 : ∀ s, s < 4 → h s = h1 s) : betN w f h P = betN w f1 h1 P := cnt_congr (fun s hs => by rw [good_congr (w := w) (e s hs), good_congr (w := w) (e2 s hs)])
theorem bey_v {w f f1 h h1 : Nat → Int32} {P : Nat → Bool} (e : ∀ s, s < 4 → f s = f1 s) (e2 : ∀ s, s < 4 → h s = h1 s) : beyB w f h P = beyB w f1 h1 P := by
  unfold beyB; rw [bet_v e e2, bet_v e2 e]
theorem cou_v {le gr f f1 : Nat → Int32} (e : ∀ s, s < 4 → f s = f1 s) : couB le gr f = couB le gr f1 := allB_congr (fun s hs => by rw [e s hs])
theorem c_upd {r : Nat → Int32} {n i q : Nat} (hn : n ≤ 40) (hi : i < n) (hq : q < 4) (v : Int32) : cB (upd r (4 * i + q) v) i = couB (mle r) (mgr r) (upd (mv r i) q v) := by
  obtain ⟨-, h2, h3⟩ := mw_upd r hn hi hq v
  unfold cB
  rw [h2, h3]
  exact cou_v (fun s hs => mv_upd_s r hq v hs)
theorem c_upd_n {r : Nat → Int32} {n i j q : Nat} (hn : n ≤ 40) (hi : i < n) (hq : q < 4) (v : Int32) (h : j ≠ i) : cB (upd r (4 * i + q) v) j = cB r j := by
  obtain ⟨-, h2, h3⟩ := mw_upd r hn hi hq v
  unfold cB
  rw [h2, h3]
  exact cou_v (fun s hs => mv_upd_n r hq v h hs)
theorem cou_upd {le gr f : Nat → Int32} {q : Nat} {v : Int32} (hq : q < 4) (h : couB le gr f = true) : couB le gr (upd f q v) = inB v (le q) (gr q) := by
  unfold couB at h ⊢
  rw [allB_iff] at h
  rw [Bool.eq_iff_iff, allB_iff]
  constructor
  · intro x; have := x q hq; simpa [upd] using this
  · intro x s hs
    by_cases e : s = q
    · subst e; simpa [upd] using x
    · simpa [upd, e] using h s hs
theorem bey_self (w f : Nat → Int32) (P : Nat → Bool) : beyB w f f P = false := by
  unfold beyB; rw [bet_self]; rfl
theorem tw_eq {r : Nat → Int32} {n i q : Nat} (hn : n ≤ 40) (hi : i < n) (hq : q < 4) (hc : cB r i = true) (v : Int32) : isTB (upd r (4 * i + q) v) n i = (inB v (mle r q) (mgr r q) && twV r n i q v) := by
  have e1 : cB (upd r (4 * i + q) v) i = inB v (mle r q) (mgr r q) := by
    rw [c_upd hn hi hq]; exact cou_upd hq hc
  rw [isTB_tell, tellB, e1]
  congr 1
  unfold twV btV actL
  rw [List.any_filter, List.any_filter, range_any]
  unfold anyB
  rw [Bool.not_not]
  refine allB_congr (fun j _ => ?_)
  obtain ⟨h1, h2, h3⟩ := mw_upd r hn hi hq v
  by_cases e : j = i
  · subst e
    unfold eB
    rw [bey_self]; simp
  · rw [c_upd_n hn hi hq v e]
    unfold eB
    rw [h1, beyB_congr (fun s hs => (swB_15 (mw r) hs).symm), bey_v (f1 := mv r j) (h1 := upd (mv r i) q v) (fun s hs => mv_upd_n r hq v e hs) (fun s hs => mv_upd_s r hq v hs)]
    cases h : cB r j <;> simp [e, h]
theorem rv_0 (r : Nat → Int32) (i q : Nat) : rvI r i q 0 = r (4 * i + q) := by
  unfold rvI
  split <;> simp [nI_0]
theorem tr_ra {r : Nat → Int32} {n i q : Nat} (hn : n ≤ 40) (hi : i < n) (hq : q < 4) (hc : cB r i = true) : ∀ f b, inB (rvI r i q b) (mle r q) (mgr r q) = true → trG r n i q f b = raG r n i q f b
  | 0, _, _ => rfl
  | f + 1, b, hb => by
    rw [trG, raG, rv_eq, rv_eq, tw_eq hn hi hq hc, hb, Bool.true_and]
    by_cases h2 : inB (rvI r i q (b + 1)) (mle r q) (mgr r q) = true
    · rw [tr_ra hn hi hq hc f (b + 1) h2]
    · simp [h2]
theorem c_in {r : Nat → Int32} {i q : Nat} (hq : q < 4) (hc : cB r i = true) : inB (r (4 * i + q)) (mle r q) (mgr r q) = true := by
  unfold cB couB at hc; exact allB_iff.mp hc q hq
theorem tried_eq {r : Nat → Int32} {n i q : Nat} (hn : n ≤ 40) (hi : i < n) (hq : q < 4) (hc : cB r i = true) : trG r n i q 100 0 = raI r n i q := tr_ra hn hi hq hc 100 0 (by rw [rv_0]; exact c_in hq hc)

/-! reckoned out of those that beat it -/
def rstI (q : Nat) : Int32 := nI 15 &&& ((nI 1 <<< (nI q &&& 31)) ^^^ (-1))
theorem rst_has {q s : Nat} (hq : q < 4) (hs : s < 4) : hasB (rstI q) s = decide (s ≠ q) := by
  have h1 : q = 0 ∨ q = 1 ∨ q = 2 ∨ q = 3 := by omega
  have h2 : s = 0 ∨ s = 1 ∨ s = 2 ∨ s = 3 := by omega
  rcases h1 with rfl | rfl | rfl | rfl <;> rcases h2 with rfl | rfl | rfl | rfl <;> decide
def dueI (r : Nat → Int32) (i j q : Nat) : Int32 := if 0 < betN (mw r) (mv r i) (mv r j) (swB (mw r) (rstI q)) then nI 0 else goodI (mw r) (mv r j) q + bI (decide (0 < betN (mw r) (mv r j) (mv r i) (swB (mw r) (rstI q))))
def dueL (r : Nat → Int32) (i q : Nat) (L : List Nat) : Int32 := L.foldl (fun d j => if j = i then d else mxI d (dueI r i j q)) (nI 0)
theorem dueL_s (r : Nat → Int32) (i q : Nat) (L : List Nat) (j : Nat) : dueL r i q (L ++ [j]) = if j = i then dueL r i q L else mxI (dueL r i q L) (dueI r i j q) := by
  unfold dueL; rw [List.foldl_append]; rfl
def dueN (r : Nat → Int32) (i j q : Nat) : Nat := if 0 < betN (mw r) (mv r i) (mv r j) (swB (mw r) (rstI q)) then 0 else gN (mw r) (mv r j) q + (if 0 < betN (mw r) (mv r j) (mv r i) (swB (mw r) (rstI q)) then 1 else 0)
theorem due_n {r : Nat → Int32} {n i j q : Nat} (h : RO r n) (hj : j < n) (hq : q < 4) : dueI r i j q = nI (dueN r i j q) ∧ dueN r i j q ≤ 100 := by
  obtain ⟨g1, g2⟩ := gN_ok (w := mw r) (h.v hj) hq
  unfold dueI dueN
  by_cases a : 0 < betN (mw r) (mv r i) (mv r j) (swB (mw r) (rstI q))
  · rw [if_pos a, if_pos a]; exact ⟨rfl, by omega⟩
  · rw [if_neg a, if_neg a, g1]
    by_cases b : 0 < betN (mw r) (mv r j) (mv r i) (swB (mw r) (rstI q))
    · rw [decide_eq_true b, if_pos b, bI_T, nI_add]; exact ⟨rfl, by omega⟩
    · rw [decide_eq_false b, if_neg b, bI_F, nI_add]; exact ⟨rfl, by omega⟩
def dueM (r : Nat → Int32) (i q n : Nat) : Nat := maxN (fun j => if cB r j && !decide (j = i) then dueN r i j q else 0) n
theorem dueM_le {r : Nat → Int32} {n i q : Nat} (h : RO r n) (hq : q < 4) : ∀ m, m ≤ n → dueM r i q m ≤ 100 := fun m hm => maxN_le (fun k hk => by
  have := (due_n (i := i) h (show k < n by omega) hq).2
  show (if _ then _ else _) ≤ _
  split <;> omega)
theorem dueL_n {r : Nat → Int32} {n i q : Nat} (h : RO r n) (hq : q < 4) : ∀ m, m ≤ n → dueL r i q (actL r m) = nI (dueM r i q m)
  | 0, _ => rfl
  | m + 1, hm => by
    have ih := dueL_n (i := i) h hq m (by omega)
    have e : actL r (m + 1) = actL r m ++ ([m].filter (cB r)) := by unfold actL; rw [List.range_succ, List.filter_append]
    have hd := dueM_le (i := i) h hq m (by omega)
    have hs : dueM r i q (m + 1) = if dueM r i q m < (if cB r m && !decide (m = i) then dueN r i m q else 0) then (if cB r m && !decide (m = i) then dueN r i m q else 0) else dueM r i q m := rfl
    rw [e, hs]
    cases hc : cB r m
    · simp [hc, ih]
    · rw [show [m].filter (cB r) = [m] by simp [hc], dueL_s, ih]
      by_cases z : m = i
      · simp [z]
      · obtain ⟨d1, d2⟩ := due_n (i := i) h (show m < n by omega) hq
        rw [if_neg z, d1, decide_eq_false z]
        simp only [Bool.not_false, Bool.and_self, if_true]
        unfold mxI
        by_cases y : dueM r i q m < dueN r i m q
        · rw [if_pos y, if_pos ((nI_ltI (by omega) (by omega)).mpr y)]
        · rw [if_neg y, if_neg (mt (nI_ltI (by omega) (by omega)).mp y)]
theorem maxN_iff {f : Nat → Nat} {b n : Nat} : maxN f n ≤ b ↔ ∀ k, k < n → f k ≤ b := ⟨fun x k hk => Nat.le_trans (maxN_ge hk) x, maxN_le⟩
theorem betR {w f h : Nat → Int32} {q : Nat} (hq : q < 4) : 0 < betN w f h (swB w (rstI q)) ↔ ∃ s, s < 4 ∧ s ≠ q ∧ matB w s = true ∧ goodI w h s < goodI w f s := by
  unfold betN
  constructor
  · intro x
    obtain ⟨s, hs, e⟩ := cnt_pos x
    rw [Bool.and_eq_true, decide_eq_true_eq] at e
    unfold swB at e
    rw [rst_has hq hs, Bool.and_eq_true, decide_eq_true_eq] at e
    exact ⟨s, hs, e.1.1, e.1.2, e.2⟩
  · rintro ⟨s, hs, h1, h2, h3⟩
    exact cnt_gt (k := s) (by unfold swB; simp [rst_has hq hs, h1, h2, h3]) hs
/-- with a value in range that is b better -/
theorem raise_val {r : Nat → Int32} {n i q b : Nat} (h : RO r n) (hi : i < n) (hq : q < 4) (hb : b ≤ 100) (hV : inB (rvI r i q b) (mle r q) (mgr r q) = true) : inB (rvI r i q b) (nI 0) (nI 99) = true ∧ gN (mw r) (upd (mv r i) q (rvI r i q b)) q = gN (mw r) (mv r i) q + b := by
  obtain ⟨v1, -, v2⟩ := inB_nat (by omega) (by omega) (h.1 (4 * i + q) (by omega))
  obtain ⟨l1, -, l2⟩ := inB_nat (by omega) (by omega) (h.2.2.1 q hq)
  obtain ⟨m1, -, m2⟩ := inB_nat (by omega) (by omega) (h.2.2.2.1 q hq)
  have hmv : mv r i q = r (4 * i + q) := rfl
  unfold gN
  rw [show upd (mv r i) q (rvI r i q b) q = rvI r i q b by simp [upd], hmv]
  unfold rvI at hV ⊢
  generalize r (4 * i + q) = v at *
  generalize v.toNatClampNeg = vn at v1 v2 ⊢
  subst v1
  unfold inB at hV ⊢
  rw [Bool.and_eq_true, decide_eq_true_eq, decide_eq_true_eq] at hV ⊢
  rw [l1, m1] at hV
  generalize (mle r q).toNatClampNeg = ln at l1 l2 hV
  generalize (mgr r q).toNatClampNeg = gn at m1 m2 hV
  by_cases z : mw r q = nI 1
  · simp only [if_pos z] at hV ⊢
    rw [nI_add] at hV ⊢
    obtain ⟨a1, a2⟩ := hV
    rw [nI_leI (by omega) (by omega)] at a1 a2
    refine ⟨⟨nI_le (by omega) (by omega), nI_le (by omega) (by omega)⟩, ?_⟩
    rw [nI_clamp (by omega)]
  · simp only [if_neg z] at hV ⊢
    rw [← Int32.sub_eq_add_neg] at hV ⊢
    obtain ⟨a1, a2⟩ := hV
    rw [Int32.le_iff_toInt_le, pk_sub_toInt (by omega) (by omega), nI_toInt (by omega)] at a1 a2
    rw [pk_sub (by omega), nI_clamp (by omega)]
    refine ⟨⟨nI_le (by omega) (by omega), nI_le (by omega) (by omega)⟩, by omega⟩
theorem tw_due {r : Nat → Int32} {n i q b : Nat} (h : RO r n) (hi : i < n) (hq : q < 4) (hb : b ≤ 100) (hm : matB (mw r) q = true) (hV : inB (rvI r i q b) (mle r q) (mgr r q) = true) : twV r n i q (rvI r i q b) = true ↔ dueM r i q n ≤ gN (mw r) (mv r i) q + b := by
  obtain ⟨hv, hg⟩ := raise_val h hi hq hb hV
  have hVO : VO (upd (mv r i) q (rvI r i q b)) := fun s hs => by
    unfold upd; split
    · exact hv
    · exact h.v hi s hs
  have hsame : ∀ s, s ≠ q → goodI (mw r) (upd (mv r i) q (rvI r i q b)) s = goodI (mw r) (mv r i) s := fun s hs => good_congr (by simp [upd, hs])
  unfold twV btV actL dueM
  rw [List.any_filter, List.any_filter, range_any, maxN_iff]
  unfold anyB
  rw [Bool.not_not, allB_iff]
  refine forall_congr' (fun j => forall_congr' (fun hj => ?_))
  dsimp only
  by_cases e : cB r j = true ∧ j ≠ i
  · rw [e.1]
    simp only [Bool.true_and, decide_eq_false e.2, Bool.not_false, if_true]
    rw [show (j == i) = false by simp [e.2], Bool.not_false, Bool.true_and, Bool.not_eq_true']
    have hql := good_lt (w := mw r) (h.v hj) hVO hq
    have hql2 := good_lt (w := mw r) hVO (h.v hj) hq
    rw [hg] at hql hql2
    have hbe : beyB (mw r) (mv r j) (upd (mv r i) q (rvI r i q b)) (swB (mw r) (nI 15)) = true ↔ ¬ (0 < betN (mw r) (mv r i) (mv r j) (swB (mw r) (rstI q))) ∧ ¬ (gN (mw r) (mv r j) q < gN (mw r) (mv r i) q + b) ∧ (0 < betN (mw r) (mv r j) (mv r i) (swB (mw r) (rstI q)) ∨ gN (mw r) (mv r i) q + b < gN (mw r) (mv r j) q) := by
      rw [bey_iff, betR hq, betR hq]
      have hsw : ∀ s, s < 4 → (swB (mw r) (nI 15) s = true ↔ matB (mw r) s = true) := fun s hs => by rw [swB_15 _ hs, hasB_mat _ hs]
      constructor
      · rintro ⟨h1, s, hs, hp, hl⟩
        refine ⟨?_, ?_, ?_⟩
        · rintro ⟨z, hz, z1, z2, z3⟩
          have := h1 z hz ((hsw z hz).mpr z2)
          rw [hsame z z1] at this
          exact this z3
        · intro z
          exact h1 q hq ((hsw q hq).mpr hm) (hql.mpr z)
        · by_cases sq : s = q
          · subst sq; exact Or.inr (hql2.mp hl)
          · rw [hsame s sq] at hl
            exact Or.inl ⟨s, hs, sq, (hsw s hs).mp hp, hl⟩
      · rintro ⟨h1, h2, h3⟩
        refine ⟨fun s hs hp hl => ?_, ?_⟩
        · by_cases sq : s = q
          · subst sq; exact h2 (hql.mp hl)
          · rw [hsame s sq] at hl
            exact h1 ⟨s, hs, sq, (hsw s hs).mp hp, hl⟩
        · rcases h3 with ⟨s, hs, h4, h5, h6⟩ | h3
          · exact ⟨s, hs, (hsw s hs).mpr h5, by rw [hsame s h4]; exact h6⟩
          · exact ⟨q, hq, (hsw q hq).mpr hm, hql2.mpr h3⟩
    rw [← Bool.not_eq_true, hbe]
    unfold dueN
    by_cases a : 0 < betN (mw r) (mv r i) (mv r j) (swB (mw r) (rstI q))
    · rw [if_pos a]; exact ⟨fun _ => Nat.zero_le _, fun _ x => x.1 a⟩
    · rw [if_neg a]
      by_cases c : 0 < betN (mw r) (mv r j) (mv r i) (swB (mw r) (rstI q))
      · rw [if_pos c]
        constructor
        · intro x
          refine Nat.le_of_not_lt (fun y => x ⟨a, by omega, Or.inl c⟩)
        · rintro x ⟨-, y, -⟩; omega
      · rw [if_neg c]
        constructor
        · intro x
          refine Nat.le_of_not_lt (fun y => x ⟨a, by omega, Or.inr (by omega)⟩)
        · rintro x ⟨-, y, z | z⟩
          · exact c z
          · omega
  · have : (cB r j && !decide (j = i)) = false := by
      cases z : cB r j
      · rfl
      · have : j = i := Classical.byContradiction (fun y => e ⟨z, y⟩)
        simp [this]
    rw [this]
    have e2 : (cB r j && (!(j == i) && beyB (mw r) (mv r j) (upd (mv r i) q (rvI r i q b)) (swB (mw r) (nI 15)))) = false := by
      cases z : cB r j
      · rfl
      · have : j = i := Classical.byContradiction (fun y => e ⟨z, y⟩)
        simp [this]
    rw [e2]
    exact ⟨fun _ => Nat.zero_le _, fun _ => rfl⟩
theorem rv_mono {r : Nat → Int32} {n i q a b d : Nat} (h : RO r n) (hi : i < n) (hq : q < 4) (hd : d ≤ 100) (h1 : a ≤ b) (h2 : b ≤ d) (ha : inB (rvI r i q a) (mle r q) (mgr r q) = true) (hb : inB (rvI r i q d) (mle r q) (mgr r q) = true) : inB (rvI r i q b) (mle r q) (mgr r q) = true := by
  obtain ⟨v1, -, v2⟩ := inB_nat (by omega) (by omega) (h.1 (4 * i + q) (by omega))
  unfold rvI inB at *
  generalize r (4 * i + q) = v at *
  generalize v.toNatClampNeg = vn at v1 v2
  subst v1
  rw [Bool.and_eq_true, decide_eq_true_eq, decide_eq_true_eq] at *
  simp only [Int32.le_iff_toInt_le] at *
  by_cases z : mw r q = nI 1
  · simp only [if_pos z] at *
    simp only [nI_add] at *
    rw [nI_toInt (by omega)] at *
    omega
  · simp only [if_neg z] at *
    simp only [← Int32.sub_eq_add_neg] at *
    rw [pk_sub_toInt (by omega) (by omega)] at *
    omega
theorem tr_due {r : Nat → Int32} {n i q : Nat} (h : RO r n) (hn : n ≤ 40) (hi : i < n) (hq : q < 4) (hm : matB (mw r) q = true) (B : Nat) (hB : B = dueM r i q n - gN (mw r) (mv r i) q) : ∀ f b, b ≤ B → 100 ≤ f + b → inB (rvI r i q b) (mle r q) (mgr r q) = true → trG r n i q f b = if inB (rvI r i q B) (mle r q) (mgr r q) then nI B else (-1)
  | 0, b, h1, h2, h3 => by
    have hd := dueM_le (i := i) h hq n (Nat.le_refl n)
    have := raise_b (b := 99) h hi hq (by omega) (by
      rw [rv_eq]
      have e : b = 99 + 1 := by omega
      rw [← e]; exact h3)
    omega
  | f + 1, b, h1, h2, h3 => by
    have hd := dueM_le (i := i) h hq n (Nat.le_refl n)
    rw [trG]
    by_cases e : b = B
    · subst e
      rw [if_pos ((tw_due h hi hq (by omega) hm h3).mpr (by omega)), if_pos h3]
    · rw [if_neg (mt (tw_due h hi hq (by omega) hm h3).mp (by omega))]
      by_cases z : inB (rvI r i q (b + 1)) (mle r q) (mgr r q) = true
      · rw [if_pos z]
        exact tr_due h hn hi hq hm B hB f (b + 1) (by omega) (by omega) z
      · rw [if_neg z, if_neg (fun y => z (rv_mono h hi hq (by omega) (by omega) (by omega) h3 y))]
theorem reck_eq {r : Nat → Int32} {n i q : Nat} (h : RO r n) (hn : n ≤ 40) (hi : i < n) (hq : q < 4) (hc : cB r i = true) (hm : matB (mw r) q = true) : (if inB (rvI r i q (dueM r i q n - gN (mw r) (mv r i) q)) (mle r q) (mgr r q) then nI (dueM r i q n - gN (mw r) (mv r i) q) else (-1)) = raI r n i q := by
  rw [← tried_eq hn hi hq hc]
  exact (tr_due h hn hi hq hm _ rfl 100 0 (Nat.zero_le _) (by omega) (by rw [rv_0]; exact c_in hq hc)).symm

/-! some for all: sets of places as bits -/
def lbt (x : Int64) (i : Nat) : Bool := x.toBitVec.getLsbD i
theorem lbt_or (x y : Int64) (i : Nat) : lbt (x ||| y) i = (lbt x i || lbt y i) := by unfold lbt; rw [Int64.toBitVec_or, BitVec.getLsbD_or]
theorem lbt_and (x y : Int64) (i : Nat) : lbt (x &&& y) i = (lbt x i && lbt y i) := by unfold lbt; rw [Int64.toBitVec_and, BitVec.getLsbD_and]
theorem lbt_m1 : ∀ i, i < 64 → lbt (-1) i = true := by decide +kernel
theorem lbt_not (x : Int64) {i : Nat} (hi : i < 64) : lbt (x ^^^ (-1)) i = !lbt x i := by
  have h := lbt_m1 i hi
  unfold lbt at h ⊢
  rw [Int64.toBitVec_xor, BitVec.getLsbD_xor, h, Bool.xor_true]
theorem lbt_0 (i : Nat) : lbt 0 i = false := BitVec.getLsbD_zero
theorem lbt_shl : ∀ k, k < 64 → ∀ i, i < 64 → lbt ((1 : Int64) <<< ((nI k).toInt64 &&& 63)) i = decide (i = k) := by decide +kernel
theorem shl_0 : ∀ k, k < 64 → (0 : Int64) <<< ((nI k).toInt64 &&& 63) = 0 := by decide +kernel
theorem lbt_bit (b : Bool) {k i : Nat} (hk : k < 64) (hi : i < 64) : lbt ((bI b).toInt64 <<< ((nI k).toInt64 &&& 63)) i = (b && decide (i = k)) := by
  cases b
  · rw [show (bI false).toInt64 = 0 by decide, shl_0 k hk, lbt_0]; rfl
  · rw [show (bI true).toInt64 = 1 by decide, lbt_shl k hk i hi]; rfl
def onesN (x : Int64) : Nat := cnt (lbt x) 64
theorem cnt_shift (p : Nat → Bool) (w : Nat) : cnt p (w + 1) = (if p 0 then 1 else 0) + cnt (fun i => p (i + 1)) w := by
  rw [Nat.add_comm w 1, cnt_add]
  congr 1
  · simp [cnt]
  · exact cnt_congr (fun k _ => by rw [Nat.add_comm])
theorem pc_step : ∀ (w n : Nat), 0 < n → n < 2 ^ w → cnt (fun i => (n &&& (n - 1)).testBit i) w + 1 = cnt (fun i => n.testBit i) w
  | 0, n, h, h2 => by simp at h2; omega
  | w + 1, n, h, h2 => by
    rw [cnt_shift, cnt_shift (fun i => n.testBit i)]
    have e1 : ∀ i, (n &&& (n - 1)).testBit (i + 1) = ((n / 2).testBit i && ((n - 1) / 2).testBit i) := fun i => by
      rw [Nat.testBit_and, Nat.testBit_succ, Nat.testBit_succ]
    have e0 : (n &&& (n - 1)).testBit 0 = false := by
      rw [Nat.testBit_and, Nat.testBit_zero, Nat.testBit_zero]
      by_cases z : n % 2 = 1
      · have : (n - 1) % 2 = 0 := by omega
        simp [this]
      · simp [z]
    rw [e0]
    simp only [e1, Nat.testBit_succ, Nat.testBit_zero]
    by_cases z : n % 2 = 1
    · rw [show (n - 1) / 2 = n / 2 by omega, cnt_congr (q := fun i => (n / 2).testBit i) (fun k _ => Bool.and_self _)]
      simp [z]; omega
    · have := pc_step w (n / 2) (by omega) (by have := Nat.pow_succ 2 w; omega)
      rw [show (n - 1) / 2 = n / 2 - 1 by omega]
      rw [← this]
      simp only [Nat.testBit_and]
      simp [z]
theorem lbt_nat (x : Int64) (i : Nat) : lbt x i = x.toBitVec.toNat.testBit i := rfl
theorem ones_step {x : Int64} (h : x ≠ 0) : onesN (x &&& (x - 1)) + 1 = onesN x := by
  have h0 : 0 < x.toBitVec.toNat := by
    refine Nat.pos_of_ne_zero (fun e => h (Int64.toBitVec_inj.mp (BitVec.eq_of_toNat_eq ?_)))
    rw [e]; rfl
  have e : (x &&& (x - 1)).toBitVec.toNat = x.toBitVec.toNat &&& (x.toBitVec.toNat - 1) := by
    rw [Int64.toBitVec_and, BitVec.toNat_and, Int64.toBitVec_sub, BitVec.toNat_sub]
    congr 1
    have := x.toBitVec.isLt
    show (2 ^ 64 - 1 + x.toBitVec.toNat) % 2 ^ 64 = _
    omega
  have := pc_step 64 x.toBitVec.toNat h0 x.toBitVec.isLt
  rw [← e] at this
  exact this
theorem ones_0 : onesN 0 = 0 := cnt_ff (fun k => lbt_0 k) 64
theorem ones_le (x : Int64) : onesN x ≤ 64 := cnt_le _ _
def mkI (p : Nat → Bool) : Nat → Int64
  | 0 => 0
  | k + 1 => mkI p k ||| ((bI (p k)).toInt64 <<< ((nI k).toInt64 &&& 63))
theorem mk_bit {p : Nat → Bool} : ∀ {k i : Nat}, k ≤ 64 → i < 64 → lbt (mkI p k) i = (decide (i < k) && p i)
  | 0, i, _, _ => by rw [mkI, lbt_0]; simp
  | k + 1, i, h, hi => by
    rw [mkI, lbt_or, mk_bit (by omega) hi, lbt_bit _ (by omega) hi]
    by_cases e : i = k
    · subst e; simp
    · rw [Bool.eq_iff_iff]
      have : i < k + 1 ↔ i < k := by omega
      simp [e, this]
theorem cnt_cut {p : Nat → Bool} {k w : Nat} (h : k ≤ w) : cnt (fun i => decide (i < k) && p i) w = cnt p k := by
  have e : cnt (fun y => decide (k + y < k) && p (k + y)) (w - k) = 0 := cnt_ff (fun i => by rw [decide_eq_false (by omega)]; rfl) _
  have e1 : cnt (fun i => decide (i < k) && p i) k = cnt p k := cnt_congr (fun i hi => by simp [hi])
  rw [show w = k + (w - k) by omega, cnt_add, e, e1]; rfl
theorem ones_is {x : Int64} {p : Nat → Bool} {k : Nat} (hk : k ≤ 64) (h : ∀ i, i < 64 → lbt x i = (decide (i < k) && p i)) : onesN x = cnt p k := by
  unfold onesN
  rw [cnt_congr h, cnt_cut hk]
theorem fil_at {T : Nat → Bool} {n k : Nat} (hk : k < n) (h : T k = true) : ∃ hp : cnt T k < ((List.range n).filter T).length, ((List.range n).filter T)[cnt T k] = k := by
  have hm : k ∈ (List.range n).filter T := by rw [List.mem_filter, List.mem_range]; exact ⟨hk, h⟩
  obtain ⟨p, hp, e⟩ := List.getElem_of_mem hm
  have := (fil_get hp).2.2
  rw [e] at this
  subst this
  exact ⟨hp, e⟩
/-- counting by places -/
theorem cnt_pl (c q : Nat → Bool) : ∀ n, cnt (fun o => q (((List.range n).filter c).getD o 0)) ((List.range n).filter c).length = cnt (fun j => c j && q j) n
  | 0 => rfl
  | n + 1 => by
    have e : (List.range (n + 1)).filter c = (List.range n).filter c ++ ([n].filter c) := by rw [List.range_succ, List.filter_append]
    rw [cnt, ← cnt_pl c q n, e]
    cases h : c n
    · simp [h]
    · rw [show [n].filter c = [n] by simp [h], List.length_append, List.length_singleton, cnt]
      congr 1
      · refine cnt_congr (fun o ho => ?_)
        simp [List.getD, List.getElem?_append_left ho]
      · simp [List.getD]

/-! taken one by one -/
/-- the set that place a of T beats, in places of A -/
def mskL (r : Nat → Int32) (A : List Nat) (k : Nat) : Int64 := mkI (fun o => abv r (nI 15) k (A.getD o 0)) A.length
theorem act_len {r : Nat → Int32} {n : Nat} (hn : n ≤ 40) : (actL r n).length ≤ 40 := by
  unfold actL; rw [range_filter]; have := cnt_le (cB r) n; omega
/-- U is what is covered -/
def CovU (r : Nat → Int32) (n : Nat) (cv : Nat → Bool) (U : Int64) : Prop := ∀ i, i < 64 → lbt U i = (decide (i < (actL r n).length) && cv ((actL r n).getD i 0))
theorem CovU.zero (r : Nat → Int32) (n : Nat) : CovU r n (fun _ => false) 0 := fun i _ => by rw [lbt_0]; simp
theorem CovU.or {r : Nat → Int32} {n : Nat} {cv : Nat → Bool} {U : Int64} (hn : n ≤ 40) (h : CovU r n cv U) (k : Nat) : CovU r n (fun j => cv j || abv r (nI 15) k j) (U ||| mskL r (actL r n) k) := fun i hi => by
  have := act_len (r := r) hn
  unfold mskL
  rw [lbt_or, h i hi, mk_bit (by omega) hi]
  cases decide (i < (actL r n).length) <;> rfl
theorem CovU.gain {r : Nat → Int32} {n : Nat} {cv : Nat → Bool} {U : Int64} (hn : n ≤ 40) (h : CovU r n cv U) (k : Nat) : onesN (mskL r (actL r n) k &&& (U ^^^ (-1))) = cnt (fun j => cB r j && (!cv j && abv r (nI 15) k j)) n := by
  have hl := act_len (r := r) hn
  rw [ones_is (p := fun o => !cv ((actL r n).getD o 0) && abv r (nI 15) k ((actL r n).getD o 0)) (k := (actL r n).length) (by omega) (fun i hi => by
    unfold mskL
    rw [lbt_and, mk_bit (by omega) hi, lbt_not _ hi, h i hi]
    cases decide (i < (actL r n).length) <;> simp [Bool.and_comm])]
  exact cnt_pl (cB r) (fun j => !cv j && abv r (nI 15) k j) n
theorem CovU.ones {r : Nat → Int32} {n : Nat} {cv : Nat → Bool} {U : Int64} (hn : n ≤ 40) (h : CovU r n cv U) : onesN U = cnt (fun j => cB r j && cv j) n := by
  have hl := act_len (r := r) hn
  rw [ones_is (by omega) h]
  exact cnt_pl (cB r) cv n
/-- the first of the greatest -/
def bnG (own : Nat → Int32) : Nat → Int32 × Int32
  | 0 => (-1, -1)
  | k + 1 => (if (bnG own k).2 < own k then nI k else (bnG own k).1, mxI (bnG own k).2 (own k))
/-- what the system sees of a state of taking -/
def TakS (r : Nat → Int32) (n : Nat) (T0 t cv : Nat → Bool) (used : Nat → Bool) (U : Int64) : Prop := (∀ k, t k = true → T0 k = true) ∧ (∀ k, k < n → T0 k = true → used (cnt T0 k) = !t k) ∧ CovU r n cv U
def ownI (r : Nat → Int32) (n : Nat) (T : List Nat) (used : Nat → Bool) (U : Int64) (p : Nat) : Int32 := if used p then (-1) else nI (onesN (mskL r (actL r n) (T.getD p 0) &&& (U ^^^ (-1))))
theorem gain_ga {r : Nat → Int32} {n k : Nat} {cv : Nat → Bool} (hc : cB r k = true) : cnt (fun j => cB r j && (!cv j && abv r (nI 15) k j)) n = gaN r n cv k := by
  unfold gaN
  refine cnt_congr (fun j _ => ?_)
  rw [beat_abv, hc, Bool.true_and]
  cases cB r j <;> cases cv j <;> simp
theorem best_bc {r : Nat → Int32} {n : Nat} {T0 t cv used : Nat → Bool} {U : Int64} (hn : n ≤ 40) (hT : ∀ k, T0 k = true → cB r k = true) (h : TakS r n T0 t cv used U) : ∀ m, m ≤ n → bnG (ownI r n ((List.range n).filter T0) used U) (cnt T0 m) = match bcN r n t cv m with
    | none => (-1, -1)
    | some z => (nI (cnt T0 z.1), nI z.2)
  | 0, _ => rfl
  | m + 1, hm => by
    have ih := best_bc hn hT h m (by omega)
    obtain ⟨h1, h2, h3⟩ := h
    by_cases hT0 : T0 m = true
    · obtain ⟨hp, hg⟩ := fil_at (n := n) (show m < n by omega) hT0
      have hgd : ((List.range n).filter T0).getD (cnt T0 m) 0 = m := by rw [getD_at hp]; exact hg
      have hu := h2 m (by omega) hT0
      have hown : ownI r n ((List.range n).filter T0) used U (cnt T0 m) = if t m then nI (gaN r n cv m) else (-1) := by
        unfold ownI
        rw [hgd, hu, h3.gain hn, gain_ga (hT m hT0)]
        cases t m <;> rfl
      rw [show cnt T0 (m + 1) = cnt T0 m + 1 by simp [cnt, hT0], bnG, hown]
      cases ht : t m
      · rw [bcN_f ht]
        simp only [Bool.false_eq_true, if_false]
        rw [ih]
        have hb := fun z => bcN_is (r := r) (n := n) (t := t) (cv := cv) (k := m) (z := z)
        cases hbc : bcN r n t cv m with
        | none => rfl
        | some z =>
          have hz : z.2 ≤ n := by rw [(hb z hbc).2.2]; exact cnt_le _ _
          have : ¬ nI z.2 < (-1 : Int32) := by
            rw [Int32.lt_iff_toInt_lt, nI_toInt (by omega)]
            have : (-1 : Int32).toInt = -1 := by decide
            omega
          show (if nI z.2 < (-1 : Int32) then _ else _, mxI (nI z.2) (-1)) = _
          unfold mxI
          rw [if_neg this, if_neg this]
      · simp only [if_true]
        have hga : gaN r n cv m ≤ n := cnt_le _ _
        cases hbc : bcN r n t cv m with
        | none =>
          rw [hbc] at ih
          have hlt : (-1 : Int32) < nI (gaN r n cv m) := by
            rw [Int32.lt_iff_toInt_lt, nI_toInt (by omega)]
            have : (-1 : Int32).toInt = -1 := by decide
            omega
          rw [bcN_t ht (by rw [hbc]; exact hlt), ih]
          show (if (-1 : Int32) < _ then _ else _, mxI (-1) _) = _
          unfold mxI
          rw [if_pos hlt, if_pos hlt]
        | some z =>
          rw [hbc] at ih
          by_cases hlt : nI z.2 < nI (gaN r n cv m)
          · rw [bcN_t ht (by rw [hbc]; exact hlt), ih]
            show (if nI z.2 < _ then _ else _, mxI (nI z.2) _) = _
            unfold mxI
            rw [if_pos hlt, if_pos hlt]
          · rw [bcN_f2 (by rw [hbc]; exact le_of_nlt hlt), hbc, ih]
            show (if nI z.2 < _ then _ else _, mxI (nI z.2) _) = _
            unfold mxI
            rw [if_neg hlt, if_neg hlt]
    · have ht : t m = false := by
        cases z : t m
        · rfl
        · exact absurd (h1 m z) hT0
      rw [bcN_f ht, show cnt T0 (m + 1) = cnt T0 m by simp [cnt, hT0], ih]
theorem cnt_inj {T : Nat → Bool} {j k : Nat} (hj : T j = true) (hk : T k = true) (e : cnt T j = cnt T k) : j = k := by
  have key : ∀ {a b : Nat}, T a = true → a < b → cnt T a < cnt T b := fun {a b} h1 h2 => by
    have : cnt T (a + 1) ≤ cnt T b := cnt_mono (fun _ h => h) (by omega)
    rw [cnt, h1] at this
    simp only [if_true] at this
    omega
  rcases Nat.lt_trichotomy j k with x | x | x
  · have := key hj x; omega
  · exact x
  · have := key hk x; omega
/-- one step of taking -/
theorem TakS.step {r : Nat → Int32} {n : Nat} {T0 t cv used : Nat → Bool} {U : Int64} (hn : n ≤ 40) (hT : ∀ k, T0 k = true → cB r k = true) (h : TakS r n T0 t cv used U) {b : Nat} (hb : b < n) (htb : t b = true) : TakS r n T0 (fun j => t j && !decide (j = b)) (fun j => cv j || beatB r b j) (fun p => used p || decide (p = cnt T0 b)) (U ||| mskL r (actL r n) b) := by
  obtain ⟨h1, h2, h3⟩ := h
  refine ⟨fun k hk => ?_, fun k hk hT0 => ?_, fun i hi => ?_⟩
  · dsimp only at hk
    rw [Bool.and_eq_true] at hk; exact h1 k hk.1
  · dsimp only
    rw [h2 k hk hT0]
    by_cases e : k = b
    · subst e; simp
    · have : ¬ cnt T0 k = cnt T0 b := fun x => e (cnt_inj hT0 (h1 b htb) x)
      simp [e, this]
  · rw [h3.or hn b i hi]
    dsimp only
    by_cases q : i < (actL r n).length
    · have hm : (actL r n).getD i 0 ∈ actL r n := by rw [getD_at q]; exact List.getElem_mem q
      unfold actL at hm
      rw [List.mem_filter] at hm
      have hm2 : cB r ((actL r n).getD i 0) = true := hm.2
      rw [beat_abv, hT b (h1 b htb), hm2]; rfl
    · simp [q]
theorem tell_c {r : Nat → Int32} {n : Nat} {P : Nat → Bool} (k : Nat) (h : tellB r n P k = true) : cB r k = true := by
  unfold tellB at h; rw [Bool.and_eq_true] at h; exact h.1
theorem gt_ok {r : Nat → Int32} {n : Nat} {T0 : Nat → Bool} (hn : n ≤ 40) : ∀ z, z ≤ cnt T0 n → cnt (grS r n T0 z).1 n + z = cnt T0 n
  | 0, _ => rfl
  | z + 1, hz => by
    have ih := gt_ok (r := r) (T0 := T0) hn z (by omega)
    obtain ⟨-, -, hb, ht⟩ := gr_best hn (r := r) (t := (grS r n T0 z).1) (cv := (grS r n T0 z).2.1) (by omega)
    have := cnt_clr (t := (grS r n T0 z).1) (b := gB1 r n (grS r n T0 z).1 (grS r n T0 z).2.1) ht hb
    show cnt (fun j => (grS r n T0 z).1 j && !decide (j = gB1 r n (grS r n T0 z).1 (grS r n T0 z).2.1)) n + (z + 1) = _
    omega

theorem gr_tak {r : Nat → Int32} {n : Nat} {T0 : Nat → Bool} (hn : n ≤ 40) (hT : ∀ k, T0 k = true → cB r k = true) {z : Nat} (hz : z < cnt T0 n) {used : Nat → Bool} {U : Int64} (h : TakS r n T0 (grS r n T0 z).1 (grS r n T0 z).2.1 used U) :
    (bnG (ownI r n ((List.range n).filter T0) used U) ((List.range n).filter T0).length).1 = nI (cnt T0 (gBs r n T0 z)) ∧ gBs r n T0 z < n ∧ T0 (gBs r n T0 z) = true ∧ TakS r n T0 (grS r n T0 (z + 1)).1 (grS r n T0 (z + 1)).2.1 (fun p => used p || decide (p = cnt T0 (gBs r n T0 z))) (U ||| mskL r (actL r n) (gBs r n T0 z)) := by
  have h0 := gt_ok (r := r) (T0 := T0) hn z (by omega)
  obtain ⟨k, hk, ht⟩ := cnt_pos (show 0 < cnt (grS r n T0 z).1 n by omega)
  obtain ⟨y, hy⟩ := bcN_some (r := r) (cv := (grS r n T0 z).2.1) hn ht hk
  obtain ⟨a, b, -⟩ := bcN_is hy
  have hB := best_bc hn hT h n (Nat.le_refl n)
  rw [hy] at hB
  have e1 : gBs r n T0 z = y.1 := by unfold gBs gB1; rw [hy]
  rw [range_filter, hB, e1]
  exact ⟨rfl, a, h.1 _ b, by
    have := h.step hn hT a b
    have e2 : gB1 r n (grS r n T0 z).1 (grS r n T0 z).2.1 = y.1 := e1
    show TakS r n T0 (fun j => (grS r n T0 z).1 j && !decide (j = gB1 r n (grS r n T0 z).1 (grS r n T0 z).2.1)) (fun j => (grS r n T0 z).2.1 j || beatB r (gB1 r n (grS r n T0 z).1 (grS r n T0 z).2.1) j) _ _
    rw [e2]; exact this⟩
theorem TakS.zero (r : Nat → Int32) (n : Nat) (T0 : Nat → Bool) : TakS r n T0 (grS r n T0 0).1 (grS r n T0 0).2.1 (fun _ => false) 0 :=
  ⟨fun _ h => h, fun k _ h => by
    show false = !T0 k
    rw [h]; rfl, CovU.zero r n⟩
theorem gr_sum {r : Nat → Int32} {n : Nat} {T0 : Nat → Bool} : ∀ z, cnt (fun j => cB r j && (grS r n T0 z).2.1 j) n = (grS r n T0 z).2.2
  | 0 => by
    show cnt (fun j => cB r j && false) n = 0
    exact cnt_ff (fun k => by simp) n
  | z + 1 => by
    have ih := gr_sum (r := r) (n := n) (T0 := T0) z
    show cnt (fun j => cB r j && ((grS r n T0 z).2.1 j || beatB r (gB1 r n (grS r n T0 z).1 (grS r n T0 z).2.1) j)) n = (grS r n T0 z).2.2 + gaN r n (grS r n T0 z).2.1 (gB1 r n (grS r n T0 z).1 (grS r n T0 z).2.1)
    generalize gB1 r n (grS r n T0 z).1 (grS r n T0 z).2.1 = b
    rw [← ih]
    generalize (grS r n T0 z).2.1 = cv
    have e1 := cnt_and (p := fun j => cB r j && (cv j || beatB r b j)) (q := cv) n
    rw [← e1]
    congr 1
    · exact cnt_congr (fun j _ => by cases cB r j <;> cases cv j <;> simp)
    · unfold gaN
      refine cnt_congr (fun j _ => ?_)
      rw [beat_abv]
      cases cB r j <;> cases cv j <;> simp
theorem tak_ones {r : Nat → Int32} {n : Nat} {T0 used : Nat → Bool} {U : Int64} (hn : n ≤ 40) {z : Nat} (h : TakS r n T0 (grS r n T0 z).1 (grS r n T0 z).2.1 used U) : onesN U = (grS r n T0 z).2.2 := by
  rw [h.2.2.ones hn, gr_sum]
/-- two of T -/
theorem two_ones {r : Nat → Int32} {n a b : Nat} (hn : n ≤ 40) (ha : cB r a = true) (hb : cB r b = true) : onesN (mskL r (actL r n) a ||| mskL r (actL r n) b) = twN r n a b := by
  have h := ((CovU.zero r n).or hn a).or hn b
  have e : (0 ||| mskL r (actL r n) a ||| mskL r (actL r n) b) = (mskL r (actL r n) a ||| mskL r (actL r n) b) := by rw [Int64.zero_or]
  rw [e] at h
  rw [h.ones hn]
  unfold twN
  refine cnt_congr (fun j _ => ?_)
  rw [beat_abv, beat_abv, ha, hb]
  cases cB r j <;> simp
/-- the system's greatest over pairs of places -/
def tpB (f : Nat → Nat → Nat) (L : Nat) (a v : Nat) : Nat → Nat
  | 0 => v
  | k + 1 => max (tpB f L a v k) (f a (a + k))
def tpA (f : Nat → Nat → Nat) (L : Nat) : Nat → Nat
  | 0 => 0
  | a + 1 => tpB f L a (tpA f L a) (L - a)
theorem tpB_le {f : Nat → Nat → Nat} {L a v w : Nat} (hv : v ≤ w) : ∀ k, (∀ j, j < k → f a (a + j) ≤ w) → tpB f L a v k ≤ w
  | 0, _ => hv
  | k + 1, h => by
    have := tpB_le (f := f) (L := L) hv k (fun j hj => h j (by omega))
    have := h k (by omega)
    unfold tpB; omega
theorem tpB_ge {f : Nat → Nat → Nat} {L a v : Nat} : ∀ k, v ≤ tpB f L a v k ∧ ∀ j, j < k → f a (a + j) ≤ tpB f L a v k
  | 0 => ⟨Nat.le_refl _, fun j hj => absurd hj (Nat.not_lt_zero _)⟩
  | k + 1 => by
    obtain ⟨h1, h2⟩ := tpB_ge (f := f) (L := L) (a := a) (v := v) k
    unfold tpB
    refine ⟨by omega, fun j hj => ?_⟩
    rcases Nat.lt_or_ge j k with y | y
    · have := h2 j y; omega
    · have : j = k := by omega
      subst this; omega
theorem tpA_le {f : Nat → Nat → Nat} {L w : Nat} : ∀ a, a ≤ L → (∀ i j, i < a → i ≤ j → j < L → f i j ≤ w) → tpA f L a ≤ w
  | 0, _, _ => Nat.zero_le _
  | a + 1, ha, h => by
    unfold tpA
    exact tpB_le (tpA_le a (by omega) (fun i j h1 h2 h3 => h i j (by omega) h2 h3)) _ (fun j hj => h a (a + j) (by omega) (by omega) (by omega))
theorem tpA_ge {f : Nat → Nat → Nat} {L : Nat} : ∀ a, a ≤ L → ∀ i j, i < a → i ≤ j → j < L → f i j ≤ tpA f L a
  | 0, _, i, j, h, _, _ => absurd h (Nat.not_lt_zero _)
  | a + 1, ha, i, j, h1, h2, h3 => by
    obtain ⟨g1, g2⟩ := tpB_ge (f := f) (L := L) (a := a) (v := tpA f L a) (L - a)
    unfold tpA
    rcases Nat.lt_or_ge i a with y | y
    · exact Nat.le_trans (tpA_ge a (by omega) i j y h2 h3) g1
    · have : i = a := by omega
      subst this
      have := g2 (j - i) (by omega)
      rwa [show i + (j - i) = j by omega] at this
theorem twB_ge {r : Nat → Int32} {n : Nat} {t : Nat → Bool} {a v : Nat} : ∀ k, v ≤ twB r n t a v k ∧ ∀ b, b < k → t a = true → t b = true → twN r n a b ≤ twB r n t a v k
  | 0 => ⟨Nat.le_refl _, fun j hj => absurd hj (Nat.not_lt_zero _)⟩
  | k + 1 => by
    obtain ⟨h1, h2⟩ := twB_ge (r := r) (n := n) (t := t) (a := a) (v := v) k
    unfold twB
    by_cases q : (t a && (t k && decide (twB r n t a v k < twN r n a k))) = true
    · rw [if_pos q]
      rw [Bool.and_eq_true, Bool.and_eq_true, decide_eq_true_eq] at q
      refine ⟨by omega, fun b hb ha htb => ?_⟩
      rcases Nat.lt_or_ge b k with y | y
      · have := h2 b y ha htb; omega
      · have : b = k := by omega
        subst this; exact Nat.le_refl _
    · rw [if_neg q]
      refine ⟨h1, fun b hb ha htb => ?_⟩
      rcases Nat.lt_or_ge b k with y | y
      · exact h2 b y ha htb
      · have : b = k := by omega
        subst this
        refine Nat.le_of_not_lt (fun x => q ?_)
        rw [ha, htb, decide_eq_true x]; rfl
theorem twB_lt {r : Nat → Int32} {n : Nat} {t : Nat → Bool} {a v w : Nat} (hv : v ≤ w) : ∀ k, (∀ b, b < k → t a = true → t b = true → twN r n a b ≤ w) → twB r n t a v k ≤ w
  | 0, _ => hv
  | k + 1, h => by
    have h1 := twB_lt (r := r) (n := n) (t := t) hv k (fun j hj => h j (by omega))
    unfold twB
    split
    · rename_i q
      rw [Bool.and_eq_true, Bool.and_eq_true] at q
      exact h k (by omega) q.1 q.2.1
    · exact h1
theorem twA_ge {r : Nat → Int32} {n : Nat} {t : Nat → Bool} : ∀ k a b, a < k → b ≤ a → t a = true → t b = true → twN r n a b ≤ twA r n t k
  | 0, a, b, h, _, _, _ => absurd h (Nat.not_lt_zero _)
  | k + 1, a, b, h, h2, h3, h4 => by
    obtain ⟨g1, g2⟩ := twB_ge (r := r) (n := n) (t := t) (a := k) (v := twA r n t k) (k + 1)
    unfold twA
    rcases Nat.lt_or_ge a k with y | y
    · exact Nat.le_trans (twA_ge k a b y h2 h3 h4) g1
    · have : a = k := by omega
      subst this
      exact g2 b (by omega) h3 h4
theorem twA_lt {r : Nat → Int32} {n w : Nat} {t : Nat → Bool} : ∀ k, (∀ a b, a < k → b ≤ a → t a = true → t b = true → twN r n a b ≤ w) → twA r n t k ≤ w
  | 0, _ => Nat.zero_le _
  | k + 1, h => by
    unfold twA
    exact twB_lt (twA_lt k (fun a b h1 => h a b (by omega))) _ (fun b hb h1 h2 => h k b (by omega) (by omega) h1 h2)
theorem tw_comm (r : Nat → Int32) (n a b : Nat) : twN r n a b = twN r n b a := cnt_congr (fun j _ => Bool.or_comm _ _)
theorem two_eq {r : Nat → Int32} {n : Nat} {T0 : Nat → Bool} (f : Nat → Nat → Nat) (hf : ∀ i j, i < ((List.range n).filter T0).length → j < ((List.range n).filter T0).length → f i j = twN r n (((List.range n).filter T0).getD i 0) (((List.range n).filter T0).getD j 0)) : tpA f ((List.range n).filter T0).length ((List.range n).filter T0).length = twA r n T0 n := by
  have hget : ∀ p, p < ((List.range n).filter T0).length → ((List.range n).filter T0).getD p 0 < n ∧ T0 (((List.range n).filter T0).getD p 0) = true := fun p hp => by
    rw [getD_at hp]; exact ⟨(fil_get hp).1, (fil_get hp).2.1⟩
  have hmono : ∀ i j (hi : i < ((List.range n).filter T0).length) (hj : j < ((List.range n).filter T0).length), i ≤ j → ((List.range n).filter T0).getD i 0 ≤ ((List.range n).filter T0).getD j 0 := fun i j hi hj h => by
    rcases Nat.eq_or_lt_of_le h with e | e
    · subst e; exact Nat.le_refl _
    · have := List.pairwise_iff_getElem.mp ((range_lt n).filter T0) i j hi hj e
      rw [getD_at hi, getD_at hj]; omega
  refine Nat.le_antisymm (tpA_le _ (Nat.le_refl _) (fun i j h1 h2 h3 => ?_)) (twA_lt n (fun a b h1 h2 h3 h4 => ?_))
  · rw [hf i j h1 h3, tw_comm]
    exact twA_ge n _ _ (hget j h3).1 (hmono i j h1 h3 h2) (hget j h3).2 (hget i h1).2
  · obtain ⟨pa, ea⟩ := fil_at (n := n) h1 h3
    obtain ⟨pb, eb⟩ := fil_at (n := n) (show b < n by omega) h4
    have hle : cnt T0 b ≤ cnt T0 a := cnt_mono (fun _ h => h) h2
    have := tpA_ge (f := f) (L := ((List.range n).filter T0).length) _ (Nat.le_refl _) (cnt T0 b) (cnt T0 a) pb hle pa
    rw [hf _ _ pb pa, getD_at pb, getD_at pa, ea, eb, tw_comm] at this
    exact this

/-! the reader -/
def sgI (f : Nat → Int32) (n i : Nat) : Int32 := if i < n then f i else nI 32
def cbB (v lo hi : Int32) : Bool := inB v lo hi || (decide (0 < v) && inB (nI 10 * v) (lo - nI 9) hi)
def nmB (f : Nat → Int32) (n : Nat) (lo hi : Int32) (i : Nat) (v : Int32) : Bool := inB (sgI f n i - nI 48) (nI 0) (nI 9) && (!decide (v = 0) && cbB (mxI (nI 0) v * nI 10 + (sgI f n i - nI 48)) lo hi)
def nmG (f : Nat → Int32) (n : Nat) (lo hi : Int32) : Nat → Nat → Int32 → Nat × Int32
  | 0, i, v => (i, v)
  | k + 1, i, v => if nmB f n lo hi i v then nmG f n lo hi k (i + 1) (mxI (nI 0) v * nI 10 + (sgI f n i - nI 48)) else (i, v)
theorem inB_n {m lo hi : Nat} (h1 : m < 2 ^ 31) (h2 : lo < 2 ^ 31) (h3 : hi < 2 ^ 31) : inB (nI m) (nI lo) (nI hi) = decide (lo ≤ m ∧ m ≤ hi) := by
  unfold inB
  rw [Bool.eq_iff_iff, Bool.and_eq_true, decide_eq_true_eq, decide_eq_true_eq, decide_eq_true_eq, nI_leI h2 h1, nI_leI h1 h3]
theorem sg_dig (f : Nat → Int32) (n i : Nat) : (∃ d, d ≤ 9 ∧ i < n ∧ f i = nI (48 + d) ∧ sgI f n i - nI 48 = nI d) ∨ (inB (sgI f n i - nI 48) (nI 0) (nI 9) = false ∧ ∀ a b, 48 ≤ a → a ≤ 57 → b ≤ 57 → seeB f n i a b = false) := by
  by_cases h : inB (sgI f n i - nI 48) (nI 0) (nI 9) = true
  · left
    obtain ⟨e, -, h2⟩ := inB_nat (by omega) (by omega) h
    generalize (sgI f n i - nI 48).toNatClampNeg = d at e h2
    have e2 : sgI f n i = nI (48 + d) := by
      have : sgI f n i = (sgI f n i - nI 48) + nI 48 := by rw [Int32.sub_add_cancel]
      rw [this, e, nI_add, Nat.add_comm]
    by_cases hi : i < n
    · refine ⟨d, h2, hi, ?_, e⟩
      unfold sgI at e2; rwa [if_pos hi] at e2
    · unfold sgI at e2
      rw [if_neg hi, nI_eq (by omega) (by omega)] at e2
      omega
  · right
    have h := Bool.eq_false_iff.mpr h
    refine ⟨h, fun a b ha ha2 hb => ?_⟩
    cases z : seeB f n i a b
    · rfl
    · unfold seeB at z
      rw [Bool.and_eq_true, decide_eq_true_eq] at z
      obtain ⟨e, h1, h2⟩ := inB_w (c := 48) (d := 57) z.2 (nI_le ha (by omega)) (nI_le hb (by omega)) |> inB_nat (by omega) (by omega)
      generalize (f i).toNatClampNeg = c at e h1 h2
      unfold sgI at h
      rw [if_pos z.1, e, pk_sub h1, inB_n (by omega) (by omega) (by omega)] at h
      have := of_decide_eq_false h
      omega
theorem see_at {f : Nat → Int32} {n i d a b : Nat} (hi : i < n) (e : f i = nI (48 + d)) (hd : d ≤ 9) (ha : a ≤ 57) (hb : b ≤ 57) : seeB f n i a b = decide (a ≤ 48 + d ∧ 48 + d ≤ b) := by
  unfold seeB
  rw [decide_eq_true hi, Bool.true_and, e, inB_n (by omega) (by omega) (by omega)]
theorem cb_n {m lo hi : Nat} (h1 : m ≤ 1000) (h2 : lo ≤ 99) (h3 : hi ≤ 99) : cbB (nI m) (nI lo) (nI hi) = decide ((lo ≤ m ∧ m ≤ hi) ∨ (0 < m ∧ lo ≤ 10 * m + 9 ∧ 10 * m ≤ hi)) := by
  unfold cbB
  rw [inB_n (by omega) (by omega) (by omega), pk_mul]
  have e : inB (nI (10 * m)) (nI lo - nI 9) (nI hi) = decide (lo ≤ 10 * m + 9 ∧ 10 * m ≤ hi) := by
    unfold inB
    rw [Bool.eq_iff_iff, Bool.and_eq_true, decide_eq_true_eq, decide_eq_true_eq, decide_eq_true_eq, nI_leI (by omega) (by omega), Int32.le_iff_toInt_le, pk_sub_toInt (by omega) (by omega), nI_toInt (by omega)]
    omega
  have e0 : decide ((0 : Int32) < nI m) = decide (0 < m) := by
    rw [Bool.eq_iff_iff, decide_eq_true_eq, decide_eq_true_eq]
    rw [show (0 : Int32) = nI 0 from nI_0.symm]
    exact nI_ltI (by omega) (by omega)
  rw [e, e0, Bool.eq_iff_iff, Bool.or_eq_true, Bool.and_eq_true, decide_eq_true_eq, decide_eq_true_eq, decide_eq_true_eq, decide_eq_true_eq]
theorem nx_0 (d : Nat) : mxI (nI 0) (-1) * nI 10 + nI d = nI d := by
  rw [show mxI (nI 0) (-1) = nI 0 by decide, pk_mul, nI_add]; congr 1; omega
theorem nx_n (m d : Nat) (hm : m ≤ 1000) : mxI (nI 0) (nI m) * nI 10 + nI d = nI (10 * m + d) := by
  rw [mxI_n (by omega) (by omega), pk_mul, nI_add]; congr 1; omega
theorem nm_0 {f : Nat → Int32} {n i d lo hi : Nat} (e : sgI f n i - nI 48 = nI d) (hd : d ≤ 9) (h2 : lo ≤ 99) (h3 : hi ≤ 99) : nmB f n (nI lo) (nI hi) i (-1) = decide ((lo ≤ d ∧ d ≤ hi) ∨ (0 < d ∧ lo ≤ 10 * d + 9 ∧ 10 * d ≤ hi)) := by
  unfold nmB
  rw [e, nx_0, cb_n (by omega) h2 h3, inB_n (by omega) (by omega) (by omega), decide_eq_true (by omega)]
  simp
theorem nm_n {f : Nat → Int32} {n i d m lo hi : Nat} (e : sgI f n i - nI 48 = nI d) (hd : d ≤ 9) (hm : m ≤ 99) (h2 : lo ≤ 99) (h3 : hi ≤ 99) : nmB f n (nI lo) (nI hi) i (nI m) = decide (0 < m ∧ ((lo ≤ 10 * m + d ∧ 10 * m + d ≤ hi) ∨ (lo ≤ 10 * (10 * m + d) + 9 ∧ 10 * (10 * m + d) ≤ hi))) := by
  unfold nmB
  rw [e, nx_n _ _ (by omega), cb_n (by omega) h2 h3, inB_n (by omega) (by omega) (by omega), decide_eq_true (show 0 ≤ d ∧ d ≤ 9 by omega), Bool.true_and, Bool.eq_iff_iff, Bool.and_eq_true, Bool.not_eq_true', decide_eq_false_iff_not, decide_eq_true_eq, decide_eq_true_eq, ← nI_0, nI_eq (by omega) (by omega)]
  omega
theorem nm_no {f : Nat → Int32} {n i : Nat} {lo hi v : Int32} (h : inB (sgI f n i - nI 48) (nI 0) (nI 9) = false) : nmB f n lo hi i v = false := by unfold nmB; rw [h]; rfl
theorem nm_stop {f : Nat → Int32} {n i : Nat} {lo hi v : Int32} (h : nmB f n lo hi i v = false) (k : Nat) : nmG f n lo hi k i v = (i, v) := by
  cases k
  · rfl
  · rw [nmG, h]; rfl
/-- two digits are never followed by a third -/
theorem nm_two {f : Nat → Int32} {n i m lo hi : Nat} (hm : 10 ≤ m) (hm2 : m ≤ 99) (h2 : lo ≤ 99) (h3 : hi ≤ 99) : nmB f n (nI lo) (nI hi) i (nI m) = false := by
  rcases sg_dig f n i with ⟨d, hd, hi, he, e⟩ | ⟨h, -⟩
  · rw [nm_n e hd hm2 h2 h3, decide_eq_false]; omega
  · exact nm_no h
theorem nm_zero {f : Nat → Int32} {n i lo hi : Nat} (h2 : lo ≤ 99) (h3 : hi ≤ 99) : nmB f n (nI lo) (nI hi) i (nI 0) = false := by
  rcases sg_dig f n i with ⟨d, hd, hi, he, e⟩ | ⟨h, -⟩
  · rw [nm_n e hd (by omega) h2 h3, decide_eq_false]; omega
  · exact nm_no h
theorem num_1 (f : Nat → Int32) {i d : Nat} (e : f i = nI (48 + d)) : numI f i 1 = nI d := by
  show nI 10 * nI 0 + f (i + 0) - nI 48 = _
  rw [Nat.add_zero, e, pk_mul, nI_add, pk_sub (by omega)]; congr 1; omega
theorem num_2 (f : Nat → Int32) {i d d2 : Nat} (e : f i = nI (48 + d)) (e2 : f (i + 1) = nI (48 + d2)) : numI f i 2 = nI (10 * d + d2) := by
  show nI 10 * numI f i 1 + f (i + 1) - nI 48 = _
  rw [num_1 f e, e2, pk_mul, nI_add, pk_sub (by omega)]; congr 1; omega
/-- a number from 0 on -/
theorem num_lo {f : Nat → Int32} {n i t k : Nat} (ht : 9 ≤ t) (ht2 : t ≤ 99) : ((pnS f n i t).1 = true ∧ (∃ m, m ≤ t ∧ numI f i ((pnS f n i t).2 - i) = nI m) ∧ nmG f n (nI 0) (nI t) (k + 2) i (-1) = ((pnS f n i t).2, numI f i ((pnS f n i t).2 - i))) ∨ ((pnS f n i t).1 = false ∧ (pnS f n i t).2 = i ∧ nmG f n (nI 0) (nI t) (k + 2) i (-1) = (i, (-1))) := by
  rcases sg_dig f n i with ⟨d, hd, hi, he, e⟩ | ⟨h, hs⟩
  · left
    have s1 : nmB f n (nI 0) (nI t) i (-1) = true := by rw [nm_0 e hd (by omega) ht2, decide_eq_true]; omega
    rw [nmG, s1]
    simp only [if_true]
    rw [e, nx_0]
    have p0 : pS f n i 48 48 = (decide (d = 0), if d = 0 then i + 1 else i) := by
      unfold pS
      rw [see_at hi he hd (by omega) (by omega)]
      have : (48 ≤ 48 + d ∧ 48 + d ≤ 48) ↔ d = 0 := by omega
      simp only [this, decide_eq_true_eq]
    by_cases d0 : d = 0
    · subst d0
      have p1 : pnS f n i t = (true, i + 1) := by unfold pnS; rw [p0]; rfl
      rw [p1, nm_stop (nm_zero (by omega) ht2)]
      rw [show (true, i + 1).2 - i = 1 by simp, num_1 f he]
      exact ⟨rfl, ⟨0, by omega, rfl⟩, rfl⟩
    · have p2 : pS f n i 49 57 = (true, i + 1) := by
        unfold pS
        rw [see_at hi he hd (by omega) (by omega), decide_eq_true (by omega)]; rfl
      have p3 : pnS f n i t = (true, if seeB f n (i + 1) 48 57 && two9 f (i + 1) t then i + 1 + 1 else i + 1) := by
        unfold pnS ifP thB
        rw [p0]
        simp only [decide_eq_false d0, if_neg d0, Bool.false_eq_true, if_false]
        rw [p2]; rfl
      rw [p3]
      rcases sg_dig f n (i + 1) with ⟨d2, hd2, hi2, he2, e2⟩ | ⟨h, hs⟩
      · have q1 : seeB f n (i + 1) 48 57 = true := by rw [see_at hi2 he2 hd2 (by omega) (by omega), decide_eq_true]; omega
        have q2 : two9 f (i + 1) t = decide (10 * d + d2 ≤ t) := by
          unfold two9
          rw [Nat.add_sub_cancel, he, he2, pk_sub (by omega), pk_mul, nI_add, pk_sub (by omega), Bool.eq_iff_iff, decide_eq_true_eq, decide_eq_true_eq, nI_leI (by omega) (by omega)]
          omega
        have s2 := nm_n (n := n) (i := i + 1) (lo := 0) (hi := t) e2 hd2 (show d ≤ 99 by omega) (by omega) ht2
        rw [q1, q2]
        by_cases g : 10 * d + d2 ≤ t
        · rw [nmG, s2, decide_eq_true (show 0 < d ∧ _ by omega), decide_eq_true g]
          simp only [Bool.and_self, if_true]
          rw [e2, nx_n _ _ (by omega), nm_stop (nm_two (by omega) (by omega) (by omega) ht2), show i + 1 + 1 - i = 2 by omega, num_2 f he he2]
          exact ⟨trivial, ⟨_, g, rfl⟩, rfl⟩
        · rw [nm_stop (by rw [s2, decide_eq_false]; omega), decide_eq_false g]
          simp only [Bool.and_false, Bool.false_eq_true, if_false]
          rw [show i + 1 - i = 1 by omega, num_1 f he]
          exact ⟨trivial, ⟨d, by omega, rfl⟩, rfl⟩
      · rw [hs 48 57 (by omega) (by omega) (by omega), nm_stop (nm_no h)]
        simp only [Bool.false_and, Bool.false_eq_true, if_false]
        rw [show i + 1 - i = 1 by omega, num_1 f he]
        exact ⟨trivial, ⟨d, by omega, rfl⟩, rfl⟩
  · right
    have p1 : pnS f n i t = (false, i) := by
      unfold pnS ifP thB pS
      rw [hs 48 48 (by omega) (by omega) (by omega)]
      simp only [Bool.false_eq_true, if_false]
      rw [hs 49 57 (by omega) (by omega) (by omega)]; rfl
    rw [p1, nm_stop (nm_no h)]
    exact ⟨rfl, rfl, rfl⟩
theorem dg_sg {f : Nat → Int32} {n i d : Nat} (hi : i < n) (he : f i = nI (48 + d)) : dgI f n i = nI d := by
  unfold dgI; rw [if_pos hi, he, pk_sub (by omega)]; congr 1; omega
theorem dg_no {f : Nat → Int32} {n i : Nat} (h : inB (sgI f n i - nI 48) (nI 0) (nI 9) = false) : inB (dgI f n i) (nI 0) (nI 9) = false := by
  unfold dgI
  by_cases hi : i < n
  · rw [if_pos hi]; unfold sgI at h; rwa [if_pos hi] at h
  · rw [if_neg hi]; decide

theorem pf_n {f : Nat → Int32} {n i d t0 : Nat} (ht : t0 ≤ 99) (hi : i < n) (he : f i = nI (48 + d)) (hd : d ≤ 9) : pfS f n i (nI t0) = if t0 ≤ d ∨ (0 < d ∧ t0 ≤ 10 * d + 9) then (goB (nI d) (dgI f n (i + 1)) (nI t0) || decide (t0 ≤ d), if goB (nI d) (dgI f n (i + 1)) (nI t0) then i + 1 + 1 else i + 1) else (false, i) := by
  unfold pfS
  rw [dg_sg hi he, inB_n (by omega) (by omega) (by omega), decide_eq_true (show 0 ≤ d ∧ d ≤ 9 by omega), Bool.true_and]
  have e1 : (decide (nI t0 ≤ nI d) || (decide (nI d ≠ 0) && decide (nI t0 ≤ nI 10 * nI d + nI 9))) = decide (t0 ≤ d ∨ (0 < d ∧ t0 ≤ 10 * d + 9)) := by
    rw [Bool.eq_iff_iff, Bool.or_eq_true, Bool.and_eq_true, decide_eq_true_eq, decide_eq_true_eq, decide_eq_true_eq, decide_eq_true_eq, pk_mul, nI_add, nI_leI (by omega) (by omega), nI_leI (by omega) (by omega), ← nI_0, Ne, nI_eq (by omega) (by omega)]
    omega
  have e2 : decide (nI t0 ≤ nI d) = decide (t0 ≤ d) := by
    rw [Bool.eq_iff_iff, decide_eq_true_eq, decide_eq_true_eq, nI_leI (by omega) (by omega)]
  rw [e1, e2]
  by_cases q : t0 ≤ d ∨ (0 < d ∧ t0 ≤ 10 * d + 9)
  · rw [decide_eq_true q, if_pos rfl, if_pos q]
  · rw [decide_eq_false q, if_neg (by decide), if_neg q]
theorem go_n {d e t0 : Nat} (hd : d ≤ 9) (he : e ≤ 9) (ht : t0 ≤ 99) : goB (nI d) (nI e) (nI t0) = decide (0 < d ∧ t0 ≤ 10 * d + e) := by
  unfold goB
  rw [inB_n (by omega) (by omega) (by omega), pk_mul, nI_add, Bool.eq_iff_iff, Bool.and_eq_true, Bool.and_eq_true, decide_eq_true_eq, decide_eq_true_eq, decide_eq_true_eq, decide_eq_true_eq, nI_leI (by omega) (by omega), ← nI_0, nI_ltI (by omega) (by omega)]
  omega
theorem go_no {d e t : Int32} (h : inB e (nI 0) (nI 9) = false) : goB d e t = false := by unfold goB; rw [h]; simp
theorem num_hi {f : Nat → Int32} {n i t0 k : Nat} (ht : t0 ≤ 99) : (nmG f n (nI t0) (nI 99) (k + 2) i (-1)).1 = (pfS f n i (nI t0)).2 ∧ (((pfS f n i (nI t0)).1 = true ∧ ∃ m, t0 ≤ m ∧ m ≤ 99 ∧ (nmG f n (nI t0) (nI 99) (k + 2) i (-1)).2 = nI m ∧ numI f i ((pfS f n i (nI t0)).2 - i) = nI m) ∨ ((pfS f n i (nI t0)).1 = false ∧ ¬ nI t0 ≤ (nmG f n (nI t0) (nI 99) (k + 2) i (-1)).2)) := by
  have hm1 : ¬ nI t0 ≤ (-1 : Int32) := by
    rw [Int32.le_iff_toInt_le, nI_toInt (by omega)]
    have : (-1 : Int32).toInt = -1 := by decide
    omega
  rcases sg_dig f n i with ⟨d, hd, hi, he, e⟩ | ⟨h, hs⟩
  · rw [pf_n ht hi he hd]
    have s1 := nm_0 (n := n) (i := i) (lo := t0) (hi := 99) e hd ht (by omega)
    by_cases q : t0 ≤ d ∨ (0 < d ∧ t0 ≤ 10 * d + 9)
    · rw [if_pos q]
      rw [decide_eq_true (by omega)] at s1
      have s0 : nmG f n (nI t0) (nI 99) (k + 2) i (-1) = nmG f n (nI t0) (nI 99) (k + 1) (i + 1) (nI d) := by
        rw [nmG, s1]; simp only [if_true]; rw [e, nx_0]
      rw [s0]
      rcases sg_dig f n (i + 1) with ⟨d2, hd2, hi2, he2, e2⟩ | ⟨h, hs⟩
      · rw [dg_sg hi2 he2, go_n hd hd2 ht]
        have s2 := nm_n (n := n) (i := i + 1) (lo := t0) (hi := 99) e2 hd2 (show d ≤ 99 by omega) ht (by omega)
        by_cases g : 0 < d ∧ t0 ≤ 10 * d + d2
        · rw [decide_eq_true (by omega)] at s2
          have s3 : nmG f n (nI t0) (nI 99) (k + 1) (i + 1) (nI d) = (i + 1 + 1, nI (10 * d + d2)) := by
            rw [nmG, s2]; simp only [if_true]; rw [e2, nx_n _ _ (by omega), nm_stop (nm_two (by omega) (by omega) ht (by omega))]
          rw [s3, decide_eq_true g]
          refine ⟨rfl, Or.inl ⟨rfl, 10 * d + d2, g.2, by omega, rfl, ?_⟩⟩
          show numI f i (i + 1 + 1 - i) = _
          rw [show i + 1 + 1 - i = 2 by omega, num_2 f he he2]
        · rw [decide_eq_false (by omega)] at s2
          rw [nm_stop s2, decide_eq_false g]
          refine ⟨rfl, ?_⟩
          by_cases z : t0 ≤ d
          · left
            refine ⟨by rw [decide_eq_true z]; rfl, d, z, by omega, rfl, ?_⟩
            show numI f i (i + 1 - i) = _
            rw [show i + 1 - i = 1 by omega, num_1 f he]
          · right
            refine ⟨by rw [decide_eq_false z]; rfl, ?_⟩
            show ¬ nI t0 ≤ nI d
            rwa [nI_leI (by omega) (by omega)]
      · rw [go_no (dg_no h), nm_stop (nm_no h)]
        refine ⟨rfl, ?_⟩
        by_cases z : t0 ≤ d
        · left
          refine ⟨by rw [decide_eq_true z]; rfl, d, z, by omega, rfl, ?_⟩
          show numI f i (i + 1 - i) = _
          rw [show i + 1 - i = 1 by omega, num_1 f he]
        · right
          refine ⟨by rw [decide_eq_false z]; rfl, ?_⟩
          show ¬ nI t0 ≤ nI d
          rwa [nI_leI (by omega) (by omega)]
    · rw [if_neg q]
      rw [decide_eq_false (by omega)] at s1
      rw [nm_stop s1]
      exact ⟨rfl, Or.inr ⟨rfl, hm1⟩⟩
  · have p : pfS f n i (nI t0) = (false, i) := by
      unfold pfS
      rw [dg_no h]; rfl
    rw [p, nm_stop (nm_no h)]
    exact ⟨rfl, Or.inr ⟨rfl, hm1⟩⟩
