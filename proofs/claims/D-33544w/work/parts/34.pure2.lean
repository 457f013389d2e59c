/-! rows in range; how good; heights -/
def maxN (f : Nat → Nat) : Nat → Nat
  | 0 => 0
  | n + 1 => if maxN f n < f n then f n else maxN f n
theorem maxN_ge {f : Nat → Nat} {k : Nat} : ∀ {n : Nat}, k < n → f k ≤ maxN f n
  | 0, h => absurd h (Nat.not_lt_zero _)
  | n + 1, h => by
    unfold maxN
    rcases Nat.lt_or_ge k n with q | q
    · have := maxN_ge (f := f) q
      split <;> omega
    · have : k = n := by omega
      subst this
      split <;> omega
theorem maxN_le {f : Nat → Nat} {b : Nat} : ∀ {n : Nat}, (∀ k, k < n → f k ≤ b) → maxN f n ≤ b
  | 0, _ => Nat.zero_le _
  | n + 1, h => by
    unfold maxN
    have h1 := maxN_le (n := n) (fun k hk => h k (by omega))
    have h2 := h n (by omega)
    split <;> omega
theorem maxN_at {f : Nat → Nat} : ∀ {n : Nat}, 0 < maxN f n → ∃ k, k < n ∧ f k = maxN f n
  | 0, h => absurd h (Nat.not_lt_zero _)
  | n + 1, h => by
    by_cases q : maxN f n < f n
    · exact ⟨n, by omega, by simp [maxN, q]⟩
    · have e : maxN f (n + 1) = maxN f n := by simp [maxN, q]
      rw [e] at h
      obtain ⟨k, hk, hf⟩ := maxN_at h
      exact ⟨k, by omega, by rw [e]; exact hf⟩
theorem maxN_congr {f h : Nat → Nat} : ∀ {n : Nat}, (∀ k, k < n → f k = h k) → maxN f n = maxN h n
  | 0, _ => rfl
  | n + 1, e => by
    unfold maxN
    rw [maxN_congr (n := n) (fun k hk => e k (by omega)), e n (by omega)]
theorem cnt_pos {p : Nat → Bool} : ∀ {n : Nat}, 0 < cnt p n → ∃ k, k < n ∧ p k = true
  | 0, h => absurd h (Nat.not_lt_zero _)
  | n + 1, h => by
    by_cases q : p n = true
    · exact ⟨n, by omega, q⟩
    · have : cnt p n = cnt p (n + 1) := by simp [cnt, q]
      obtain ⟨k, hk, hp⟩ := cnt_pos (p := p) (n := n) (by omega)
      exact ⟨k, by omega, hp⟩
theorem cnt_0 {p : Nat → Bool} : ∀ {n : Nat}, cnt p n = 0 → ∀ k, k < n → p k = false
  | 0, _, k, hk => absurd hk (Nat.not_lt_zero _)
  | n + 1, h, k, hk => by
    unfold cnt at h
    have h1 : cnt p n = 0 := by omega
    have h2 : (if p n then 1 else 0) = 0 := by omega
    rcases Nat.lt_or_ge k n with q | q
    · exact cnt_0 h1 k q
    · have : k = n := by omega
      subst this
      by_cases e : p k = true
      · simp [e] at h2
      · simpa using e
theorem cnt_gt {p : Nat → Bool} {k : Nat} (h : p k = true) : ∀ {n : Nat}, k < n → 0 < cnt p n
  | 0, hk => absurd hk (Nat.not_lt_zero _)
  | n + 1, hk => by
    unfold cnt
    rcases Nat.lt_or_ge k n with q | q
    · have := cnt_gt h q; omega
    · have : k = n := by omega
      subst this
      simp [h]
/-- what stands in a row -/
def RO (r : Nat → Int32) (n : Nat) : Prop := (∀ j, j < 4 * n → inB (r j) (nI 0) (nI 99) = true) ∧ (∀ q, q < 4 → inB (mw r q) (nI 0) (nI 2) = true) ∧ (∀ q, q < 4 → inB (mle r q) (nI 0) (nI 99) = true) ∧ (∀ q, q < 4 → inB (mgr r q) (nI 0) (nI 99) = true) ∧ ∀ q, q < 4 → inB (mwe r q) (nI 0) (nI 9) = true
/-- values from 0 to 99 -/
def VO (f : Nat → Int32) : Prop := ∀ q, q < 4 → inB (f q) (nI 0) (nI 99) = true
theorem RO.v {r : Nat → Int32} {n i : Nat} (h : RO r n) (hi : i < n) : VO (mv r i) := fun q hq => h.1 (4 * i + q) (by omega)
def gN (w f : Nat → Int32) (s : Nat) : Nat := if w s = nI 1 then (f s).toNatClampNeg else 99 - (f s).toNatClampNeg
theorem gN_ok {w f : Nat → Int32} {s : Nat} (h : VO f) (hs : s < 4) : goodI w f s = nI (gN w f s) ∧ gN w f s ≤ 99 := by
  obtain ⟨h1, -, h2⟩ := inB_nat (by omega) (by omega) (h s hs)
  unfold goodI gN
  split
  · exact ⟨h1, h2⟩
  · refine ⟨?_, by omega⟩
    have e := pk_sub (a := 99) h2
    rw [← e, ← h1]
theorem good_lt {w f h : Nat → Int32} {s : Nat} (hf : VO f) (hh : VO h) (hs : s < 4) : goodI w f s < goodI w h s ↔ gN w f s < gN w h s := by
  obtain ⟨a1, a2⟩ := gN_ok (w := w) hf hs
  obtain ⟨b1, b2⟩ := gN_ok (w := w) hh hs
  rw [a1, b1]; exact nI_ltI (by omega) (by omega)
/-- the sum of what is good on a set -/
def gsN (w f : Nat → Int32) (P : Nat → Bool) : Nat → Nat := sumN (fun s => if P s then gN w f s else 0)
theorem sumN_lt {f h : Nat → Nat} : ∀ {n : Nat}, (∀ k, k < n → f k ≤ h k) → sumN f n ≤ sumN h n
  | 0, _ => Nat.le_refl _
  | n + 1, e => by
    unfold sumN
    have := sumN_lt (n := n) (fun k hk => e k (by omega))
    have := e n (by omega)
    omega
theorem sumN_lt' {f h : Nat → Nat} {k : Nat} (hk : f k < h k) : ∀ {n : Nat}, k < n → (∀ k, k < n → f k ≤ h k) → sumN f n < sumN h n
  | 0, q, _ => absurd q (Nat.not_lt_zero _)
  | n + 1, q, e => by
    unfold sumN
    have e2 := e n (by omega)
    rcases Nat.lt_or_ge k n with q1 | q1
    · have := sumN_lt' hk q1 (fun k hk => e k (by omega)); omega
    · have : k = n := by omega
      subst this
      have := sumN_lt (n := k) (fun j hj => e j (by omega)); omega
theorem bey_iff {w f h : Nat → Int32} {P : Nat → Bool} : beyB w f h P = true ↔ (∀ s, s < 4 → P s = true → ¬ goodI w f s < goodI w h s) ∧ ∃ s, s < 4 ∧ P s = true ∧ goodI w h s < goodI w f s := by
  unfold beyB betN
  rw [Bool.and_eq_true, decide_eq_true_eq, decide_eq_true_eq]
  constructor
  · rintro ⟨h1, h2⟩
    refine ⟨fun s hs hp q => ?_, ?_⟩
    · have := cnt_0 h1 s hs
      simp [hp, q] at this
    · obtain ⟨k, hk, hp⟩ := cnt_pos h2
      rw [Bool.and_eq_true, decide_eq_true_eq] at hp
      exact ⟨k, hk, hp.1, hp.2⟩
  · rintro ⟨h1, s, hs, hp, hl⟩
    refine ⟨?_, cnt_gt (k := s) (by simp [hp, hl]) hs⟩
    rcases Nat.eq_zero_or_pos (cnt (fun s => P s && decide (goodI w f s < goodI w h s)) 4) with q | q
    · exact q
    · obtain ⟨k, hk, hp⟩ := cnt_pos q
      rw [Bool.and_eq_true, decide_eq_true_eq] at hp
      exact absurd hp.2 (h1 k hk hp.1)
theorem bey_gs {w f h : Nat → Int32} {P : Nat → Bool} (hf : VO f) (hh : VO h) (b : beyB w f h P = true) : gsN w h P 4 < gsN w f P 4 := by
  obtain ⟨h1, s, hs, hp, hl⟩ := bey_iff.mp b
  refine sumN_lt' (k := s) ?_ hs (fun k hk => ?_)
  · simp only [hp, if_true]; exact (good_lt hh hf hs).mp hl
  · by_cases q : P k = true
    · simp only [q, if_true]
      have := mt (good_lt hf hh hk).mpr (h1 k hk q)
      omega
    · simp [q]
theorem gsN_le {w f : Nat → Int32} {P : Nat → Bool} (hf : VO f) : gsN w f P 4 ≤ 396 := by
  have : gsN w f P 4 ≤ sumN (fun _ => 99) 4 := sumN_lt (fun k hk => by
    have := (gN_ok (w := w) hf hk).2
    show (if P k then _ else _) ≤ _
    split <;> omega)
  exact this
def gsR (r : Nat → Int32) (i : Nat) : Nat := gsN (mw r) (mv r i) (hasB (matI (mw r))) 4
theorem beat_gs {r : Nat → Int32} {n i j : Nat} (h : RO r n) (hi : i < n) (hj : j < n) (b : beatB r i j = true) : gsR r j < gsR r i := by
  unfold beatB eB at b
  rw [Bool.and_eq_true, Bool.and_eq_true] at b
  exact bey_gs (h.v hi) (h.v hj) b.2
def hgt (r : Nat → Int32) (n : Nat) : Nat → Nat → Nat
  | 0, _ => 0
  | f + 1, k => if cB r k then 1 + maxN (fun j => if beatB r j k then hgt r n f j else 0) n else 0
/-- the layer of k -/
def LY (r : Nat → Int32) (n k : Nat) : Nat := hgt r n 400 k
theorem hgt_le (r : Nat → Int32) (n : Nat) : ∀ f k, hgt r n f k ≤ f
  | 0, _ => Nat.le_refl _
  | f + 1, k => by
    unfold hgt
    split
    · have : maxN (fun j => if beatB r j k then hgt r n f j else 0) n ≤ f := maxN_le (fun j _ => by
        have := hgt_le r n f j
        show (if beatB r j k then _ else _) ≤ _
        split <;> omega)
      omega
    · exact Nat.zero_le _
theorem hgt_st {r : Nat → Int32} {n : Nat} (h : RO r n) : ∀ f k, k < n → 397 ≤ f + gsR r k → hgt r n f k = hgt r n (f + 1) k
  | 0, k, hk, q => absurd (gsN_le (w := mw r) (P := hasB (matI (mw r))) (h.v hk)) (by unfold gsR at q; omega)
  | f + 1, k, hk, q => by
    rw [hgt, hgt]
    have : maxN (fun j => if beatB r j k then hgt r n f j else 0) n = maxN (fun j => if beatB r j k then hgt r n (f + 1) j else 0) n := maxN_congr (fun j hj => by
      by_cases b : beatB r j k = true
      · simp only [b, if_true]
        have := beat_gs h hj hk b
        exact hgt_st h f j hj (by omega)
      · simp [b])
    rw [this]
theorem LY_eq {r : Nat → Int32} {n k : Nat} (h : RO r n) (hk : k < n) : LY r n k = if cB r k then 1 + maxN (fun j => if beatB r j k then LY r n j else 0) n else 0 := by
  unfold LY
  rw [hgt_st h 400 k hk (by omega), hgt]
theorem LY_le (r : Nat → Int32) (n k : Nat) : LY r n k ≤ 400 := hgt_le r n 400 k
theorem LY_0 {r : Nat → Int32} {n k : Nat} (h : RO r n) (hk : k < n) : LY r n k = 0 ↔ cB r k = false := by
  rw [LY_eq h hk]
  cases cB r k <;> simp <;> omega
/-- k is of layer w + 1: above w, and all that beat it are not -/
theorem LY_is {r : Nat → Int32} {n k w : Nat} (h : RO r n) (hk : k < n) : (decide (w < LY r n k) && allB (fun j => decide (LY r n j ≤ w) || !beatB r j k) n) = decide (LY r n k = w + 1) := by
  have e := LY_eq h hk
  by_cases q : cB r k = true
  · rw [if_pos q] at e
    rw [Bool.eq_iff_iff, Bool.and_eq_true, decide_eq_true_eq, decide_eq_true_eq, allB_iff]
    constructor
    · rintro ⟨h1, h2⟩
      have : maxN (fun j => if beatB r j k then LY r n j else 0) n ≤ w := maxN_le (fun j hj => by
        have := h2 j hj
        by_cases b : beatB r j k = true
        · simpa [b] using this
        · simp [b])
      omega
    · intro h1
      refine ⟨by omega, fun j hj => ?_⟩
      by_cases b : beatB r j k = true
      · have := maxN_ge (f := fun j => if beatB r j k then LY r n j else 0) hj
        simp only [b, if_true] at this
        simp; omega
      · simp [b]
  · rw [if_neg q] at e
    simp [e]
