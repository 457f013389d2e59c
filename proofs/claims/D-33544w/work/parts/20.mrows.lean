/-! the model's rows: its fields and arrays -/
theorem nI_iinc (k j : Nat) {z : Int32} (h : z = nI j) : nI k + z = nI (k + j) := by rw [h, nI_add]
theorem fits_bI (b : Bool) : fits .boolean (.int (bI b)) = true := by cases b <;> rfl
theorem nI_b31 {n k : Nat} (h : n ≤ k) (hk : k < 2 ^ 31) : n < 2 ^ 31 := Nat.lt_of_le_of_lt h hk
section ROWSM
variable {p : Program} {l : Launch} {e : Env} {R : Room} {s : State} {m : MethodId} {args : Array Value} {below : List Frame} {meth : Method} {c : Code} {H : Heap} {locs : List Loc} {cells slots : Nat} {Q : State → Prop}
variable {cc : ByteArray} {nL pc : Nat} {ls : Array Slot} {y : MethodName} {ret : Option FieldType} {g : GT} {rest : List Value} {o : Nat} {S : MS}
theorem n_ifeq {a : Nat} {off : Int} {tgt : Nat} (X : Cx p g s m args meth c cc nL y ret) (hdg : decode cc pc = .ok (.ifCond .eq off, 3)) (ht : (pc : Int) + off = (tgt : Int)) (ha : a < 2 ^ 31) (k1 : a = 0 → W p l e R s m args below meth c H locs cells slots Q (F0 m tgt ls rest)) (k2 : ¬ a = 0 → W p l e R s m args below meth c H locs cells slots Q (F0 m (pc + 3) ls rest)) : W p l e R s m args below meth c H locs cells slots Q (F0 m pc ls (.int (nI a) :: rest)) :=
  lv_if_eq X.1 X.2.1 hdg ht (fun h => k1 ((nI_eq ha (by omega)).mp (h.trans nI_0.symm))) (fun h => k2 (fun q => h (by rw [q]; exact nI_0)))
theorem n_ifne {a : Nat} {off : Int} {tgt : Nat} (X : Cx p g s m args meth c cc nL y ret) (hdg : decode cc pc = .ok (.ifCond .ne off, 3)) (ht : (pc : Int) + off = (tgt : Int)) (ha : a < 2 ^ 31) (k1 : ¬ a = 0 → W p l e R s m args below meth c H locs cells slots Q (F0 m tgt ls rest)) (k2 : a = 0 → W p l e R s m args below meth c H locs cells slots Q (F0 m (pc + 3) ls rest)) : W p l e R s m args below meth c H locs cells slots Q (F0 m pc ls (.int (nI a) :: rest)) :=
  lv_if_ne X.1 X.2.1 hdg ht (fun h => k1 (fun q => h (by rw [q]; exact nI_0))) (fun h => k2 ((nI_eq ha (by omega)).mp ((by first | exact h | exact Classical.byContradiction h : nI a = 0).trans nI_0.symm)))
theorem n_ifle {a : Nat} {off : Int} {tgt : Nat} (X : Cx p g s m args meth c cc nL y ret) (hdg : decode cc pc = .ok (.ifCond .le off, 3)) (ht : (pc : Int) + off = (tgt : Int)) (ha : a < 2 ^ 31) (k1 : a = 0 → W p l e R s m args below meth c H locs cells slots Q (F0 m tgt ls rest)) (k2 : 0 < a → W p l e R s m args below meth c H locs cells slots Q (F0 m (pc + 3) ls rest)) : W p l e R s m args below meth c H locs cells slots Q (F0 m pc ls (.int (nI a) :: rest)) :=
  lv_if_le X.1 X.2.1 hdg ht (fun h => k1 (by
    rcases Nat.eq_zero_or_pos a with q | q
    · exact q
    · exact absurd h (nI_nle q ha))) (fun h => k2 (by
    rcases Nat.eq_zero_or_pos a with q | q
    · exact absurd (by rw [q, nI_0]; decide) h
    · exact q))
theorem n_ifgt {a : Nat} {off : Int} {tgt : Nat} (X : Cx p g s m args meth c cc nL y ret) (hdg : decode cc pc = .ok (.ifCond .gt off, 3)) (ht : (pc : Int) + off = (tgt : Int)) (ha : a < 2 ^ 31) (k1 : 0 < a → W p l e R s m args below meth c H locs cells slots Q (F0 m tgt ls rest)) (k2 : a = 0 → W p l e R s m args below meth c H locs cells slots Q (F0 m (pc + 3) ls rest)) : W p l e R s m args below meth c H locs cells slots Q (F0 m pc ls (.int (nI a) :: rest)) :=
  lv_if_gt X.1 X.2.1 hdg ht (fun h => k1 (by
    rcases Nat.eq_zero_or_pos a with q | q
    · rw [q, nI_0] at h; exact absurd h (by decide)
    · exact q)) (fun h => k2 (by
    rcases Nat.eq_zero_or_pos a with q | q
    · exact q
    · exact absurd (by have := nI_lt q ha; rw [nI_0] at this; exact this) h))
theorem n_ifge {a : Nat} {off : Int} {tgt : Nat} (X : Cx p g s m args meth c cc nL y ret) (hdg : decode cc pc = .ok (.ifCond .ge off, 3)) (ht : (pc : Int) + off = (tgt : Int)) (ha : a < 2 ^ 31) (k1 : 0 ≤ a → W p l e R s m args below meth c H locs cells slots Q (F0 m tgt ls rest)) (k2 : False → W p l e R s m args below meth c H locs cells slots Q (F0 m (pc + 3) ls rest)) : W p l e R s m args below meth c H locs cells slots Q (F0 m pc ls (.int (nI a) :: rest)) :=
  lv_if_ge X.1 X.2.1 hdg ht (fun h => k1 (Nat.zero_le _)) (fun h => k2 (h (nI_pos' ha)))
theorem n_iflt {a : Nat} {off : Int} {tgt : Nat} (X : Cx p g s m args meth c cc nL y ret) (hdg : decode cc pc = .ok (.ifCond .lt off, 3)) (ht : (pc : Int) + off = (tgt : Int)) (ha : a < 2 ^ 31) (k1 : False → W p l e R s m args below meth c H locs cells slots Q (F0 m tgt ls rest)) (k2 : 0 ≤ a → W p l e R s m args below meth c H locs cells slots Q (F0 m (pc + 3) ls rest)) : W p l e R s m args below meth c H locs cells slots Q (F0 m pc ls (.int (nI a) :: rest)) :=
  lv_if_lt X.1 X.2.1 hdg ht (fun h => k1 (nI_pos ha h)) (fun h => k2 (Nat.zero_le _))
theorem m_ld {x v : Int32} (X : Cx p g s m args meth c cc nL y ret) (hW : MW g o S H) (k : Nat) (hk : k < 9) (hk0 : mkind k = 0) (j : Nat) (hj : x = nI j) (hlt : j < mlen k) (hv : S.1 k j = v) (hdg : decode cc pc = .ok (.iaload, 1))
    (kk : W p l e R s m args below meth c H locs cells slots Q (F0 m (pc + 1) ls (.int v :: rest))) : W p l e R s m args below meth c H locs cells slots Q (F0 m pc ls (.int x :: .ref (o + 1 + k) :: rest)) := by
  subst hv
  have hb31 : j < 2 ^ 31 := Nat.lt_of_lt_of_le hlt (by unfold mlen; split <;> decide)
  have ha := hW.a k hk
  rw [hk0] at ha
  exact r_ild X ha j (nI_cl hb31 hj) (nI_nn hb31 hj) hlt hdg kk
theorem m_zld {x v : Int32} (X : Cx p g s m args meth c cc nL y ret) (hW : MW g o S H) (k : Nat) (hk : k < 9) (hk0 : mkind k = 1) (j : Nat) (hj : x = nI j) (hlt : j < mlen k) (hv : S.1 k j = v) (hdg : decode cc pc = .ok (.baload, 1))
    (kk : W p l e R s m args below meth c H locs cells slots Q (F0 m (pc + 1) ls (.int v :: rest))) : W p l e R s m args below meth c H locs cells slots Q (F0 m pc ls (.int x :: .ref (o + 1 + k) :: rest)) := by
  subst hv
  have hb31 : j < 2 ^ 31 := Nat.lt_of_lt_of_le hlt (by unfold mlen; split <;> decide)
  have ha := hW.a k hk
  rw [hk0] at ha
  exact r_zld X ha j (nI_cl hb31 hj) (nI_nn hb31 hj) hlt hdg kk
theorem m_st {x v : Int32} (X : Cx p g s m args meth c cc nL y ret) (hL : ∀ q ∈ locs, gLo g ≤ q.base) (hW : MW g o S H) (k : Nat) (hk : k < 9) (hk0 : mkind k = 0) (j : Nat) (hj : x = nI j) (hlt : j < mlen k) (hdg : decode cc pc = .ok (.iastore, 1))
    (kk : ∀ (H1 : Heap) (locs1 : List Loc), (∀ q ∈ locs1, gLo g ≤ q.base) → MW g o (uA S k (upd (S.1 k) j v)) H1 → Off o H H1 → W p l e R s m args below meth c H1 locs1 cells slots Q (F0 m (pc + 1) ls rest)) : W p l e R s m args below meth c H locs cells slots Q (F0 m pc ls (.int v :: .int x :: .ref (o + 1 + k) :: rest)) := by
  have hb31 : j < 2 ^ 31 := Nat.lt_of_lt_of_le hlt (by unfold mlen; split <;> decide)
  have ha := hW.a k hk
  rw [hk0] at ha
  have hlo := hW.1
  refine r_ist X hL ha (by omega) j (nI_cl hb31 hj) (nI_nn hb31 hj) hlt hdg (fun H1 locs1 hL1 h1 h2 => kk H1 locs1 hL1 (hW.setA hk (by rw [hk0]; exact h1) h2) (h2.off (by omega) (by omega)))
theorem m_zst {x v : Int32} (X : Cx p g s m args meth c cc nL y ret) (hL : ∀ q ∈ locs, gLo g ≤ q.base) (hW : MW g o S H) (k : Nat) (hk : k < 9) (hk0 : mkind k = 1) (j : Nat) (hj : x = nI j) (hlt : j < mlen k) (hv : vp_nar .boolean v = v) (hdg : decode cc pc = .ok (.bastore, 1))
    (kk : ∀ (H1 : Heap) (locs1 : List Loc), (∀ q ∈ locs1, gLo g ≤ q.base) → MW g o (uA S k (upd (S.1 k) j v)) H1 → Off o H H1 → W p l e R s m args below meth c H1 locs1 cells slots Q (F0 m (pc + 1) ls rest)) : W p l e R s m args below meth c H locs cells slots Q (F0 m pc ls (.int v :: .int x :: .ref (o + 1 + k) :: rest)) := by
  have hb31 : j < 2 ^ 31 := Nat.lt_of_lt_of_le hlt (by unfold mlen; split <;> decide)
  have ha := hW.a k hk
  rw [hk0] at ha
  have hlo := hW.1
  refine r_zst X hL ha (by omega) j (nI_cl hb31 hj) (nI_nn hb31 hj) hlt hv hdg (fun H1 locs1 hL1 h1 h2 => kk H1 locs1 hL1 (hW.setA hk (by rw [hk0]; exact h1) h2) (h2.off (by omega) (by omega)))

theorem mg_7 (X : Cx p g s m args meth c cc nL y ret) (hy : y.cls = RX5) (hW : MW g o S H) (hdg : decode cc pc = .ok (.getfield 7, 3)) (kk : W p l e R s m args below meth c H locs cells slots Q (F0 m (pc + 3) ls (.ref (o + 1 + 0) :: rest))) : W p l e R s m args below meth c H locs cells slots Q (F0 m pc ls (.ref o :: rest)) :=
  r_get (C := RX5) (T := TX5) (N := 17) (ci := 0) X in_X5 rfl 0 (Nat.le_of_ble_eq_true rfl) (by rw [hy]; exact q1819) (fun _ h => h) hW.2.1 rfl hdg kk
theorem mg_13 (X : Cx p g s m args meth c cc nL y ret) (hy : y.cls = RX5) (hW : MW g o S H) (hdg : decode cc pc = .ok (.getfield 13, 3)) (kk : W p l e R s m args below meth c H locs cells slots Q (F0 m (pc + 3) ls (.ref (o + 1 + 1) :: rest))) : W p l e R s m args below meth c H locs cells slots Q (F0 m pc ls (.ref o :: rest)) :=
  r_get (C := RX5) (T := TX5) (N := 17) (ci := 0) X in_X5 rfl 1 (Nat.le_of_ble_eq_true rfl) (by rw [hy]; exact q1820) (fun _ h => h) hW.2.1 rfl hdg kk
theorem mg_16 (X : Cx p g s m args meth c cc nL y ret) (hy : y.cls = RX5) (hW : MW g o S H) (hdg : decode cc pc = .ok (.getfield 16, 3)) (kk : W p l e R s m args below meth c H locs cells slots Q (F0 m (pc + 3) ls (.ref (o + 1 + 2) :: rest))) : W p l e R s m args below meth c H locs cells slots Q (F0 m pc ls (.ref o :: rest)) :=
  r_get (C := RX5) (T := TX5) (N := 17) (ci := 0) X in_X5 rfl 2 (Nat.le_of_ble_eq_true rfl) (by rw [hy]; exact q1821) (fun _ h => h) hW.2.1 rfl hdg kk
theorem mg_19 (X : Cx p g s m args meth c cc nL y ret) (hy : y.cls = RX5) (hW : MW g o S H) (hdg : decode cc pc = .ok (.getfield 19, 3)) (kk : W p l e R s m args below meth c H locs cells slots Q (F0 m (pc + 3) ls (.ref (o + 1 + 3) :: rest))) : W p l e R s m args below meth c H locs cells slots Q (F0 m pc ls (.ref o :: rest)) :=
  r_get (C := RX5) (T := TX5) (N := 17) (ci := 0) X in_X5 rfl 3 (Nat.le_of_ble_eq_true rfl) (by rw [hy]; exact q1822) (fun _ h => h) hW.2.1 rfl hdg kk
theorem mg_22 (X : Cx p g s m args meth c cc nL y ret) (hy : y.cls = RX5) (hW : MW g o S H) (hdg : decode cc pc = .ok (.getfield 22, 3)) (kk : W p l e R s m args below meth c H locs cells slots Q (F0 m (pc + 3) ls (.ref (o + 1 + 4) :: rest))) : W p l e R s m args below meth c H locs cells slots Q (F0 m pc ls (.ref o :: rest)) :=
  r_get (C := RX5) (T := TX5) (N := 17) (ci := 0) X in_X5 rfl 4 (Nat.le_of_ble_eq_true rfl) (by rw [hy]; exact q1823) (fun _ h => h) hW.2.1 rfl hdg kk
theorem mg_25 (X : Cx p g s m args meth c cc nL y ret) (hy : y.cls = RX5) (hW : MW g o S H) (hdg : decode cc pc = .ok (.getfield 25, 3)) (kk : W p l e R s m args below meth c H locs cells slots Q (F0 m (pc + 3) ls (.ref (o + 1 + 5) :: rest))) : W p l e R s m args below meth c H locs cells slots Q (F0 m pc ls (.ref o :: rest)) :=
  r_get (C := RX5) (T := TX5) (N := 17) (ci := 0) X in_X5 rfl 5 (Nat.le_of_ble_eq_true rfl) (by rw [hy]; exact q1824) (fun _ h => h) hW.2.1 rfl hdg kk
theorem mg_29 (X : Cx p g s m args meth c cc nL y ret) (hy : y.cls = RX5) (hW : MW g o S H) (hdg : decode cc pc = .ok (.getfield 29, 3)) (kk : W p l e R s m args below meth c H locs cells slots Q (F0 m (pc + 3) ls (.ref (o + 1 + 6) :: rest))) : W p l e R s m args below meth c H locs cells slots Q (F0 m pc ls (.ref o :: rest)) :=
  r_get (C := RX5) (T := TX5) (N := 17) (ci := 0) X in_X5 rfl 6 (Nat.le_of_ble_eq_true rfl) (by rw [hy]; exact q1825) (fun _ h => h) hW.2.1 rfl hdg kk
theorem mg_32 (X : Cx p g s m args meth c cc nL y ret) (hy : y.cls = RX5) (hW : MW g o S H) (hdg : decode cc pc = .ok (.getfield 32, 3)) (kk : W p l e R s m args below meth c H locs cells slots Q (F0 m (pc + 3) ls (.ref (o + 1 + 7) :: rest))) : W p l e R s m args below meth c H locs cells slots Q (F0 m pc ls (.ref o :: rest)) :=
  r_get (C := RX5) (T := TX5) (N := 17) (ci := 0) X in_X5 rfl 7 (Nat.le_of_ble_eq_true rfl) (by rw [hy]; exact q1826) (fun _ h => h) hW.2.1 rfl hdg kk
theorem mg_35 (X : Cx p g s m args meth c cc nL y ret) (hy : y.cls = RX5) (hW : MW g o S H) (hdg : decode cc pc = .ok (.getfield 35, 3)) (kk : W p l e R s m args below meth c H locs cells slots Q (F0 m (pc + 3) ls (.ref (o + 1 + 8) :: rest))) : W p l e R s m args below meth c H locs cells slots Q (F0 m pc ls (.ref o :: rest)) :=
  r_get (C := RX5) (T := TX5) (N := 17) (ci := 0) X in_X5 rfl 8 (Nat.le_of_ble_eq_true rfl) (by rw [hy]; exact q1827) (fun _ h => h) hW.2.1 rfl hdg kk
theorem mg_38 (X : Cx p g s m args meth c cc nL y ret) (hy : y.cls = RX5) (hW : MW g o S H) (hdg : decode cc pc = .ok (.getfield 38, 3)) (kk : W p l e R s m args below meth c H locs cells slots Q (F0 m (pc + 3) ls (.int (S.2.1 15) :: rest))) : W p l e R s m args below meth c H locs cells slots Q (F0 m pc ls (.ref o :: rest)) :=
  r_get (C := RX5) (T := TX5) (N := 17) (ci := 0) X in_X5 rfl 15 (Nat.le_of_ble_eq_true rfl) (by rw [hy]; exact q1834) (fun _ h => h) hW.2.1 rfl hdg kk
theorem mp_38 {v : Int32} (X : Cx p g s m args meth c cc nL y ret) (hy : y.cls = RX5) (hL : ∀ q ∈ locs, gLo g ≤ q.base) (hW : MW g o S H) (hdg : decode cc pc = .ok (.putfield 38, 3)) (kk : ∀ (H1 : Heap) (locs1 : List Loc), (∀ q ∈ locs1, gLo g ≤ q.base) → MW g o (uS S 15 v) H1 → Off o H H1 → W p l e R s m args below meth c H1 locs1 cells slots Q (F0 m (pc + 3) ls rest)) : W p l e R s m args below meth c H locs cells slots Q (F0 m pc ls (.int v :: .ref o :: rest)) := by
  have hlo := hW.1
  exact r_put (C := RX5) (T := TX5) (N := 17) (ci := 0) X in_X5 tyX5 tyX5_ok nmX5 rfl 15 (Nat.le_of_ble_eq_true rfl) (by rw [hy]; exact q1834) (fun _ h => h) rfl hL hW.2.1 hlo rfl rfl (Nat.le_of_ble_eq_true rfl) hdg (fun H1 locs1 hL1 h1 h2 => kk H1 locs1 hL1 (hW.setO (S1 := uS S 15 v) h1 h2 rfl) (h2.off (Nat.le_refl _) (by omega)))
theorem mg_46 (X : Cx p g s m args meth c cc nL y ret) (hy : y.cls = RX5) (hW : MW g o S H) (hdg : decode cc pc = .ok (.getfield 46, 3)) (kk : W p l e R s m args below meth c H locs cells slots Q (F0 m (pc + 3) ls (.int (S.2.1 12) :: rest))) : W p l e R s m args below meth c H locs cells slots Q (F0 m pc ls (.ref o :: rest)) :=
  r_get (C := RX5) (T := TX5) (N := 17) (ci := 0) X in_X5 rfl 12 (Nat.le_of_ble_eq_true rfl) (by rw [hy]; exact q1831) (fun _ h => h) hW.2.1 rfl hdg kk
theorem mp_46 {v : Int32} (X : Cx p g s m args meth c cc nL y ret) (hy : y.cls = RX5) (hL : ∀ q ∈ locs, gLo g ≤ q.base) (hW : MW g o S H) (hdg : decode cc pc = .ok (.putfield 46, 3)) (kk : ∀ (H1 : Heap) (locs1 : List Loc), (∀ q ∈ locs1, gLo g ≤ q.base) → MW g o (uS S 12 v) H1 → Off o H H1 → W p l e R s m args below meth c H1 locs1 cells slots Q (F0 m (pc + 3) ls rest)) : W p l e R s m args below meth c H locs cells slots Q (F0 m pc ls (.int v :: .ref o :: rest)) := by
  have hlo := hW.1
  exact r_put (C := RX5) (T := TX5) (N := 17) (ci := 0) X in_X5 tyX5 tyX5_ok nmX5 rfl 12 (Nat.le_of_ble_eq_true rfl) (by rw [hy]; exact q1831) (fun _ h => h) rfl hL hW.2.1 hlo rfl rfl (Nat.le_of_ble_eq_true rfl) hdg (fun H1 locs1 hL1 h1 h2 => kk H1 locs1 hL1 (hW.setO (S1 := uS S 12 v) h1 h2 rfl) (h2.off (Nat.le_refl _) (by omega)))
theorem mg_82 (X : Cx p g s m args meth c cc nL y ret) (hy : y.cls = RX5) (hW : MW g o S H) (hdg : decode cc pc = .ok (.getfield 82, 3)) (kk : W p l e R s m args below meth c H locs cells slots Q (F0 m (pc + 3) ls (.int (S.2.1 9) :: rest))) : W p l e R s m args below meth c H locs cells slots Q (F0 m pc ls (.ref o :: rest)) :=
  r_get (C := RX5) (T := TX5) (N := 17) (ci := 0) X in_X5 rfl 9 (Nat.le_of_ble_eq_true rfl) (by rw [hy]; exact q1828) (fun _ h => h) hW.2.1 rfl hdg kk
theorem mp_82 {v : Int32} (X : Cx p g s m args meth c cc nL y ret) (hy : y.cls = RX5) (hL : ∀ q ∈ locs, gLo g ≤ q.base) (hW : MW g o S H) (hdg : decode cc pc = .ok (.putfield 82, 3)) (kk : ∀ (H1 : Heap) (locs1 : List Loc), (∀ q ∈ locs1, gLo g ≤ q.base) → MW g o (uS S 9 v) H1 → Off o H H1 → W p l e R s m args below meth c H1 locs1 cells slots Q (F0 m (pc + 3) ls rest)) : W p l e R s m args below meth c H locs cells slots Q (F0 m pc ls (.int v :: .ref o :: rest)) := by
  have hlo := hW.1
  exact r_put (C := RX5) (T := TX5) (N := 17) (ci := 0) X in_X5 tyX5 tyX5_ok nmX5 rfl 9 (Nat.le_of_ble_eq_true rfl) (by rw [hy]; exact q1828) (fun _ h => h) rfl hL hW.2.1 hlo rfl rfl (Nat.le_of_ble_eq_true rfl) hdg (fun H1 locs1 hL1 h1 h2 => kk H1 locs1 hL1 (hW.setO (S1 := uS S 9 v) h1 h2 rfl) (h2.off (Nat.le_refl _) (by omega)))
theorem mg_118 (X : Cx p g s m args meth c cc nL y ret) (hy : y.cls = RX5) (hW : MW g o S H) (hdg : decode cc pc = .ok (.getfield 118, 3)) (kk : W p l e R s m args below meth c H locs cells slots Q (F0 m (pc + 3) ls (.int (S.2.1 13) :: rest))) : W p l e R s m args below meth c H locs cells slots Q (F0 m pc ls (.ref o :: rest)) :=
  r_get (C := RX5) (T := TX5) (N := 17) (ci := 0) X in_X5 rfl 13 (Nat.le_of_ble_eq_true rfl) (by rw [hy]; exact q1832) (fun _ h => h) hW.2.1 rfl hdg kk
theorem mp_118 {v : Int32} (X : Cx p g s m args meth c cc nL y ret) (hy : y.cls = RX5) (hL : ∀ q ∈ locs, gLo g ≤ q.base) (hW : MW g o S H) (hdg : decode cc pc = .ok (.putfield 118, 3)) (kk : ∀ (H1 : Heap) (locs1 : List Loc), (∀ q ∈ locs1, gLo g ≤ q.base) → MW g o (uS S 13 v) H1 → Off o H H1 → W p l e R s m args below meth c H1 locs1 cells slots Q (F0 m (pc + 3) ls rest)) : W p l e R s m args below meth c H locs cells slots Q (F0 m pc ls (.int v :: .ref o :: rest)) := by
  have hlo := hW.1
  exact r_put (C := RX5) (T := TX5) (N := 17) (ci := 0) X in_X5 tyX5 tyX5_ok nmX5 rfl 13 (Nat.le_of_ble_eq_true rfl) (by rw [hy]; exact q1832) (fun _ h => h) rfl hL hW.2.1 hlo rfl rfl (Nat.le_of_ble_eq_true rfl) hdg (fun H1 locs1 hL1 h1 h2 => kk H1 locs1 hL1 (hW.setO (S1 := uS S 13 v) h1 h2 rfl) (h2.off (Nat.le_refl _) (by omega)))
theorem mg_121 (X : Cx p g s m args meth c cc nL y ret) (hy : y.cls = RX5) (hW : MW g o S H) (hdg : decode cc pc = .ok (.getfield 121, 3)) (kk : W p l e R s m args below meth c H locs cells slots Q (F0 m (pc + 3) ls (.int (S.2.1 14) :: rest))) : W p l e R s m args below meth c H locs cells slots Q (F0 m pc ls (.ref o :: rest)) :=
  r_get (C := RX5) (T := TX5) (N := 17) (ci := 0) X in_X5 rfl 14 (Nat.le_of_ble_eq_true rfl) (by rw [hy]; exact q1833) (fun _ h => h) hW.2.1 rfl hdg kk
theorem mp_121 {v : Int32} (X : Cx p g s m args meth c cc nL y ret) (hy : y.cls = RX5) (hL : ∀ q ∈ locs, gLo g ≤ q.base) (hW : MW g o S H) (hdg : decode cc pc = .ok (.putfield 121, 3)) (kk : ∀ (H1 : Heap) (locs1 : List Loc), (∀ q ∈ locs1, gLo g ≤ q.base) → MW g o (uS S 14 v) H1 → Off o H H1 → W p l e R s m args below meth c H1 locs1 cells slots Q (F0 m (pc + 3) ls rest)) : W p l e R s m args below meth c H locs cells slots Q (F0 m pc ls (.int v :: .ref o :: rest)) := by
  have hlo := hW.1
  exact r_put (C := RX5) (T := TX5) (N := 17) (ci := 0) X in_X5 tyX5 tyX5_ok nmX5 rfl 14 (Nat.le_of_ble_eq_true rfl) (by rw [hy]; exact q1833) (fun _ h => h) rfl hL hW.2.1 hlo rfl rfl (Nat.le_of_ble_eq_true rfl) hdg (fun H1 locs1 hL1 h1 h2 => kk H1 locs1 hL1 (hW.setO (S1 := uS S 14 v) h1 h2 rfl) (h2.off (Nat.le_refl _) (by omega)))
theorem mg_155 (X : Cx p g s m args meth c cc nL y ret) (hy : y.cls = RX5) (hW : MW g o S H) (hdg : decode cc pc = .ok (.getfield 155, 3)) (kk : W p l e R s m args below meth c H locs cells slots Q (F0 m (pc + 3) ls (.int (S.2.1 10) :: rest))) : W p l e R s m args below meth c H locs cells slots Q (F0 m pc ls (.ref o :: rest)) :=
  r_get (C := RX5) (T := TX5) (N := 17) (ci := 0) X in_X5 rfl 10 (Nat.le_of_ble_eq_true rfl) (by rw [hy]; exact q1829) (fun _ h => h) hW.2.1 rfl hdg kk
theorem mp_155 {v : Int32} (X : Cx p g s m args meth c cc nL y ret) (hy : y.cls = RX5) (hL : ∀ q ∈ locs, gLo g ≤ q.base) (hW : MW g o S H) (hn : narrow .boolean (.int v) = .int v) (hf : fits .boolean (.int v) = true) (hdg : decode cc pc = .ok (.putfield 155, 3)) (kk : ∀ (H1 : Heap) (locs1 : List Loc), (∀ q ∈ locs1, gLo g ≤ q.base) → MW g o (uS S 10 v) H1 → Off o H H1 → W p l e R s m args below meth c H1 locs1 cells slots Q (F0 m (pc + 3) ls rest)) : W p l e R s m args below meth c H locs cells slots Q (F0 m pc ls (.int v :: .ref o :: rest)) := by
  have hlo := hW.1
  exact r_put (C := RX5) (T := TX5) (N := 17) (ci := 0) X in_X5 tyX5 tyX5_ok nmX5 rfl 10 (Nat.le_of_ble_eq_true rfl) (by rw [hy]; exact q1829) (fun _ h => h) rfl hL hW.2.1 hlo hn hf (Nat.le_of_ble_eq_true rfl) hdg (fun H1 locs1 hL1 h1 h2 => kk H1 locs1 hL1 (hW.setO (S1 := uS S 10 v) h1 h2 rfl) (h2.off (Nat.le_refl _) (by omega)))
theorem mg_159 (X : Cx p g s m args meth c cc nL y ret) (hy : y.cls = RX5) (hW : MW g o S H) (hdg : decode cc pc = .ok (.getfield 159, 3)) (kk : W p l e R s m args below meth c H locs cells slots Q (F0 m (pc + 3) ls (.int (S.2.1 11) :: rest))) : W p l e R s m args below meth c H locs cells slots Q (F0 m pc ls (.ref o :: rest)) :=
  r_get (C := RX5) (T := TX5) (N := 17) (ci := 0) X in_X5 rfl 11 (Nat.le_of_ble_eq_true rfl) (by rw [hy]; exact q1830) (fun _ h => h) hW.2.1 rfl hdg kk
theorem mp_159 {v : Int32} (X : Cx p g s m args meth c cc nL y ret) (hy : y.cls = RX5) (hL : ∀ q ∈ locs, gLo g ≤ q.base) (hW : MW g o S H) (hn : narrow .boolean (.int v) = .int v) (hf : fits .boolean (.int v) = true) (hdg : decode cc pc = .ok (.putfield 159, 3)) (kk : ∀ (H1 : Heap) (locs1 : List Loc), (∀ q ∈ locs1, gLo g ≤ q.base) → MW g o (uS S 11 v) H1 → Off o H H1 → W p l e R s m args below meth c H1 locs1 cells slots Q (F0 m (pc + 3) ls rest)) : W p l e R s m args below meth c H locs cells slots Q (F0 m pc ls (.int v :: .ref o :: rest)) := by
  have hlo := hW.1
  exact r_put (C := RX5) (T := TX5) (N := 17) (ci := 0) X in_X5 tyX5 tyX5_ok nmX5 rfl 11 (Nat.le_of_ble_eq_true rfl) (by rw [hy]; exact q1830) (fun _ h => h) rfl hL hW.2.1 hlo hn hf (Nat.le_of_ble_eq_true rfl) hdg (fun H1 locs1 hL1 h1 h2 => kk H1 locs1 hL1 (hW.setO (S1 := uS S 11 v) h1 h2 rfl) (h2.off (Nat.le_refl _) (by omega)))
theorem mg_225 (X : Cx p g s m args meth c cc nL y ret) (hy : y.cls = RX5) (hW : MW g o S H) (hdg : decode cc pc = .ok (.getfield 225, 3)) (kk : W p l e R s m args below meth c H locs cells slots Q (F0 m (pc + 3) ls (.long S.2.2 :: rest))) : W p l e R s m args below meth c H locs cells slots Q (F0 m pc ls (.ref o :: rest)) :=
  r_get (C := RX5) (T := TX5) (N := 17) (ci := 0) X in_X5 rfl 16 (Nat.le_of_ble_eq_true rfl) (by rw [hy]; exact q1835) (fun _ h => h) hW.2.1 rfl hdg kk
theorem mp_225 {v : Int64} (X : Cx p g s m args meth c cc nL y ret) (hy : y.cls = RX5) (hL : ∀ q ∈ locs, gLo g ≤ q.base) (hW : MW g o S H) (hdg : decode cc pc = .ok (.putfield 225, 3)) (kk : ∀ (H1 : Heap) (locs1 : List Loc), (∀ q ∈ locs1, gLo g ≤ q.base) → MW g o (uH S v) H1 → Off o H H1 → W p l e R s m args below meth c H1 locs1 cells slots Q (F0 m (pc + 3) ls rest)) : W p l e R s m args below meth c H locs cells slots Q (F0 m pc ls (.long v :: .ref o :: rest)) := by
  have hlo := hW.1
  exact r_put (C := RX5) (T := TX5) (N := 17) (ci := 0) X in_X5 tyX5 tyX5_ok nmX5 rfl 16 (Nat.le_of_ble_eq_true rfl) (by rw [hy]; exact q1835) (fun _ h => h) rfl hL hW.2.1 hlo rfl rfl (Nat.le_of_ble_eq_true rfl) hdg (fun H1 locs1 hL1 h1 h2 => kk H1 locs1 hL1 (hW.setO (S1 := uH S v) h1 h2 rfl) (h2.off (Nat.le_refl _) (by omega)))
end ROWSM
