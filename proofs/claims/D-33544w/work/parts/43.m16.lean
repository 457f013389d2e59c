/-! the model's walks, sixteenth part: the digest -/
def sidL (r : Nat → Int32) : List Int64 := [(r (161 + 0)).toInt64, (r (165 + 0)).toInt64, (r (169 + 0)).toInt64, (r (173 + 0)).toInt64, (r (161 + 1)).toInt64, (r (165 + 1)).toInt64, (r (169 + 1)).toInt64, (r (173 + 1)).toInt64, (r (161 + 2)).toInt64, (r (165 + 2)).toInt64, (r (169 + 2)).toInt64, (r (173 + 2)).toInt64, (r (161 + 3)).toInt64, (r (165 + 3)).toInt64, (r (169 + 3)).toInt64, (r (173 + 3)).toInt64]
def ofA (r : Nat → Int32) (n : Nat) : Nat → List Int64
  | 0 => []
  | k + 1 => ofA r n k ++ offL r n (LY r n) k
def bufL (f : Nat → Int32) : Nat → List Int64
  | 0 => []
  | k + 1 => bufL f k ++ [(f k).toInt64]
def preL (r : Nat → Int32) (n : Nat) : List Int64 := [(nI n).toInt64, (nI (cnt (cB r) n)).toInt64]
def te3L (r : Nat → Int32) (n : Nat) : List Int64 := [(nI (cnt (tellB r n (hasB (matI (mw r)))) n)).toInt64, (nI (cnt (tellB r n (hasB (matI (mw r)))) n)).toInt64, (nI (maxN (LY r n) n)).toInt64]
def accL (r : Nat → Int32) (n st : Nat) (hf hs : Bool) (ln : Nat) : List Int64 := [(r 177).toInt64, (r 178).toInt64, (nI (sumN (beaN r n) n)).toInt64, (nI st).toInt64, dlB (shF (cnt (tellB r n (hasB (matI (mw r)))) n) (cnt (cB r) n)), bL hf, bL hs, (nI ln).toInt64]
def digL (r : Nat → Int32) (n st : Nat) (hf hs : Bool) (ln : Nat) (f : Nat → Int32) : List Int64 := sidL r ++ (preL r n ++ (ofA r n n ++ (te3L r n ++ (someL r n ++ (accL r n st hf hs ln ++ bufL f ln)))))
def q_l (S : MS) (v : Int64) : Nat × Option Value × MS := (0, some (.long v), S)

set_option maxRecDepth 100000 in
set_option maxHeartbeats 4000000 in
theorem ct_X5_digest (l : Launch) (g : GT) (o n st ln : Nat) (S : MS) (hf hs : Bool) (hN : S.1 0 160 = nI n) (hn : n ≤ 40) (hR : RO (S.1 0) n) (hst : S.2.1 12 = nI st) (hs6 : st ≤ 6) (hln : S.2.1 13 = nI ln) (hl6 : ln ≤ 60) (hF : S.2.1 10 = bI hf) (hG : S.2.1 11 = bI hs) : Ct l g yX5_digest cX5_digest 4 (some .long) 9 0 0 [.ref o] (MW g o S) (fun r H H1 => ∃ S1, AP S1 (q_l S (mxs 4513 (digL (S.1 0) n st hf hs ln (S.1 4)))) r ∧ MW g o S1 H1 ∧ Off o H H1) := by
  refine Ct.of (by decide) (Nat.le_of_ble_eq_true rfl) ?_
  intro p e s m args below meth c X hP ls hl
  have hx := X.1
  have hb := X.2.1
  have hKV := X.2.2.2.2.2.2.2.1.1
  have hL : ∀ q ∈ ([] : List Loc), gLo g ≤ q.base := fun _ h => by cases h
  have hl : lv_has ls 4 [(0, .ref o)] := hl
  have hW : MW g o S s.heap := hP
  have hO : Off o s.heap s.heap := Off.rfl'
  have C80 : ∀ (h0 : Int64), (h0 = mxs 4513 (sidL (S.1 0))) → ∀ (H : Heap), MW g o (uH S h0) H → Off o s.heap H → ∀ (locs : List Loc), (∀ q ∈ locs, gLo g ≤ q.base) → ∀ (ls : Array Slot), lv_has ls 4 [(0, .ref o)] → W p l e (rmL 9 0 0) s m args below meth c H locs 0 0 (MQ below (Qcg (fun r H H1 => ∃ S1, AP S1 (q_l S (mxs 4513 (digL (S.1 0) n st hf hs ln (S.1 4)))) r ∧ MW g o S1 H1 ∧ Off o H H1)) args s 0 0 (fre g)) (F0 m 80 ls []) := by
    intro h0 hh0 H hW hO locs hL ls hl
    have C132 : ∀ (h2 : Int64), (h2 = mxs (mxs h0 (preL (S.1 0) n)) (ofA (S.1 0) n n)) → ∀ (H : Heap), MW g o (uH (uA S 7 (setI (S.1 7) n (fun k => nI (LY (S.1 0) n k)))) h2) H → Off o s.heap H → ∀ (locs : List Loc), (∀ q ∈ locs, gLo g ≤ q.base) → ∀ (ls : Array Slot), lv_has ls 4 [(0, .ref o), (1, .int (nI (maxN (LY (S.1 0) n) n)))] → W p l e (rmL 9 0 0) s m args below meth c H locs 0 0 (MQ below (Qcg (fun r H H1 => ∃ S1, AP S1 (q_l S (mxs 4513 (digL (S.1 0) n st hf hs ln (S.1 4)))) r ∧ MW g o S1 H1 ∧ Off o H H1)) args s 0 0 (fre g)) (F0 m 132 ls []) := by
      intro h2 hh2 H hW hO locs hL ls hl
      have C259 : ∀ (F5 F6 F8 : Nat → Int32) (tm : Int32) (h3 : Int64), (h3 = mxs h2 (te3L (S.1 0) n ++ (someL (S.1 0) n ++ accL (S.1 0) n st hf hs ln))) → ∀ (H : Heap), MW g o (uH (uS (uS (uA (uA (uA (uA S 5 F5) 6 F6) 7 (setI (S.1 7) n (fun k => nI (LY (S.1 0) n k)))) 8 F8) 9 tm) 15 (nI 0)) h3) H → Off o s.heap H → ∀ (locs : List Loc), (∀ q ∈ locs, gLo g ≤ q.base) → ∀ (ls : Array Slot), lv_has ls 4 [(0, .ref o)] → W p l e (rmL 9 0 0) s m args below meth c H locs 0 0 (MQ below (Qcg (fun r H H1 => ∃ S1, AP S1 (q_l S (mxs 4513 (digL (S.1 0) n st hf hs ln (S.1 4)))) r ∧ MW g o S1 H1 ∧ Off o H H1)) args s 0 0 (fre g)) (F0 m 259 ls []) := by
        intro F5 F6 F8 tm h3 hh3 H hW hO locs hL ls hl
        refine lv_iconst (v := nI 0) hx hb dX5_digest_259 (by decide) ?_
        refine lv_istore_n (lv' := [(3, .int _), (0, .ref _)]) hx hb dX5_digest_260 rfl hl (by decide) rfl (fun ls hl => ?_)
        have L261 : ∀ (fuel : Nat) (k : Nat), ln - k < fuel → (k ≤ ln) → ∀ (H : Heap), MW g o (uH (uS (uS (uA (uA (uA (uA S 5 F5) 6 F6) 7 (setI (S.1 7) n (fun k => nI (LY (S.1 0) n k)))) 8 F8) 9 tm) 15 (nI 0)) (mxs h3 (bufL (S.1 4) k))) H → Off o s.heap H → ∀ (locs : List Loc), (∀ q ∈ locs, gLo g ≤ q.base) → ∀ (ls : Array Slot), lv_has ls 4 [(0, .ref o), (3, .int (nI k))] → W p l e (rmL 9 0 0) s m args below meth c H locs 0 0 (MQ below (Qcg (fun r H H1 => ∃ S1, AP S1 (q_l S (mxs 4513 (digL (S.1 0) n st hf hs ln (S.1 4)))) r ∧ MW g o S1 H1 ∧ Off o H H1)) args s 0 0 (fre g)) (F0 m 261 ls []) := by
          intro fuel
          induction fuel with
          | zero => intro k hfu; exact absurd hfu (Nat.not_lt_zero _)
          | succ fuel ih261 =>
            intro k hfu hk H hW hO locs hL ls hl
            refine lv_iload_n hx hb dX5_digest_261 rfl (lv_at hl 1 rfl) ?_
            refine lv_aload_n hx hb dX5_digest_262 rfl (lv_at hl 0 rfl) ?_
            refine mg_118 X rfl hW dX5_digest_263 (W.stk (w := (nI ln)) hln ?_)
            refine n_icmp_ge (tgt := 286) X dX5_digest_266 (by decide) (by omega) (by omega) (fun c_266 => ?_) (fun c_266 => ?_)
            ·
              refine lv_aload_n hx hb dX5_digest_286 rfl (lv_at hl 0 rfl) ?_
              refine lv_iconst (v := nI 0) hx hb dX5_digest_287 (by decide) ?_
              refine mp_38 X rfl hL hW dX5_digest_288 (fun H locs hL hW hO1 => ?_)
              have hO := hO.trans hO1
              have hW := MW.cast (S1 := uH (uS (uS (uA (uA (uA (uA S 5 F5) 6 F6) 7 (setI (S.1 7) n (fun k => nI (LY (S.1 0) n k)))) 8 F8) 9 tm) 15 (nI 0)) (mxs h3 (bufL (S.1 4) k))) hW ⟨rfl, rfl, rfl, rfl, rfl, rfl, rfl, rfl, rfl, rfl, rfl, rfl, rfl, rfl, rfl, rfl, rfl⟩
              refine lv_aload_n hx hb dX5_digest_291 rfl (lv_at hl 0 rfl) ?_
              refine mg_225 X rfl hW dX5_digest_292 (W.stkL (w := mxs h3 (bufL (S.1 4) k)) rfl ?_)
              exact r_lret X hL dX5_digest_295 (by omega) (by omega) ⟨uH (uS (uS (uA (uA (uA (uA S 5 F5) 6 F6) 7 (setI (S.1 7) n (fun k => nI (LY (S.1 0) n k)))) 8 F8) 9 tm) 15 (nI 0)) (mxs h3 (bufL (S.1 4) k)), AP.mk (t := 0) (v := some (.long (mxs 4513 (digL (S.1 0) n st hf hs ln (S.1 4))))) (X := S) rfl ⟨rfl, rfl, rfl, rfl, rfl, rfl, rfl, rfl⟩ rfl (congrArg (fun z => some (Value.long z)) (by rw [digL, mxs_app, mxs_app, mxs_app, mxs_app, mxs_app, mxs_app, ← hh0, ← hh2, show k = ln by omega, hh3, mxs_app, mxs_app])), hW, hO⟩
            ·
              refine lv_aload_n hx hb dX5_digest_269 rfl (lv_at hl 0 rfl) ?_
              refine lv_aload_n hx hb dX5_digest_270 rfl (lv_at hl 0 rfl) ?_
              refine mg_22 X rfl hW dX5_digest_271 ?_
              refine lv_iload_n hx hb dX5_digest_274 rfl (lv_at hl 1 rfl) ?_
              refine m_ld (v := ((S.1 4) k)) X hW 4 (by decide) rfl k rfl (by show k < 60; omega) rfl dX5_digest_275 ?_
              refine lv_i2l hx hb dX5_digest_276 rfl ?_
              refine Ct.callV (ct_X5_mix l g o (uH (uS (uS (uA (uA (uA (uA S 5 F5) 6 F6) 7 (setI (S.1 7) n (fun k => nI (LY (S.1 0) n k)))) 8 F8) 9 tm) 15 (nI 0)) (mxs h3 (bufL (S.1 4) k))) (((S.1 4) k).toInt64) ) X hL hl vb_X5_mix q2282 (hW.2.1.recv hKV rfl) rfl rfl (Nat.le_of_ble_eq_true rfl) dX5_digest_277 ⟨Nat.le_of_ble_eq_true rfl, Nat.le_of_ble_eq_true rfl⟩ (by omega) (by omega) hW (fun r H1 locs hL hp => ?_)
              obtain ⟨rfl, hW, hO1⟩ := hp
              have hO := hO.trans hO1
              have hW := MW.cast (S1 := uH (uS (uS (uA (uA (uA (uA S 5 F5) 6 F6) 7 (setI (S.1 7) n (fun k => nI (LY (S.1 0) n k)))) 8 F8) 9 tm) 15 (nI 0)) (31 * (mxs h3 (bufL (S.1 4) k)) + (((S.1 4) k).toInt64))) hW ⟨rfl, rfl, rfl, rfl, rfl, rfl, rfl, rfl, rfl, rfl, rfl, rfl, rfl, rfl, rfl, rfl, rfl⟩
              refine lv_iinc (v := nI (k + 1)) (lv' := [(3, .int _), (0, .ref _)]) hx hb dX5_digest_280 hl (k := 1) rfl (nI_iinc _ 1 rfl) (by decide) rfl (fun ls hl => ?_)
              refine lv_goto (tgt := 261) hx hb dX5_digest_283 (by decide) ?_
              exact ih261 (k + 1) (by omega) (by omega) _ (MW.cast hW ⟨rfl, rfl, rfl, rfl, rfl, rfl, rfl, rfl, rfl, rfl, rfl, rfl, rfl, rfl, rfl, rfl, (by show _ = mxs h3 (bufL (S.1 4) (k + 1)); rw [bufL, mxs_app]; rfl)⟩) hO _ hL ls (lv_sub hl [1, 0] rfl)
        exact L261 (ln + 1) 0 (by omega) (by omega) _ hW hO _ hL ls (lv_sub hl [1, 0] rfl)
      refine lv_aload_n hx hb dX5_digest_132 rfl (lv_at hl 0 rfl) ?_
      refine lv_aload_n hx hb dX5_digest_133 rfl (lv_at hl 0 rfl) ?_
      refine Cp.callV (v := .int (matI (mw (S.1 0)))) (ct_X5_mattering l g o (uH (uA S 7 (setI (S.1 7) n (fun k => nI (LY (S.1 0) n k)))) h2) ) X hL hl vb_X5_mattering q1927 (hW.2.1.recv hKV rfl) rfl rfl (Nat.le_of_ble_eq_true rfl) dX5_digest_134 ⟨Nat.le_of_ble_eq_true rfl, Nat.le_of_ble_eq_true rfl⟩ (by omega) (by omega) hW (fun locs hL => ?_)
      refine Ct.callV (ct_X5_tell l g o n (uH (uA S 7 (setI (S.1 7) n (fun k => nI (LY (S.1 0) n k)))) h2) (matI (mw (S.1 0))) hN hn) X hL hl vb_X5_tell q1935 (hW.2.1.recv hKV rfl) rfl rfl (Nat.le_of_ble_eq_true rfl) dX5_digest_137 ⟨Nat.le_of_ble_eq_true rfl, Nat.le_of_ble_eq_true rfl⟩ (by omega) (by omega) hW (fun r H1 locs hL hp => ?_)
      obtain ⟨rfl, hW, hO1⟩ := hp
      have hO := hO.trans hO1
      have hW := MW.cast (S1 := uH (uA (uA S 5 (setB (S.1 5) n (tellB (S.1 0) n (hasB (matI (mw (S.1 0))))))) 7 (setI (S.1 7) n (fun k => nI (LY (S.1 0) n k)))) h2) hW ⟨rfl, rfl, rfl, rfl, rfl, rfl, rfl, rfl, rfl, rfl, rfl, rfl, rfl, rfl, rfl, rfl, rfl⟩
      refine W.stk (w := (nI (cnt (tellB (S.1 0) n (hasB (matI (mw (S.1 0))))) n))) rfl ?_
      obtain ⟨F5, hF5⟩ : ∃ F, F = (setB (S.1 5) n (tellB (S.1 0) n (hasB (matI (mw (S.1 0)))))) := ⟨_, rfl⟩
      have hW := MW.cast (S1 := uH (uA (uA S 5 F5) 7 (setI (S.1 7) n (fun k => nI (LY (S.1 0) n k)))) h2) hW ⟨rfl, rfl, rfl, rfl, rfl, hF5.symm, rfl, rfl, rfl, rfl, rfl, rfl, rfl, rfl, rfl, rfl, rfl⟩
      refine lv_istore_n (lv' := [(2, .int _), (0, .ref _), (1, .int _)]) hx hb dX5_digest_140 rfl hl (by decide) rfl (fun ls hl => ?_)
      refine lv_aload_n hx hb dX5_digest_141 rfl (lv_at hl 1 rfl) ?_
      refine lv_iload_n hx hb dX5_digest_142 rfl (lv_at hl 0 rfl) ?_
      refine lv_i2l hx hb dX5_digest_143 rfl ?_
      refine Ct.callV (ct_X5_mix l g o (uH (uA (uA S 5 F5) 7 (setI (S.1 7) n (fun k => nI (LY (S.1 0) n k)))) h2) ((nI (cnt (tellB (S.1 0) n (hasB (matI (mw (S.1 0))))) n)).toInt64) ) X hL hl vb_X5_mix q2282 (hW.2.1.recv hKV rfl) rfl rfl (Nat.le_of_ble_eq_true rfl) dX5_digest_144 ⟨Nat.le_of_ble_eq_true rfl, Nat.le_of_ble_eq_true rfl⟩ (by omega) (by omega) hW (fun r H1 locs hL hp => ?_)
      obtain ⟨rfl, hW, hO1⟩ := hp
      have hO := hO.trans hO1
      have hW := MW.cast (S1 := uH (uA (uA S 5 F5) 7 (setI (S.1 7) n (fun k => nI (LY (S.1 0) n k)))) (31 * h2 + ((nI (cnt (tellB (S.1 0) n (hasB (matI (mw (S.1 0))))) n)).toInt64))) hW ⟨rfl, rfl, rfl, rfl, rfl, rfl, rfl, rfl, rfl, rfl, rfl, rfl, rfl, rfl, rfl, rfl, rfl⟩
      refine lv_aload_n hx hb dX5_digest_147 rfl (lv_at hl 1 rfl) ?_
      refine lv_iload_n hx hb dX5_digest_148 rfl (lv_at hl 0 rfl) ?_
      refine lv_i2l hx hb dX5_digest_149 rfl ?_
      refine Ct.callV (ct_X5_mix l g o (uH (uA (uA S 5 F5) 7 (setI (S.1 7) n (fun k => nI (LY (S.1 0) n k)))) (31 * h2 + ((nI (cnt (tellB (S.1 0) n (hasB (matI (mw (S.1 0))))) n)).toInt64))) ((nI (cnt (tellB (S.1 0) n (hasB (matI (mw (S.1 0))))) n)).toInt64) ) X hL hl vb_X5_mix q2282 (hW.2.1.recv hKV rfl) rfl rfl (Nat.le_of_ble_eq_true rfl) dX5_digest_150 ⟨Nat.le_of_ble_eq_true rfl, Nat.le_of_ble_eq_true rfl⟩ (by omega) (by omega) hW (fun r H1 locs hL hp => ?_)
      obtain ⟨rfl, hW, hO1⟩ := hp
      have hO := hO.trans hO1
      have hW := MW.cast (S1 := uH (uA (uA S 5 F5) 7 (setI (S.1 7) n (fun k => nI (LY (S.1 0) n k)))) (31 * (31 * h2 + ((nI (cnt (tellB (S.1 0) n (hasB (matI (mw (S.1 0))))) n)).toInt64)) + ((nI (cnt (tellB (S.1 0) n (hasB (matI (mw (S.1 0))))) n)).toInt64))) hW ⟨rfl, rfl, rfl, rfl, rfl, rfl, rfl, rfl, rfl, rfl, rfl, rfl, rfl, rfl, rfl, rfl, rfl⟩
      refine lv_aload_n hx hb dX5_digest_153 rfl (lv_at hl 1 rfl) ?_
      refine lv_iload_n hx hb dX5_digest_154 rfl (lv_at hl 2 rfl) ?_
      refine lv_i2l hx hb dX5_digest_155 rfl ?_
      refine Ct.callV (ct_X5_mix l g o (uH (uA (uA S 5 F5) 7 (setI (S.1 7) n (fun k => nI (LY (S.1 0) n k)))) (31 * (31 * h2 + ((nI (cnt (tellB (S.1 0) n (hasB (matI (mw (S.1 0))))) n)).toInt64)) + ((nI (cnt (tellB (S.1 0) n (hasB (matI (mw (S.1 0))))) n)).toInt64))) ((nI (maxN (LY (S.1 0) n) n)).toInt64) ) X hL hl vb_X5_mix q2282 (hW.2.1.recv hKV rfl) rfl rfl (Nat.le_of_ble_eq_true rfl) dX5_digest_156 ⟨Nat.le_of_ble_eq_true rfl, Nat.le_of_ble_eq_true rfl⟩ (by omega) (by omega) hW (fun r H1 locs hL hp => ?_)
      obtain ⟨rfl, hW, hO1⟩ := hp
      have hO := hO.trans hO1
      have hW := MW.cast (S1 := uH (uA (uA S 5 F5) 7 (setI (S.1 7) n (fun k => nI (LY (S.1 0) n k)))) (31 * (31 * (31 * h2 + ((nI (cnt (tellB (S.1 0) n (hasB (matI (mw (S.1 0))))) n)).toInt64)) + ((nI (cnt (tellB (S.1 0) n (hasB (matI (mw (S.1 0))))) n)).toInt64)) + ((nI (maxN (LY (S.1 0) n) n)).toInt64))) hW ⟨rfl, rfl, rfl, rfl, rfl, rfl, rfl, rfl, rfl, rfl, rfl, rfl, rfl, rfl, rfl, rfl, rfl⟩
      obtain ⟨h5, hh5⟩ : ∃ h, h = mxs h2 (te3L (S.1 0) n) := ⟨_, rfl⟩
      have hW := MW.cast (S1 := uH (uA (uA S 5 F5) 7 (setI (S.1 7) n (fun k => nI (LY (S.1 0) n k)))) h5) hW ⟨rfl, rfl, rfl, rfl, rfl, rfl, rfl, rfl, rfl, rfl, rfl, rfl, rfl, rfl, rfl, rfl, Eq.trans (show 31 * (31 * (31 * h2 + ((nI (cnt (tellB (S.1 0) n (hasB (matI (mw (S.1 0))))) n)).toInt64)) + ((nI (cnt (tellB (S.1 0) n (hasB (matI (mw (S.1 0))))) n)).toInt64)) + ((nI (maxN (LY (S.1 0) n) n)).toInt64) = mxs h2 (te3L (S.1 0) n) from rfl) hh5.symm⟩
      refine lv_aload_n hx hb dX5_digest_159 rfl (lv_at hl 1 rfl) ?_
      refine Ct.callV (ct_X5_mixSome l g o n (uH (uA (uA S 5 F5) 7 (setI (S.1 7) n (fun k => nI (LY (S.1 0) n k)))) h5) hN hn) X hL hl vb_X5_mixSome q2291 (hW.2.1.recv hKV rfl) rfl rfl (Nat.le_of_ble_eq_true rfl) dX5_digest_160 ⟨Nat.le_of_ble_eq_true rfl, Nat.le_of_ble_eq_true rfl⟩ (by omega) (by omega) hW (fun r H1 locs hL hp => ?_)
      obtain ⟨F5_160, F6_160, F8_160, tm_160, hv_160, hh_160, rfl, hW, hO1⟩ := hp
      have hO := hO.trans hO1
      have hh_160 : hv_160 = mxs h5 (someL (S.1 0) n) := hh_160
      have hW := MW.cast (S1 := uH (uS (uS (uA (uA (uA (uA S 5 F5_160) 6 F6_160) 7 (setI (S.1 7) n (fun k => nI (LY (S.1 0) n k)))) 8 F8_160) 9 tm_160) 15 (nI 0)) hv_160) hW ⟨rfl, rfl, rfl, rfl, rfl, rfl, rfl, rfl, rfl, rfl, rfl, rfl, rfl, rfl, rfl, rfl, rfl⟩
      refine lv_aload_n hx hb dX5_digest_163 rfl (lv_at hl 1 rfl) ?_
      refine lv_aload_n hx hb dX5_digest_164 rfl (lv_at hl 1 rfl) ?_
      refine mg_7 X rfl hW dX5_digest_165 ?_
      refine lv_sipush (v := nI 177) hx hb dX5_digest_168 (by decide) ?_
      refine m_ld (v := ((S.1 0) 177)) X hW 0 (by decide) rfl 177 rfl (by decide) rfl dX5_digest_171 ?_
      refine lv_i2l hx hb dX5_digest_172 rfl ?_
      refine Ct.callV (ct_X5_mix l g o (uH (uS (uS (uA (uA (uA (uA S 5 F5_160) 6 F6_160) 7 (setI (S.1 7) n (fun k => nI (LY (S.1 0) n k)))) 8 F8_160) 9 tm_160) 15 (nI 0)) hv_160) (((S.1 0) 177).toInt64) ) X hL hl vb_X5_mix q2282 (hW.2.1.recv hKV rfl) rfl rfl (Nat.le_of_ble_eq_true rfl) dX5_digest_173 ⟨Nat.le_of_ble_eq_true rfl, Nat.le_of_ble_eq_true rfl⟩ (by omega) (by omega) hW (fun r H1 locs hL hp => ?_)
      obtain ⟨rfl, hW, hO1⟩ := hp
      have hO := hO.trans hO1
      have hW := MW.cast (S1 := uH (uS (uS (uA (uA (uA (uA S 5 F5_160) 6 F6_160) 7 (setI (S.1 7) n (fun k => nI (LY (S.1 0) n k)))) 8 F8_160) 9 tm_160) 15 (nI 0)) (31 * hv_160 + (((S.1 0) 177).toInt64))) hW ⟨rfl, rfl, rfl, rfl, rfl, rfl, rfl, rfl, rfl, rfl, rfl, rfl, rfl, rfl, rfl, rfl, rfl⟩
      refine lv_aload_n hx hb dX5_digest_176 rfl (lv_at hl 1 rfl) ?_
      refine lv_aload_n hx hb dX5_digest_177 rfl (lv_at hl 1 rfl) ?_
      refine mg_7 X rfl hW dX5_digest_178 ?_
      refine lv_sipush (v := nI 178) hx hb dX5_digest_181 (by decide) ?_
      refine m_ld (v := ((S.1 0) 178)) X hW 0 (by decide) rfl 178 rfl (by decide) rfl dX5_digest_184 ?_
      refine lv_i2l hx hb dX5_digest_185 rfl ?_
      refine Ct.callV (ct_X5_mix l g o (uH (uS (uS (uA (uA (uA (uA S 5 F5_160) 6 F6_160) 7 (setI (S.1 7) n (fun k => nI (LY (S.1 0) n k)))) 8 F8_160) 9 tm_160) 15 (nI 0)) (31 * hv_160 + (((S.1 0) 177).toInt64))) (((S.1 0) 178).toInt64) ) X hL hl vb_X5_mix q2282 (hW.2.1.recv hKV rfl) rfl rfl (Nat.le_of_ble_eq_true rfl) dX5_digest_186 ⟨Nat.le_of_ble_eq_true rfl, Nat.le_of_ble_eq_true rfl⟩ (by omega) (by omega) hW (fun r H1 locs hL hp => ?_)
      obtain ⟨rfl, hW, hO1⟩ := hp
      have hO := hO.trans hO1
      have hW := MW.cast (S1 := uH (uS (uS (uA (uA (uA (uA S 5 F5_160) 6 F6_160) 7 (setI (S.1 7) n (fun k => nI (LY (S.1 0) n k)))) 8 F8_160) 9 tm_160) 15 (nI 0)) (31 * (31 * hv_160 + (((S.1 0) 177).toInt64)) + (((S.1 0) 178).toInt64))) hW ⟨rfl, rfl, rfl, rfl, rfl, rfl, rfl, rfl, rfl, rfl, rfl, rfl, rfl, rfl, rfl, rfl, rfl⟩
      refine lv_aload_n hx hb dX5_digest_189 rfl (lv_at hl 1 rfl) ?_
      refine lv_aload_n hx hb dX5_digest_190 rfl (lv_at hl 1 rfl) ?_
      refine Cp.callV (v := .int (nI (sumN (beaN (S.1 0) n) n))) (ct_X5_allBeatings l g o n (uH (uS (uS (uA (uA (uA (uA S 5 F5_160) 6 F6_160) 7 (setI (S.1 7) n (fun k => nI (LY (S.1 0) n k)))) 8 F8_160) 9 tm_160) 15 (nI 0)) (31 * (31 * hv_160 + (((S.1 0) 177).toInt64)) + (((S.1 0) 178).toInt64))) hN hn) X hL hl vb_X5_allBeatings q2269 (hW.2.1.recv hKV rfl) rfl rfl (Nat.le_of_ble_eq_true rfl) dX5_digest_191 ⟨Nat.le_of_ble_eq_true rfl, Nat.le_of_ble_eq_true rfl⟩ (by omega) (by omega) hW (fun locs hL => ?_)
      refine lv_i2l hx hb dX5_digest_194 rfl ?_
      refine Ct.callV (ct_X5_mix l g o (uH (uS (uS (uA (uA (uA (uA S 5 F5_160) 6 F6_160) 7 (setI (S.1 7) n (fun k => nI (LY (S.1 0) n k)))) 8 F8_160) 9 tm_160) 15 (nI 0)) (31 * (31 * hv_160 + (((S.1 0) 177).toInt64)) + (((S.1 0) 178).toInt64))) ((nI (sumN (beaN (S.1 0) n) n)).toInt64) ) X hL hl vb_X5_mix q2282 (hW.2.1.recv hKV rfl) rfl rfl (Nat.le_of_ble_eq_true rfl) dX5_digest_195 ⟨Nat.le_of_ble_eq_true rfl, Nat.le_of_ble_eq_true rfl⟩ (by omega) (by omega) hW (fun r H1 locs hL hp => ?_)
      obtain ⟨rfl, hW, hO1⟩ := hp
      have hO := hO.trans hO1
      have hW := MW.cast (S1 := uH (uS (uS (uA (uA (uA (uA S 5 F5_160) 6 F6_160) 7 (setI (S.1 7) n (fun k => nI (LY (S.1 0) n k)))) 8 F8_160) 9 tm_160) 15 (nI 0)) (31 * (31 * (31 * hv_160 + (((S.1 0) 177).toInt64)) + (((S.1 0) 178).toInt64)) + ((nI (sumN (beaN (S.1 0) n) n)).toInt64))) hW ⟨rfl, rfl, rfl, rfl, rfl, rfl, rfl, rfl, rfl, rfl, rfl, rfl, rfl, rfl, rfl, rfl, rfl⟩
      refine lv_aload_n hx hb dX5_digest_198 rfl (lv_at hl 1 rfl) ?_
      refine lv_aload_n hx hb dX5_digest_199 rfl (lv_at hl 1 rfl) ?_
      refine mg_46 X rfl hW dX5_digest_200 (W.stk (w := (nI st)) hst ?_)
      refine lv_i2l hx hb dX5_digest_203 rfl ?_
      refine Ct.callV (ct_X5_mix l g o (uH (uS (uS (uA (uA (uA (uA S 5 F5_160) 6 F6_160) 7 (setI (S.1 7) n (fun k => nI (LY (S.1 0) n k)))) 8 F8_160) 9 tm_160) 15 (nI 0)) (31 * (31 * (31 * hv_160 + (((S.1 0) 177).toInt64)) + (((S.1 0) 178).toInt64)) + ((nI (sumN (beaN (S.1 0) n) n)).toInt64))) ((nI st).toInt64) ) X hL hl vb_X5_mix q2282 (hW.2.1.recv hKV rfl) rfl rfl (Nat.le_of_ble_eq_true rfl) dX5_digest_204 ⟨Nat.le_of_ble_eq_true rfl, Nat.le_of_ble_eq_true rfl⟩ (by omega) (by omega) hW (fun r H1 locs hL hp => ?_)
      obtain ⟨rfl, hW, hO1⟩ := hp
      have hO := hO.trans hO1
      have hW := MW.cast (S1 := uH (uS (uS (uA (uA (uA (uA S 5 F5_160) 6 F6_160) 7 (setI (S.1 7) n (fun k => nI (LY (S.1 0) n k)))) 8 F8_160) 9 tm_160) 15 (nI 0)) (31 * (31 * (31 * (31 * hv_160 + (((S.1 0) 177).toInt64)) + (((S.1 0) 178).toInt64)) + ((nI (sumN (beaN (S.1 0) n) n)).toInt64)) + ((nI st).toInt64))) hW ⟨rfl, rfl, rfl, rfl, rfl, rfl, rfl, rfl, rfl, rfl, rfl, rfl, rfl, rfl, rfl, rfl, rfl⟩
      refine lv_aload_n hx hb dX5_digest_207 rfl (lv_at hl 1 rfl) ?_
      refine lv_aload_n hx hb dX5_digest_208 rfl (lv_at hl 1 rfl) ?_
      refine Ct.callV (ct_X5_toldSharev l g o n (uH (uS (uS (uA (uA (uA (uA S 5 F5_160) 6 F6_160) 7 (setI (S.1 7) n (fun k => nI (LY (S.1 0) n k)))) 8 F8_160) 9 tm_160) 15 (nI 0)) (31 * (31 * (31 * (31 * hv_160 + (((S.1 0) 177).toInt64)) + (((S.1 0) 178).toInt64)) + ((nI (sumN (beaN (S.1 0) n) n)).toInt64)) + ((nI st).toInt64))) hN hn) X hL hl vb_X5_toldShare q2297 (hW.2.1.recv hKV rfl) rfl rfl (Nat.le_of_ble_eq_true rfl) dX5_digest_209 ⟨Nat.le_of_ble_eq_true rfl, Nat.le_of_ble_eq_true rfl⟩ (by omega) (by omega) hW (fun r H1 locs hL hp => ?_)
      obtain ⟨F_209, rfl, hW, hO1⟩ := hp
      have hO := hO.trans hO1
      have hW := MW.cast (S1 := uH (uS (uS (uA (uA (uA (uA S 5 F_209) 6 F6_160) 7 (setI (S.1 7) n (fun k => nI (LY (S.1 0) n k)))) 8 F8_160) 9 tm_160) 15 (nI 0)) (31 * (31 * (31 * (31 * hv_160 + (((S.1 0) 177).toInt64)) + (((S.1 0) 178).toInt64)) + ((nI (sumN (beaN (S.1 0) n) n)).toInt64)) + ((nI st).toInt64))) hW ⟨rfl, rfl, rfl, rfl, rfl, rfl, rfl, rfl, rfl, rfl, rfl, rfl, rfl, rfl, rfl, rfl, rfl⟩
      refine Cp.callS (v := .long (dlB (shF (cnt (tellB (S.1 0) n (hasB (matI (mw (S.1 0))))) n) (cnt (cB (S.1 0)) n)))) (ct_J23_doubleToLongBits l g (shF (cnt (tellB (S.1 0) n (hasB (matI (mw (S.1 0))))) n) (cnt (cB (S.1 0)) n)) ) X hL hl sb_J23_doubleToLongBits q2298 rfl rfl (Nat.le_of_ble_eq_true rfl) dX5_digest_212 ⟨Nat.le_of_ble_eq_true rfl, Nat.le_of_ble_eq_true rfl⟩ (by omega) (by omega) trivial (fun locs hL => ?_)
      refine Ct.callV (ct_X5_mix l g o (uH (uS (uS (uA (uA (uA (uA S 5 F_209) 6 F6_160) 7 (setI (S.1 7) n (fun k => nI (LY (S.1 0) n k)))) 8 F8_160) 9 tm_160) 15 (nI 0)) (31 * (31 * (31 * (31 * hv_160 + (((S.1 0) 177).toInt64)) + (((S.1 0) 178).toInt64)) + ((nI (sumN (beaN (S.1 0) n) n)).toInt64)) + ((nI st).toInt64))) (dlB (shF (cnt (tellB (S.1 0) n (hasB (matI (mw (S.1 0))))) n) (cnt (cB (S.1 0)) n))) ) X hL hl vb_X5_mix q2282 (hW.2.1.recv hKV rfl) rfl rfl (Nat.le_of_ble_eq_true rfl) dX5_digest_215 ⟨Nat.le_of_ble_eq_true rfl, Nat.le_of_ble_eq_true rfl⟩ (by omega) (by omega) hW (fun r H1 locs hL hp => ?_)
      obtain ⟨rfl, hW, hO1⟩ := hp
      have hO := hO.trans hO1
      have hW := MW.cast (S1 := uH (uS (uS (uA (uA (uA (uA S 5 F_209) 6 F6_160) 7 (setI (S.1 7) n (fun k => nI (LY (S.1 0) n k)))) 8 F8_160) 9 tm_160) 15 (nI 0)) (31 * (31 * (31 * (31 * (31 * hv_160 + (((S.1 0) 177).toInt64)) + (((S.1 0) 178).toInt64)) + ((nI (sumN (beaN (S.1 0) n) n)).toInt64)) + ((nI st).toInt64)) + (dlB (shF (cnt (tellB (S.1 0) n (hasB (matI (mw (S.1 0))))) n) (cnt (cB (S.1 0)) n))))) hW ⟨rfl, rfl, rfl, rfl, rfl, rfl, rfl, rfl, rfl, rfl, rfl, rfl, rfl, rfl, rfl, rfl, rfl⟩
      refine lv_aload_n hx hb dX5_digest_218 rfl (lv_at hl 1 rfl) ?_
      refine lv_aload_n hx hb dX5_digest_219 rfl (lv_at hl 1 rfl) ?_
      refine mg_155 X rfl hW dX5_digest_220 (W.stk (w := (bI hf)) hF ?_)
      refine b_ifeq (tgt := 230) X dX5_digest_223 (by decide) (fun c_223 => ?_) (fun c_223 => ?_)
      ·
        refine lv_lconst (v := 0) hx hb dX5_digest_230 (by decide) ?_
        refine W.stkL (w :=  (bL hf)) (by rw [c_223]; rfl) ?_
        refine Ct.callV (ct_X5_mix l g o (uH (uS (uS (uA (uA (uA (uA S 5 F_209) 6 F6_160) 7 (setI (S.1 7) n (fun k => nI (LY (S.1 0) n k)))) 8 F8_160) 9 tm_160) 15 (nI 0)) (31 * (31 * (31 * (31 * (31 * hv_160 + (((S.1 0) 177).toInt64)) + (((S.1 0) 178).toInt64)) + ((nI (sumN (beaN (S.1 0) n) n)).toInt64)) + ((nI st).toInt64)) + (dlB (shF (cnt (tellB (S.1 0) n (hasB (matI (mw (S.1 0))))) n) (cnt (cB (S.1 0)) n))))) (bL hf) ) X hL hl vb_X5_mix q2282 (hW.2.1.recv hKV rfl) rfl rfl (Nat.le_of_ble_eq_true rfl) dX5_digest_231 ⟨Nat.le_of_ble_eq_true rfl, Nat.le_of_ble_eq_true rfl⟩ (by omega) (by omega) hW (fun r H1 locs hL hp => ?_)
        obtain ⟨rfl, hW, hO1⟩ := hp
        have hO := hO.trans hO1
        have hW := MW.cast (S1 := uH (uS (uS (uA (uA (uA (uA S 5 F_209) 6 F6_160) 7 (setI (S.1 7) n (fun k => nI (LY (S.1 0) n k)))) 8 F8_160) 9 tm_160) 15 (nI 0)) (31 * (31 * (31 * (31 * (31 * (31 * hv_160 + (((S.1 0) 177).toInt64)) + (((S.1 0) 178).toInt64)) + ((nI (sumN (beaN (S.1 0) n) n)).toInt64)) + ((nI st).toInt64)) + (dlB (shF (cnt (tellB (S.1 0) n (hasB (matI (mw (S.1 0))))) n) (cnt (cB (S.1 0)) n)))) + (bL hf))) hW ⟨rfl, rfl, rfl, rfl, rfl, rfl, rfl, rfl, rfl, rfl, rfl, rfl, rfl, rfl, rfl, rfl, rfl⟩
        refine lv_aload_n hx hb dX5_digest_234 rfl (lv_at hl 1 rfl) ?_
        refine lv_aload_n hx hb dX5_digest_235 rfl (lv_at hl 1 rfl) ?_
        refine mg_159 X rfl hW dX5_digest_236 (W.stk (w := (bI hs)) hG ?_)
        refine b_ifeq (tgt := 246) X dX5_digest_239 (by decide) (fun c_239 => ?_) (fun c_239 => ?_)
        ·
          refine lv_lconst (v := 0) hx hb dX5_digest_246 (by decide) ?_
          refine W.stkL (w :=  (bL hs)) (by rw [c_239]; rfl) ?_
          refine Ct.callV (ct_X5_mix l g o (uH (uS (uS (uA (uA (uA (uA S 5 F_209) 6 F6_160) 7 (setI (S.1 7) n (fun k => nI (LY (S.1 0) n k)))) 8 F8_160) 9 tm_160) 15 (nI 0)) (31 * (31 * (31 * (31 * (31 * (31 * hv_160 + (((S.1 0) 177).toInt64)) + (((S.1 0) 178).toInt64)) + ((nI (sumN (beaN (S.1 0) n) n)).toInt64)) + ((nI st).toInt64)) + (dlB (shF (cnt (tellB (S.1 0) n (hasB (matI (mw (S.1 0))))) n) (cnt (cB (S.1 0)) n)))) + (bL hf))) (bL hs) ) X hL hl vb_X5_mix q2282 (hW.2.1.recv hKV rfl) rfl rfl (Nat.le_of_ble_eq_true rfl) dX5_digest_247 ⟨Nat.le_of_ble_eq_true rfl, Nat.le_of_ble_eq_true rfl⟩ (by omega) (by omega) hW (fun r H1 locs hL hp => ?_)
          obtain ⟨rfl, hW, hO1⟩ := hp
          have hO := hO.trans hO1
          have hW := MW.cast (S1 := uH (uS (uS (uA (uA (uA (uA S 5 F_209) 6 F6_160) 7 (setI (S.1 7) n (fun k => nI (LY (S.1 0) n k)))) 8 F8_160) 9 tm_160) 15 (nI 0)) (31 * (31 * (31 * (31 * (31 * (31 * (31 * hv_160 + (((S.1 0) 177).toInt64)) + (((S.1 0) 178).toInt64)) + ((nI (sumN (beaN (S.1 0) n) n)).toInt64)) + ((nI st).toInt64)) + (dlB (shF (cnt (tellB (S.1 0) n (hasB (matI (mw (S.1 0))))) n) (cnt (cB (S.1 0)) n)))) + (bL hf)) + (bL hs))) hW ⟨rfl, rfl, rfl, rfl, rfl, rfl, rfl, rfl, rfl, rfl, rfl, rfl, rfl, rfl, rfl, rfl, rfl⟩
          refine lv_aload_n hx hb dX5_digest_250 rfl (lv_at hl 1 rfl) ?_
          refine lv_aload_n hx hb dX5_digest_251 rfl (lv_at hl 1 rfl) ?_
          refine mg_118 X rfl hW dX5_digest_252 (W.stk (w := (nI ln)) hln ?_)
          refine lv_i2l hx hb dX5_digest_255 rfl ?_
          refine Ct.callV (ct_X5_mix l g o (uH (uS (uS (uA (uA (uA (uA S 5 F_209) 6 F6_160) 7 (setI (S.1 7) n (fun k => nI (LY (S.1 0) n k)))) 8 F8_160) 9 tm_160) 15 (nI 0)) (31 * (31 * (31 * (31 * (31 * (31 * (31 * hv_160 + (((S.1 0) 177).toInt64)) + (((S.1 0) 178).toInt64)) + ((nI (sumN (beaN (S.1 0) n) n)).toInt64)) + ((nI st).toInt64)) + (dlB (shF (cnt (tellB (S.1 0) n (hasB (matI (mw (S.1 0))))) n) (cnt (cB (S.1 0)) n)))) + (bL hf)) + (bL hs))) ((nI ln).toInt64) ) X hL hl vb_X5_mix q2282 (hW.2.1.recv hKV rfl) rfl rfl (Nat.le_of_ble_eq_true rfl) dX5_digest_256 ⟨Nat.le_of_ble_eq_true rfl, Nat.le_of_ble_eq_true rfl⟩ (by omega) (by omega) hW (fun r H1 locs hL hp => ?_)
          obtain ⟨rfl, hW, hO1⟩ := hp
          have hO := hO.trans hO1
          have hW := MW.cast (S1 := uH (uS (uS (uA (uA (uA (uA S 5 F_209) 6 F6_160) 7 (setI (S.1 7) n (fun k => nI (LY (S.1 0) n k)))) 8 F8_160) 9 tm_160) 15 (nI 0)) (31 * (31 * (31 * (31 * (31 * (31 * (31 * (31 * hv_160 + (((S.1 0) 177).toInt64)) + (((S.1 0) 178).toInt64)) + ((nI (sumN (beaN (S.1 0) n) n)).toInt64)) + ((nI st).toInt64)) + (dlB (shF (cnt (tellB (S.1 0) n (hasB (matI (mw (S.1 0))))) n) (cnt (cB (S.1 0)) n)))) + (bL hf)) + (bL hs)) + ((nI ln).toInt64))) hW ⟨rfl, rfl, rfl, rfl, rfl, rfl, rfl, rfl, rfl, rfl, rfl, rfl, rfl, rfl, rfl, rfl, rfl⟩
          exact C259 _ _ _ _ (31 * (31 * (31 * (31 * (31 * (31 * (31 * (31 * hv_160 + (((S.1 0) 177).toInt64)) + (((S.1 0) 178).toInt64)) + ((nI (sumN (beaN (S.1 0) n) n)).toInt64)) + ((nI st).toInt64)) + (dlB (shF (cnt (tellB (S.1 0) n (hasB (matI (mw (S.1 0))))) n) (cnt (cB (S.1 0)) n)))) + (bL hf)) + (bL hs)) + ((nI ln).toInt64)) (by rw [mxs_app, mxs_app, ← hh5, ← hh_160]; rfl) _ hW hO _ hL ls (lv_sub hl [1] rfl)
        ·
          refine lv_lconst (v := 1) hx hb dX5_digest_242 (by decide) ?_
          refine W.stkL (w :=  (bL hs)) (by rw [c_239]; rfl) ?_
          refine lv_goto (tgt := 247) hx hb dX5_digest_243 (by decide) ?_
          refine Ct.callV (ct_X5_mix l g o (uH (uS (uS (uA (uA (uA (uA S 5 F_209) 6 F6_160) 7 (setI (S.1 7) n (fun k => nI (LY (S.1 0) n k)))) 8 F8_160) 9 tm_160) 15 (nI 0)) (31 * (31 * (31 * (31 * (31 * (31 * hv_160 + (((S.1 0) 177).toInt64)) + (((S.1 0) 178).toInt64)) + ((nI (sumN (beaN (S.1 0) n) n)).toInt64)) + ((nI st).toInt64)) + (dlB (shF (cnt (tellB (S.1 0) n (hasB (matI (mw (S.1 0))))) n) (cnt (cB (S.1 0)) n)))) + (bL hf))) (bL hs) ) X hL hl vb_X5_mix q2282 (hW.2.1.recv hKV rfl) rfl rfl (Nat.le_of_ble_eq_true rfl) dX5_digest_247 ⟨Nat.le_of_ble_eq_true rfl, Nat.le_of_ble_eq_true rfl⟩ (by omega) (by omega) hW (fun r H1 locs hL hp => ?_)
          obtain ⟨rfl, hW, hO1⟩ := hp
          have hO := hO.trans hO1
          have hW := MW.cast (S1 := uH (uS (uS (uA (uA (uA (uA S 5 F_209) 6 F6_160) 7 (setI (S.1 7) n (fun k => nI (LY (S.1 0) n k)))) 8 F8_160) 9 tm_160) 15 (nI 0)) (31 * (31 * (31 * (31 * (31 * (31 * (31 * hv_160 + (((S.1 0) 177).toInt64)) + (((S.1 0) 178).toInt64)) + ((nI (sumN (beaN (S.1 0) n) n)).toInt64)) + ((nI st).toInt64)) + (dlB (shF (cnt (tellB (S.1 0) n (hasB (matI (mw (S.1 0))))) n) (cnt (cB (S.1 0)) n)))) + (bL hf)) + (bL hs))) hW ⟨rfl, rfl, rfl, rfl, rfl, rfl, rfl, rfl, rfl, rfl, rfl, rfl, rfl, rfl, rfl, rfl, rfl⟩
          refine lv_aload_n hx hb dX5_digest_250 rfl (lv_at hl 1 rfl) ?_
          refine lv_aload_n hx hb dX5_digest_251 rfl (lv_at hl 1 rfl) ?_
          refine mg_118 X rfl hW dX5_digest_252 (W.stk (w := (nI ln)) hln ?_)
          refine lv_i2l hx hb dX5_digest_255 rfl ?_
          refine Ct.callV (ct_X5_mix l g o (uH (uS (uS (uA (uA (uA (uA S 5 F_209) 6 F6_160) 7 (setI (S.1 7) n (fun k => nI (LY (S.1 0) n k)))) 8 F8_160) 9 tm_160) 15 (nI 0)) (31 * (31 * (31 * (31 * (31 * (31 * (31 * hv_160 + (((S.1 0) 177).toInt64)) + (((S.1 0) 178).toInt64)) + ((nI (sumN (beaN (S.1 0) n) n)).toInt64)) + ((nI st).toInt64)) + (dlB (shF (cnt (tellB (S.1 0) n (hasB (matI (mw (S.1 0))))) n) (cnt (cB (S.1 0)) n)))) + (bL hf)) + (bL hs))) ((nI ln).toInt64) ) X hL hl vb_X5_mix q2282 (hW.2.1.recv hKV rfl) rfl rfl (Nat.le_of_ble_eq_true rfl) dX5_digest_256 ⟨Nat.le_of_ble_eq_true rfl, Nat.le_of_ble_eq_true rfl⟩ (by omega) (by omega) hW (fun r H1 locs hL hp => ?_)
          obtain ⟨rfl, hW, hO1⟩ := hp
          have hO := hO.trans hO1
          have hW := MW.cast (S1 := uH (uS (uS (uA (uA (uA (uA S 5 F_209) 6 F6_160) 7 (setI (S.1 7) n (fun k => nI (LY (S.1 0) n k)))) 8 F8_160) 9 tm_160) 15 (nI 0)) (31 * (31 * (31 * (31 * (31 * (31 * (31 * (31 * hv_160 + (((S.1 0) 177).toInt64)) + (((S.1 0) 178).toInt64)) + ((nI (sumN (beaN (S.1 0) n) n)).toInt64)) + ((nI st).toInt64)) + (dlB (shF (cnt (tellB (S.1 0) n (hasB (matI (mw (S.1 0))))) n) (cnt (cB (S.1 0)) n)))) + (bL hf)) + (bL hs)) + ((nI ln).toInt64))) hW ⟨rfl, rfl, rfl, rfl, rfl, rfl, rfl, rfl, rfl, rfl, rfl, rfl, rfl, rfl, rfl, rfl, rfl⟩
          exact C259 _ _ _ _ (31 * (31 * (31 * (31 * (31 * (31 * (31 * (31 * hv_160 + (((S.1 0) 177).toInt64)) + (((S.1 0) 178).toInt64)) + ((nI (sumN (beaN (S.1 0) n) n)).toInt64)) + ((nI st).toInt64)) + (dlB (shF (cnt (tellB (S.1 0) n (hasB (matI (mw (S.1 0))))) n) (cnt (cB (S.1 0)) n)))) + (bL hf)) + (bL hs)) + ((nI ln).toInt64)) (by rw [mxs_app, mxs_app, ← hh5, ← hh_160]; rfl) _ hW hO _ hL ls (lv_sub hl [1] rfl)
      ·
        refine lv_lconst (v := 1) hx hb dX5_digest_226 (by decide) ?_
        refine W.stkL (w :=  (bL hf)) (by rw [c_223]; rfl) ?_
        refine lv_goto (tgt := 231) hx hb dX5_digest_227 (by decide) ?_
        refine Ct.callV (ct_X5_mix l g o (uH (uS (uS (uA (uA (uA (uA S 5 F_209) 6 F6_160) 7 (setI (S.1 7) n (fun k => nI (LY (S.1 0) n k)))) 8 F8_160) 9 tm_160) 15 (nI 0)) (31 * (31 * (31 * (31 * (31 * hv_160 + (((S.1 0) 177).toInt64)) + (((S.1 0) 178).toInt64)) + ((nI (sumN (beaN (S.1 0) n) n)).toInt64)) + ((nI st).toInt64)) + (dlB (shF (cnt (tellB (S.1 0) n (hasB (matI (mw (S.1 0))))) n) (cnt (cB (S.1 0)) n))))) (bL hf) ) X hL hl vb_X5_mix q2282 (hW.2.1.recv hKV rfl) rfl rfl (Nat.le_of_ble_eq_true rfl) dX5_digest_231 ⟨Nat.le_of_ble_eq_true rfl, Nat.le_of_ble_eq_true rfl⟩ (by omega) (by omega) hW (fun r H1 locs hL hp => ?_)
        obtain ⟨rfl, hW, hO1⟩ := hp
        have hO := hO.trans hO1
        have hW := MW.cast (S1 := uH (uS (uS (uA (uA (uA (uA S 5 F_209) 6 F6_160) 7 (setI (S.1 7) n (fun k => nI (LY (S.1 0) n k)))) 8 F8_160) 9 tm_160) 15 (nI 0)) (31 * (31 * (31 * (31 * (31 * (31 * hv_160 + (((S.1 0) 177).toInt64)) + (((S.1 0) 178).toInt64)) + ((nI (sumN (beaN (S.1 0) n) n)).toInt64)) + ((nI st).toInt64)) + (dlB (shF (cnt (tellB (S.1 0) n (hasB (matI (mw (S.1 0))))) n) (cnt (cB (S.1 0)) n)))) + (bL hf))) hW ⟨rfl, rfl, rfl, rfl, rfl, rfl, rfl, rfl, rfl, rfl, rfl, rfl, rfl, rfl, rfl, rfl, rfl⟩
        refine lv_aload_n hx hb dX5_digest_234 rfl (lv_at hl 1 rfl) ?_
        refine lv_aload_n hx hb dX5_digest_235 rfl (lv_at hl 1 rfl) ?_
        refine mg_159 X rfl hW dX5_digest_236 (W.stk (w := (bI hs)) hG ?_)
        refine b_ifeq (tgt := 246) X dX5_digest_239 (by decide) (fun c_239 => ?_) (fun c_239 => ?_)
        ·
          refine lv_lconst (v := 0) hx hb dX5_digest_246 (by decide) ?_
          refine W.stkL (w :=  (bL hs)) (by rw [c_239]; rfl) ?_
          refine Ct.callV (ct_X5_mix l g o (uH (uS (uS (uA (uA (uA (uA S 5 F_209) 6 F6_160) 7 (setI (S.1 7) n (fun k => nI (LY (S.1 0) n k)))) 8 F8_160) 9 tm_160) 15 (nI 0)) (31 * (31 * (31 * (31 * (31 * (31 * hv_160 + (((S.1 0) 177).toInt64)) + (((S.1 0) 178).toInt64)) + ((nI (sumN (beaN (S.1 0) n) n)).toInt64)) + ((nI st).toInt64)) + (dlB (shF (cnt (tellB (S.1 0) n (hasB (matI (mw (S.1 0))))) n) (cnt (cB (S.1 0)) n)))) + (bL hf))) (bL hs) ) X hL hl vb_X5_mix q2282 (hW.2.1.recv hKV rfl) rfl rfl (Nat.le_of_ble_eq_true rfl) dX5_digest_247 ⟨Nat.le_of_ble_eq_true rfl, Nat.le_of_ble_eq_true rfl⟩ (by omega) (by omega) hW (fun r H1 locs hL hp => ?_)
          obtain ⟨rfl, hW, hO1⟩ := hp
          have hO := hO.trans hO1
          have hW := MW.cast (S1 := uH (uS (uS (uA (uA (uA (uA S 5 F_209) 6 F6_160) 7 (setI (S.1 7) n (fun k => nI (LY (S.1 0) n k)))) 8 F8_160) 9 tm_160) 15 (nI 0)) (31 * (31 * (31 * (31 * (31 * (31 * (31 * hv_160 + (((S.1 0) 177).toInt64)) + (((S.1 0) 178).toInt64)) + ((nI (sumN (beaN (S.1 0) n) n)).toInt64)) + ((nI st).toInt64)) + (dlB (shF (cnt (tellB (S.1 0) n (hasB (matI (mw (S.1 0))))) n) (cnt (cB (S.1 0)) n)))) + (bL hf)) + (bL hs))) hW ⟨rfl, rfl, rfl, rfl, rfl, rfl, rfl, rfl, rfl, rfl, rfl, rfl, rfl, rfl, rfl, rfl, rfl⟩
          refine lv_aload_n hx hb dX5_digest_250 rfl (lv_at hl 1 rfl) ?_
          refine lv_aload_n hx hb dX5_digest_251 rfl (lv_at hl 1 rfl) ?_
          refine mg_118 X rfl hW dX5_digest_252 (W.stk (w := (nI ln)) hln ?_)
          refine lv_i2l hx hb dX5_digest_255 rfl ?_
          refine Ct.callV (ct_X5_mix l g o (uH (uS (uS (uA (uA (uA (uA S 5 F_209) 6 F6_160) 7 (setI (S.1 7) n (fun k => nI (LY (S.1 0) n k)))) 8 F8_160) 9 tm_160) 15 (nI 0)) (31 * (31 * (31 * (31 * (31 * (31 * (31 * hv_160 + (((S.1 0) 177).toInt64)) + (((S.1 0) 178).toInt64)) + ((nI (sumN (beaN (S.1 0) n) n)).toInt64)) + ((nI st).toInt64)) + (dlB (shF (cnt (tellB (S.1 0) n (hasB (matI (mw (S.1 0))))) n) (cnt (cB (S.1 0)) n)))) + (bL hf)) + (bL hs))) ((nI ln).toInt64) ) X hL hl vb_X5_mix q2282 (hW.2.1.recv hKV rfl) rfl rfl (Nat.le_of_ble_eq_true rfl) dX5_digest_256 ⟨Nat.le_of_ble_eq_true rfl, Nat.le_of_ble_eq_true rfl⟩ (by omega) (by omega) hW (fun r H1 locs hL hp => ?_)
          obtain ⟨rfl, hW, hO1⟩ := hp
          have hO := hO.trans hO1
          have hW := MW.cast (S1 := uH (uS (uS (uA (uA (uA (uA S 5 F_209) 6 F6_160) 7 (setI (S.1 7) n (fun k => nI (LY (S.1 0) n k)))) 8 F8_160) 9 tm_160) 15 (nI 0)) (31 * (31 * (31 * (31 * (31 * (31 * (31 * (31 * hv_160 + (((S.1 0) 177).toInt64)) + (((S.1 0) 178).toInt64)) + ((nI (sumN (beaN (S.1 0) n) n)).toInt64)) + ((nI st).toInt64)) + (dlB (shF (cnt (tellB (S.1 0) n (hasB (matI (mw (S.1 0))))) n) (cnt (cB (S.1 0)) n)))) + (bL hf)) + (bL hs)) + ((nI ln).toInt64))) hW ⟨rfl, rfl, rfl, rfl, rfl, rfl, rfl, rfl, rfl, rfl, rfl, rfl, rfl, rfl, rfl, rfl, rfl⟩
          exact C259 _ _ _ _ (31 * (31 * (31 * (31 * (31 * (31 * (31 * (31 * hv_160 + (((S.1 0) 177).toInt64)) + (((S.1 0) 178).toInt64)) + ((nI (sumN (beaN (S.1 0) n) n)).toInt64)) + ((nI st).toInt64)) + (dlB (shF (cnt (tellB (S.1 0) n (hasB (matI (mw (S.1 0))))) n) (cnt (cB (S.1 0)) n)))) + (bL hf)) + (bL hs)) + ((nI ln).toInt64)) (by rw [mxs_app, mxs_app, ← hh5, ← hh_160]; rfl) _ hW hO _ hL ls (lv_sub hl [1] rfl)
        ·
          refine lv_lconst (v := 1) hx hb dX5_digest_242 (by decide) ?_
          refine W.stkL (w :=  (bL hs)) (by rw [c_239]; rfl) ?_
          refine lv_goto (tgt := 247) hx hb dX5_digest_243 (by decide) ?_
          refine Ct.callV (ct_X5_mix l g o (uH (uS (uS (uA (uA (uA (uA S 5 F_209) 6 F6_160) 7 (setI (S.1 7) n (fun k => nI (LY (S.1 0) n k)))) 8 F8_160) 9 tm_160) 15 (nI 0)) (31 * (31 * (31 * (31 * (31 * (31 * hv_160 + (((S.1 0) 177).toInt64)) + (((S.1 0) 178).toInt64)) + ((nI (sumN (beaN (S.1 0) n) n)).toInt64)) + ((nI st).toInt64)) + (dlB (shF (cnt (tellB (S.1 0) n (hasB (matI (mw (S.1 0))))) n) (cnt (cB (S.1 0)) n)))) + (bL hf))) (bL hs) ) X hL hl vb_X5_mix q2282 (hW.2.1.recv hKV rfl) rfl rfl (Nat.le_of_ble_eq_true rfl) dX5_digest_247 ⟨Nat.le_of_ble_eq_true rfl, Nat.le_of_ble_eq_true rfl⟩ (by omega) (by omega) hW (fun r H1 locs hL hp => ?_)
          obtain ⟨rfl, hW, hO1⟩ := hp
          have hO := hO.trans hO1
          have hW := MW.cast (S1 := uH (uS (uS (uA (uA (uA (uA S 5 F_209) 6 F6_160) 7 (setI (S.1 7) n (fun k => nI (LY (S.1 0) n k)))) 8 F8_160) 9 tm_160) 15 (nI 0)) (31 * (31 * (31 * (31 * (31 * (31 * (31 * hv_160 + (((S.1 0) 177).toInt64)) + (((S.1 0) 178).toInt64)) + ((nI (sumN (beaN (S.1 0) n) n)).toInt64)) + ((nI st).toInt64)) + (dlB (shF (cnt (tellB (S.1 0) n (hasB (matI (mw (S.1 0))))) n) (cnt (cB (S.1 0)) n)))) + (bL hf)) + (bL hs))) hW ⟨rfl, rfl, rfl, rfl, rfl, rfl, rfl, rfl, rfl, rfl, rfl, rfl, rfl, rfl, rfl, rfl, rfl⟩
          refine lv_aload_n hx hb dX5_digest_250 rfl (lv_at hl 1 rfl) ?_
          refine lv_aload_n hx hb dX5_digest_251 rfl (lv_at hl 1 rfl) ?_
          refine mg_118 X rfl hW dX5_digest_252 (W.stk (w := (nI ln)) hln ?_)
          refine lv_i2l hx hb dX5_digest_255 rfl ?_
          refine Ct.callV (ct_X5_mix l g o (uH (uS (uS (uA (uA (uA (uA S 5 F_209) 6 F6_160) 7 (setI (S.1 7) n (fun k => nI (LY (S.1 0) n k)))) 8 F8_160) 9 tm_160) 15 (nI 0)) (31 * (31 * (31 * (31 * (31 * (31 * (31 * hv_160 + (((S.1 0) 177).toInt64)) + (((S.1 0) 178).toInt64)) + ((nI (sumN (beaN (S.1 0) n) n)).toInt64)) + ((nI st).toInt64)) + (dlB (shF (cnt (tellB (S.1 0) n (hasB (matI (mw (S.1 0))))) n) (cnt (cB (S.1 0)) n)))) + (bL hf)) + (bL hs))) ((nI ln).toInt64) ) X hL hl vb_X5_mix q2282 (hW.2.1.recv hKV rfl) rfl rfl (Nat.le_of_ble_eq_true rfl) dX5_digest_256 ⟨Nat.le_of_ble_eq_true rfl, Nat.le_of_ble_eq_true rfl⟩ (by omega) (by omega) hW (fun r H1 locs hL hp => ?_)
          obtain ⟨rfl, hW, hO1⟩ := hp
          have hO := hO.trans hO1
          have hW := MW.cast (S1 := uH (uS (uS (uA (uA (uA (uA S 5 F_209) 6 F6_160) 7 (setI (S.1 7) n (fun k => nI (LY (S.1 0) n k)))) 8 F8_160) 9 tm_160) 15 (nI 0)) (31 * (31 * (31 * (31 * (31 * (31 * (31 * (31 * hv_160 + (((S.1 0) 177).toInt64)) + (((S.1 0) 178).toInt64)) + ((nI (sumN (beaN (S.1 0) n) n)).toInt64)) + ((nI st).toInt64)) + (dlB (shF (cnt (tellB (S.1 0) n (hasB (matI (mw (S.1 0))))) n) (cnt (cB (S.1 0)) n)))) + (bL hf)) + (bL hs)) + ((nI ln).toInt64))) hW ⟨rfl, rfl, rfl, rfl, rfl, rfl, rfl, rfl, rfl, rfl, rfl, rfl, rfl, rfl, rfl, rfl, rfl⟩
          exact C259 _ _ _ _ (31 * (31 * (31 * (31 * (31 * (31 * (31 * (31 * hv_160 + (((S.1 0) 177).toInt64)) + (((S.1 0) 178).toInt64)) + ((nI (sumN (beaN (S.1 0) n) n)).toInt64)) + ((nI st).toInt64)) + (dlB (shF (cnt (tellB (S.1 0) n (hasB (matI (mw (S.1 0))))) n) (cnt (cB (S.1 0)) n)))) + (bL hf)) + (bL hs)) + ((nI ln).toInt64)) (by rw [mxs_app, mxs_app, ← hh5, ← hh_160]; rfl) _ hW hO _ hL ls (lv_sub hl [1] rfl)
    refine lv_aload_n hx hb dX5_digest_80 rfl (lv_at hl 0 rfl) ?_
    refine lv_aload_n hx hb dX5_digest_81 rfl (lv_at hl 0 rfl) ?_
    refine mg_7 X rfl hW dX5_digest_82 ?_
    refine lv_sipush (v := nI 160) hx hb dX5_digest_85 (by decide) ?_
    refine m_ld (v := (nI n)) X hW 0 (by decide) rfl 160 rfl (by decide) (show (S.1 0) 160 = (nI n) from hN) dX5_digest_88 ?_
    refine lv_i2l hx hb dX5_digest_89 rfl ?_
    refine Ct.callV (ct_X5_mix l g o (uH S h0) ((nI n).toInt64) ) X hL hl vb_X5_mix q2282 (hW.2.1.recv hKV rfl) rfl rfl (Nat.le_of_ble_eq_true rfl) dX5_digest_90 ⟨Nat.le_of_ble_eq_true rfl, Nat.le_of_ble_eq_true rfl⟩ (by omega) (by omega) hW (fun r H1 locs hL hp => ?_)
    obtain ⟨rfl, hW, hO1⟩ := hp
    have hO := hO.trans hO1
    have hW := MW.cast (S1 := uH S (31 * h0 + ((nI n).toInt64))) hW ⟨rfl, rfl, rfl, rfl, rfl, rfl, rfl, rfl, rfl, rfl, rfl, rfl, rfl, rfl, rfl, rfl, rfl⟩
    refine lv_aload_n hx hb dX5_digest_93 rfl (lv_at hl 0 rfl) ?_
    refine lv_aload_n hx hb dX5_digest_94 rfl (lv_at hl 0 rfl) ?_
    refine Cp.callV (v := .int (nI (cnt (cB (S.1 0)) n))) (ct_X5_countingOnes l g o n (uH S (31 * h0 + ((nI n).toInt64))) hN hn) X hL hl vb_X5_countingOnes q1963 (hW.2.1.recv hKV rfl) rfl rfl (Nat.le_of_ble_eq_true rfl) dX5_digest_95 ⟨Nat.le_of_ble_eq_true rfl, Nat.le_of_ble_eq_true rfl⟩ (by omega) (by omega) hW (fun locs hL => ?_)
    refine lv_i2l hx hb dX5_digest_98 rfl ?_
    refine Ct.callV (ct_X5_mix l g o (uH S (31 * h0 + ((nI n).toInt64))) ((nI (cnt (cB (S.1 0)) n)).toInt64) ) X hL hl vb_X5_mix q2282 (hW.2.1.recv hKV rfl) rfl rfl (Nat.le_of_ble_eq_true rfl) dX5_digest_99 ⟨Nat.le_of_ble_eq_true rfl, Nat.le_of_ble_eq_true rfl⟩ (by omega) (by omega) hW (fun r H1 locs hL hp => ?_)
    obtain ⟨rfl, hW, hO1⟩ := hp
    have hO := hO.trans hO1
    have hW := MW.cast (S1 := uH S (31 * (31 * h0 + ((nI n).toInt64)) + ((nI (cnt (cB (S.1 0)) n)).toInt64))) hW ⟨rfl, rfl, rfl, rfl, rfl, rfl, rfl, rfl, rfl, rfl, rfl, rfl, rfl, rfl, rfl, rfl, rfl⟩
    refine lv_aload_n hx hb dX5_digest_102 rfl (lv_at hl 0 rfl) ?_
    refine Ct.callV (ct_X5_peel l g o n (uH S (31 * (31 * h0 + ((nI n).toInt64)) + ((nI (cnt (cB (S.1 0)) n)).toInt64))) hN hn hR) X hL hl vb_X5_peel q2135 (hW.2.1.recv hKV rfl) rfl rfl (Nat.le_of_ble_eq_true rfl) dX5_digest_103 ⟨Nat.le_of_ble_eq_true rfl, Nat.le_of_ble_eq_true rfl⟩ (by omega) (by omega) hW (fun r H1 locs hL hp => ?_)
    obtain ⟨rfl, hW, hO1⟩ := hp
    have hO := hO.trans hO1
    have hW := MW.cast (S1 := uH (uA S 7 (setI (S.1 7) n (fun k => nI (LY (S.1 0) n k)))) (31 * (31 * h0 + ((nI n).toInt64)) + ((nI (cnt (cB (S.1 0)) n)).toInt64))) hW ⟨rfl, rfl, rfl, rfl, rfl, rfl, rfl, rfl, rfl, rfl, rfl, rfl, rfl, rfl, rfl, rfl, rfl⟩
    refine W.stk (w := (nI (maxN (LY (S.1 0) n) n))) rfl ?_
    refine lv_istore_n (lv' := [(1, .int _), (0, .ref _)]) hx hb dX5_digest_106 rfl hl (by decide) rfl (fun ls hl => ?_)
    refine lv_iconst (v := nI 0) hx hb dX5_digest_107 (by decide) ?_
    refine lv_istore_n (lv' := [(2, .int _), (1, .int _), (0, .ref _)]) hx hb dX5_digest_108 rfl hl (by decide) rfl (fun ls hl => ?_)
    have L109 : ∀ (fuel : Nat) (k : Nat), n - k < fuel → (k ≤ n) → ∀ (H : Heap), MW g o (uH (uA S 7 (setI (S.1 7) n (fun k => nI (LY (S.1 0) n k)))) (mxs (mxs h0 (preL (S.1 0) n)) (ofA (S.1 0) n k))) H → Off o s.heap H → ∀ (locs : List Loc), (∀ q ∈ locs, gLo g ≤ q.base) → ∀ (ls : Array Slot), lv_has ls 4 [(0, .ref o), (1, .int (nI (maxN (LY (S.1 0) n) n))), (2, .int (nI k))] → W p l e (rmL 9 0 0) s m args below meth c H locs 0 0 (MQ below (Qcg (fun r H H1 => ∃ S1, AP S1 (q_l S (mxs 4513 (digL (S.1 0) n st hf hs ln (S.1 4)))) r ∧ MW g o S1 H1 ∧ Off o H H1)) args s 0 0 (fre g)) (F0 m 109 ls []) := by
      intro fuel
      induction fuel with
      | zero => intro k hfu; exact absurd hfu (Nat.not_lt_zero _)
      | succ fuel ih109 =>
        intro k hfu hk H hW hO locs hL ls hl
        refine lv_iload_n hx hb dX5_digest_109 rfl (lv_at hl 2 rfl) ?_
        refine lv_aload_n hx hb dX5_digest_110 rfl (lv_at hl 0 rfl) ?_
        refine mg_7 X rfl hW dX5_digest_111 ?_
        refine lv_sipush (v := nI 160) hx hb dX5_digest_114 (by decide) ?_
        refine m_ld (v := (nI n)) X hW 0 (by decide) rfl 160 rfl (by decide) (show (S.1 0) 160 = (nI n) from hN) dX5_digest_117 ?_
        refine n_icmp_ge (tgt := 132) X dX5_digest_118 (by decide) (by omega) (by omega) (fun c_118 => ?_) (fun c_118 => ?_)
        ·
          exact C132 (mxs (mxs h0 (preL (S.1 0) n)) (ofA (S.1 0) n k)) (by rw [show k = n by omega]) _ hW hO _ hL ls (lv_sub hl [0, 1] rfl)
        ·
          refine lv_aload_n hx hb dX5_digest_121 rfl (lv_at hl 0 rfl) ?_
          refine lv_iload_n hx hb dX5_digest_122 rfl (lv_at hl 2 rfl) ?_
          refine Ct.callV (ct_X5_mixOffer l g o n k (uH (uA S 7 (setI (S.1 7) n (fun k => nI (LY (S.1 0) n k)))) (mxs (mxs h0 (preL (S.1 0) n)) (ofA (S.1 0) n k))) (LY (S.1 0) n) hN hn (by omega) (show setI (S.1 7) n (fun k => nI (LY (S.1 0) n k)) k = nI (LY (S.1 0) n k) from setI_l (by omega))) X hL hl vb_X5_mixOffer q2287 (hW.2.1.recv hKV rfl) rfl rfl (Nat.le_of_ble_eq_true rfl) dX5_digest_123 ⟨Nat.le_of_ble_eq_true rfl, Nat.le_of_ble_eq_true rfl⟩ (by omega) (by omega) hW (fun r H1 locs hL hp => ?_)
          obtain ⟨hv_123, hh_123, rfl, hW, hO1⟩ := hp
          have hO := hO.trans hO1
          have hh_123 : hv_123 = mxs (mxs (mxs h0 (preL (S.1 0) n)) (ofA (S.1 0) n k)) (offL (S.1 0) n (LY (S.1 0) n) k) := hh_123
          have hW := MW.cast (S1 := uH (uA S 7 (setI (S.1 7) n (fun k => nI (LY (S.1 0) n k)))) hv_123) hW ⟨rfl, rfl, rfl, rfl, rfl, rfl, rfl, rfl, rfl, rfl, rfl, rfl, rfl, rfl, rfl, rfl, rfl⟩
          refine lv_iinc (v := nI (k + 1)) (lv' := [(2, .int _), (0, .ref _), (1, .int _)]) hx hb dX5_digest_126 hl (k := 2) rfl (nI_iinc _ 1 rfl) (by decide) rfl (fun ls hl => ?_)
          refine lv_goto (tgt := 109) hx hb dX5_digest_129 (by decide) ?_
          exact ih109 (k + 1) (by omega) (by omega) _ (MW.cast hW ⟨rfl, rfl, rfl, rfl, rfl, rfl, rfl, rfl, rfl, rfl, rfl, rfl, rfl, rfl, rfl, rfl, (by show hv_123 = mxs (mxs h0 (preL (S.1 0) n)) (ofA (S.1 0) n (k + 1)); rw [ofA, mxs_app, hh_123])⟩) hO _ hL ls (lv_sub hl [1, 2, 0] rfl)
    exact L109 (n + 1) 0 (by omega) (by omega) _ (MW.cast hW ⟨rfl, rfl, rfl, rfl, rfl, rfl, rfl, rfl, rfl, rfl, rfl, rfl, rfl, rfl, rfl, rfl, rfl⟩) hO _ hL ls (lv_sub hl [2, 1, 0] rfl)
  refine lv_aload_n hx hb dX5_digest_0 rfl (lv_at hl 0 rfl) ?_
  refine lv_ldc2 hx hb X.2.2.2.1 (X.2.2.2.2.1 _ q2281) dX5_digest_1 ?_
  refine mp_225 X rfl hL hW dX5_digest_4 (fun H locs hL hW hO1 => ?_)
  have hO := hO.trans hO1
  have hW := MW.cast (S1 := uH S 4513) hW ⟨rfl, rfl, rfl, rfl, rfl, rfl, rfl, rfl, rfl, rfl, rfl, rfl, rfl, rfl, rfl, rfl, rfl⟩
  refine lv_iconst (v := nI 0) hx hb dX5_digest_7 (by decide) ?_
  refine lv_istore_n (lv' := [(1, .int _), (0, .ref _)]) hx hb dX5_digest_8 rfl hl (by decide) rfl (fun ls hl => ?_)
  refine lv_iload_n hx hb dX5_digest_9 rfl (lv_at hl 0 rfl) ?_
  refine lv_iconst (v := nI 4) hx hb dX5_digest_10 (by decide) ?_
  refine n_icmp_ge (tgt := 80) X dX5_digest_11 (by decide) (by omega) (by omega) (fun c_11 => ?_) (fun c_11 => ?_)
  ·
    exact absurd c_11 (by decide)
  ·
    refine lv_aload_n hx hb dX5_digest_14 rfl (lv_at hl 1 rfl) ?_
    refine lv_aload_n hx hb dX5_digest_15 rfl (lv_at hl 1 rfl) ?_
    refine mg_7 X rfl hW dX5_digest_16 ?_
    refine lv_sipush (v := nI 161) hx hb dX5_digest_19 (by decide) ?_
    refine lv_iload_n hx hb dX5_digest_22 rfl (lv_at hl 0 rfl) ?_
    refine n_iadd X dX5_digest_23 ?_
    refine m_ld (v := ((S.1 0) (161 + 0))) X hW 0 (by decide) rfl (161 + 0) rfl (by show 161 + 0 < 179; omega) rfl dX5_digest_24 ?_
    refine lv_i2l hx hb dX5_digest_25 rfl ?_
    refine Ct.callV (ct_X5_mix l g o (uH S 4513) (((S.1 0) (161 + 0)).toInt64) ) X hL hl vb_X5_mix q2282 (hW.2.1.recv hKV rfl) rfl rfl (Nat.le_of_ble_eq_true rfl) dX5_digest_26 ⟨Nat.le_of_ble_eq_true rfl, Nat.le_of_ble_eq_true rfl⟩ (by omega) (by omega) hW (fun r H1 locs hL hp => ?_)
    obtain ⟨rfl, hW, hO1⟩ := hp
    have hO := hO.trans hO1
    have hW := MW.cast (S1 := uH S (31 * 4513 + (((S.1 0) (161 + 0)).toInt64))) hW ⟨rfl, rfl, rfl, rfl, rfl, rfl, rfl, rfl, rfl, rfl, rfl, rfl, rfl, rfl, rfl, rfl, rfl⟩
    refine lv_aload_n hx hb dX5_digest_29 rfl (lv_at hl 1 rfl) ?_
    refine lv_aload_n hx hb dX5_digest_30 rfl (lv_at hl 1 rfl) ?_
    refine mg_7 X rfl hW dX5_digest_31 ?_
    refine lv_sipush (v := nI 165) hx hb dX5_digest_34 (by decide) ?_
    refine lv_iload_n hx hb dX5_digest_37 rfl (lv_at hl 0 rfl) ?_
    refine n_iadd X dX5_digest_38 ?_
    refine m_ld (v := ((S.1 0) (165 + 0))) X hW 0 (by decide) rfl (165 + 0) rfl (by show 165 + 0 < 179; omega) rfl dX5_digest_39 ?_
    refine lv_i2l hx hb dX5_digest_40 rfl ?_
    refine Ct.callV (ct_X5_mix l g o (uH S (31 * 4513 + (((S.1 0) (161 + 0)).toInt64))) (((S.1 0) (165 + 0)).toInt64) ) X hL hl vb_X5_mix q2282 (hW.2.1.recv hKV rfl) rfl rfl (Nat.le_of_ble_eq_true rfl) dX5_digest_41 ⟨Nat.le_of_ble_eq_true rfl, Nat.le_of_ble_eq_true rfl⟩ (by omega) (by omega) hW (fun r H1 locs hL hp => ?_)
    obtain ⟨rfl, hW, hO1⟩ := hp
    have hO := hO.trans hO1
    have hW := MW.cast (S1 := uH S (31 * (31 * 4513 + (((S.1 0) (161 + 0)).toInt64)) + (((S.1 0) (165 + 0)).toInt64))) hW ⟨rfl, rfl, rfl, rfl, rfl, rfl, rfl, rfl, rfl, rfl, rfl, rfl, rfl, rfl, rfl, rfl, rfl⟩
    refine lv_aload_n hx hb dX5_digest_44 rfl (lv_at hl 1 rfl) ?_
    refine lv_aload_n hx hb dX5_digest_45 rfl (lv_at hl 1 rfl) ?_
    refine mg_7 X rfl hW dX5_digest_46 ?_
    refine lv_sipush (v := nI 169) hx hb dX5_digest_49 (by decide) ?_
    refine lv_iload_n hx hb dX5_digest_52 rfl (lv_at hl 0 rfl) ?_
    refine n_iadd X dX5_digest_53 ?_
    refine m_ld (v := ((S.1 0) (169 + 0))) X hW 0 (by decide) rfl (169 + 0) rfl (by show 169 + 0 < 179; omega) rfl dX5_digest_54 ?_
    refine lv_i2l hx hb dX5_digest_55 rfl ?_
    refine Ct.callV (ct_X5_mix l g o (uH S (31 * (31 * 4513 + (((S.1 0) (161 + 0)).toInt64)) + (((S.1 0) (165 + 0)).toInt64))) (((S.1 0) (169 + 0)).toInt64) ) X hL hl vb_X5_mix q2282 (hW.2.1.recv hKV rfl) rfl rfl (Nat.le_of_ble_eq_true rfl) dX5_digest_56 ⟨Nat.le_of_ble_eq_true rfl, Nat.le_of_ble_eq_true rfl⟩ (by omega) (by omega) hW (fun r H1 locs hL hp => ?_)
    obtain ⟨rfl, hW, hO1⟩ := hp
    have hO := hO.trans hO1
    have hW := MW.cast (S1 := uH S (31 * (31 * (31 * 4513 + (((S.1 0) (161 + 0)).toInt64)) + (((S.1 0) (165 + 0)).toInt64)) + (((S.1 0) (169 + 0)).toInt64))) hW ⟨rfl, rfl, rfl, rfl, rfl, rfl, rfl, rfl, rfl, rfl, rfl, rfl, rfl, rfl, rfl, rfl, rfl⟩
    refine lv_aload_n hx hb dX5_digest_59 rfl (lv_at hl 1 rfl) ?_
    refine lv_aload_n hx hb dX5_digest_60 rfl (lv_at hl 1 rfl) ?_
    refine mg_7 X rfl hW dX5_digest_61 ?_
    refine lv_sipush (v := nI 173) hx hb dX5_digest_64 (by decide) ?_
    refine lv_iload_n hx hb dX5_digest_67 rfl (lv_at hl 0 rfl) ?_
    refine n_iadd X dX5_digest_68 ?_
    refine m_ld (v := ((S.1 0) (173 + 0))) X hW 0 (by decide) rfl (173 + 0) rfl (by show 173 + 0 < 179; omega) rfl dX5_digest_69 ?_
    refine lv_i2l hx hb dX5_digest_70 rfl ?_
    refine Ct.callV (ct_X5_mix l g o (uH S (31 * (31 * (31 * 4513 + (((S.1 0) (161 + 0)).toInt64)) + (((S.1 0) (165 + 0)).toInt64)) + (((S.1 0) (169 + 0)).toInt64))) (((S.1 0) (173 + 0)).toInt64) ) X hL hl vb_X5_mix q2282 (hW.2.1.recv hKV rfl) rfl rfl (Nat.le_of_ble_eq_true rfl) dX5_digest_71 ⟨Nat.le_of_ble_eq_true rfl, Nat.le_of_ble_eq_true rfl⟩ (by omega) (by omega) hW (fun r H1 locs hL hp => ?_)
    obtain ⟨rfl, hW, hO1⟩ := hp
    have hO := hO.trans hO1
    have hW := MW.cast (S1 := uH S (31 * (31 * (31 * (31 * 4513 + (((S.1 0) (161 + 0)).toInt64)) + (((S.1 0) (165 + 0)).toInt64)) + (((S.1 0) (169 + 0)).toInt64)) + (((S.1 0) (173 + 0)).toInt64))) hW ⟨rfl, rfl, rfl, rfl, rfl, rfl, rfl, rfl, rfl, rfl, rfl, rfl, rfl, rfl, rfl, rfl, rfl⟩
    refine lv_iinc (v := nI (1)) (lv' := [(1, .int _), (0, .ref _)]) hx hb dX5_digest_74 hl (k := 0) rfl (nI_iinc _ 1 rfl) (by decide) rfl (fun ls hl => ?_)
    refine lv_goto (tgt := 9) hx hb dX5_digest_77 (by decide) ?_
    refine lv_iload_n hx hb dX5_digest_9 rfl (lv_at hl 0 rfl) ?_
    refine lv_iconst (v := nI 4) hx hb dX5_digest_10 (by decide) ?_
    refine n_icmp_ge (tgt := 80) X dX5_digest_11 (by decide) (by omega) (by omega) (fun c_11 => ?_) (fun c_11 => ?_)
    ·
      exact absurd c_11 (by decide)
    ·
      refine lv_aload_n hx hb dX5_digest_14 rfl (lv_at hl 1 rfl) ?_
      refine lv_aload_n hx hb dX5_digest_15 rfl (lv_at hl 1 rfl) ?_
      refine mg_7 X rfl hW dX5_digest_16 ?_
      refine lv_sipush (v := nI 161) hx hb dX5_digest_19 (by decide) ?_
      refine lv_iload_n hx hb dX5_digest_22 rfl (lv_at hl 0 rfl) ?_
      refine n_iadd X dX5_digest_23 ?_
      refine m_ld (v := ((S.1 0) (161 + 1))) X hW 0 (by decide) rfl (161 + 1) rfl (by show 161 + 1 < 179; omega) rfl dX5_digest_24 ?_
      refine lv_i2l hx hb dX5_digest_25 rfl ?_
      refine Ct.callV (ct_X5_mix l g o (uH S (31 * (31 * (31 * (31 * 4513 + (((S.1 0) (161 + 0)).toInt64)) + (((S.1 0) (165 + 0)).toInt64)) + (((S.1 0) (169 + 0)).toInt64)) + (((S.1 0) (173 + 0)).toInt64))) (((S.1 0) (161 + 1)).toInt64) ) X hL hl vb_X5_mix q2282 (hW.2.1.recv hKV rfl) rfl rfl (Nat.le_of_ble_eq_true rfl) dX5_digest_26 ⟨Nat.le_of_ble_eq_true rfl, Nat.le_of_ble_eq_true rfl⟩ (by omega) (by omega) hW (fun r H1 locs hL hp => ?_)
      obtain ⟨rfl, hW, hO1⟩ := hp
      have hO := hO.trans hO1
      have hW := MW.cast (S1 := uH S (31 * (31 * (31 * (31 * (31 * 4513 + (((S.1 0) (161 + 0)).toInt64)) + (((S.1 0) (165 + 0)).toInt64)) + (((S.1 0) (169 + 0)).toInt64)) + (((S.1 0) (173 + 0)).toInt64)) + (((S.1 0) (161 + 1)).toInt64))) hW ⟨rfl, rfl, rfl, rfl, rfl, rfl, rfl, rfl, rfl, rfl, rfl, rfl, rfl, rfl, rfl, rfl, rfl⟩
      refine lv_aload_n hx hb dX5_digest_29 rfl (lv_at hl 1 rfl) ?_
      refine lv_aload_n hx hb dX5_digest_30 rfl (lv_at hl 1 rfl) ?_
      refine mg_7 X rfl hW dX5_digest_31 ?_
      refine lv_sipush (v := nI 165) hx hb dX5_digest_34 (by decide) ?_
      refine lv_iload_n hx hb dX5_digest_37 rfl (lv_at hl 0 rfl) ?_
      refine n_iadd X dX5_digest_38 ?_
      refine m_ld (v := ((S.1 0) (165 + 1))) X hW 0 (by decide) rfl (165 + 1) rfl (by show 165 + 1 < 179; omega) rfl dX5_digest_39 ?_
      refine lv_i2l hx hb dX5_digest_40 rfl ?_
      refine Ct.callV (ct_X5_mix l g o (uH S (31 * (31 * (31 * (31 * (31 * 4513 + (((S.1 0) (161 + 0)).toInt64)) + (((S.1 0) (165 + 0)).toInt64)) + (((S.1 0) (169 + 0)).toInt64)) + (((S.1 0) (173 + 0)).toInt64)) + (((S.1 0) (161 + 1)).toInt64))) (((S.1 0) (165 + 1)).toInt64) ) X hL hl vb_X5_mix q2282 (hW.2.1.recv hKV rfl) rfl rfl (Nat.le_of_ble_eq_true rfl) dX5_digest_41 ⟨Nat.le_of_ble_eq_true rfl, Nat.le_of_ble_eq_true rfl⟩ (by omega) (by omega) hW (fun r H1 locs hL hp => ?_)
      obtain ⟨rfl, hW, hO1⟩ := hp
      have hO := hO.trans hO1
      have hW := MW.cast (S1 := uH S (31 * (31 * (31 * (31 * (31 * (31 * 4513 + (((S.1 0) (161 + 0)).toInt64)) + (((S.1 0) (165 + 0)).toInt64)) + (((S.1 0) (169 + 0)).toInt64)) + (((S.1 0) (173 + 0)).toInt64)) + (((S.1 0) (161 + 1)).toInt64)) + (((S.1 0) (165 + 1)).toInt64))) hW ⟨rfl, rfl, rfl, rfl, rfl, rfl, rfl, rfl, rfl, rfl, rfl, rfl, rfl, rfl, rfl, rfl, rfl⟩
      refine lv_aload_n hx hb dX5_digest_44 rfl (lv_at hl 1 rfl) ?_
      refine lv_aload_n hx hb dX5_digest_45 rfl (lv_at hl 1 rfl) ?_
      refine mg_7 X rfl hW dX5_digest_46 ?_
      refine lv_sipush (v := nI 169) hx hb dX5_digest_49 (by decide) ?_
      refine lv_iload_n hx hb dX5_digest_52 rfl (lv_at hl 0 rfl) ?_
      refine n_iadd X dX5_digest_53 ?_
      refine m_ld (v := ((S.1 0) (169 + 1))) X hW 0 (by decide) rfl (169 + 1) rfl (by show 169 + 1 < 179; omega) rfl dX5_digest_54 ?_
      refine lv_i2l hx hb dX5_digest_55 rfl ?_
      refine Ct.callV (ct_X5_mix l g o (uH S (31 * (31 * (31 * (31 * (31 * (31 * 4513 + (((S.1 0) (161 + 0)).toInt64)) + (((S.1 0) (165 + 0)).toInt64)) + (((S.1 0) (169 + 0)).toInt64)) + (((S.1 0) (173 + 0)).toInt64)) + (((S.1 0) (161 + 1)).toInt64)) + (((S.1 0) (165 + 1)).toInt64))) (((S.1 0) (169 + 1)).toInt64) ) X hL hl vb_X5_mix q2282 (hW.2.1.recv hKV rfl) rfl rfl (Nat.le_of_ble_eq_true rfl) dX5_digest_56 ⟨Nat.le_of_ble_eq_true rfl, Nat.le_of_ble_eq_true rfl⟩ (by omega) (by omega) hW (fun r H1 locs hL hp => ?_)
      obtain ⟨rfl, hW, hO1⟩ := hp
      have hO := hO.trans hO1
      have hW := MW.cast (S1 := uH S (31 * (31 * (31 * (31 * (31 * (31 * (31 * 4513 + (((S.1 0) (161 + 0)).toInt64)) + (((S.1 0) (165 + 0)).toInt64)) + (((S.1 0) (169 + 0)).toInt64)) + (((S.1 0) (173 + 0)).toInt64)) + (((S.1 0) (161 + 1)).toInt64)) + (((S.1 0) (165 + 1)).toInt64)) + (((S.1 0) (169 + 1)).toInt64))) hW ⟨rfl, rfl, rfl, rfl, rfl, rfl, rfl, rfl, rfl, rfl, rfl, rfl, rfl, rfl, rfl, rfl, rfl⟩
      refine lv_aload_n hx hb dX5_digest_59 rfl (lv_at hl 1 rfl) ?_
      refine lv_aload_n hx hb dX5_digest_60 rfl (lv_at hl 1 rfl) ?_
      refine mg_7 X rfl hW dX5_digest_61 ?_
      refine lv_sipush (v := nI 173) hx hb dX5_digest_64 (by decide) ?_
      refine lv_iload_n hx hb dX5_digest_67 rfl (lv_at hl 0 rfl) ?_
      refine n_iadd X dX5_digest_68 ?_
      refine m_ld (v := ((S.1 0) (173 + 1))) X hW 0 (by decide) rfl (173 + 1) rfl (by show 173 + 1 < 179; omega) rfl dX5_digest_69 ?_
      refine lv_i2l hx hb dX5_digest_70 rfl ?_
      refine Ct.callV (ct_X5_mix l g o (uH S (31 * (31 * (31 * (31 * (31 * (31 * (31 * 4513 + (((S.1 0) (161 + 0)).toInt64)) + (((S.1 0) (165 + 0)).toInt64)) + (((S.1 0) (169 + 0)).toInt64)) + (((S.1 0) (173 + 0)).toInt64)) + (((S.1 0) (161 + 1)).toInt64)) + (((S.1 0) (165 + 1)).toInt64)) + (((S.1 0) (169 + 1)).toInt64))) (((S.1 0) (173 + 1)).toInt64) ) X hL hl vb_X5_mix q2282 (hW.2.1.recv hKV rfl) rfl rfl (Nat.le_of_ble_eq_true rfl) dX5_digest_71 ⟨Nat.le_of_ble_eq_true rfl, Nat.le_of_ble_eq_true rfl⟩ (by omega) (by omega) hW (fun r H1 locs hL hp => ?_)
      obtain ⟨rfl, hW, hO1⟩ := hp
      have hO := hO.trans hO1
      have hW := MW.cast (S1 := uH S (31 * (31 * (31 * (31 * (31 * (31 * (31 * (31 * 4513 + (((S.1 0) (161 + 0)).toInt64)) + (((S.1 0) (165 + 0)).toInt64)) + (((S.1 0) (169 + 0)).toInt64)) + (((S.1 0) (173 + 0)).toInt64)) + (((S.1 0) (161 + 1)).toInt64)) + (((S.1 0) (165 + 1)).toInt64)) + (((S.1 0) (169 + 1)).toInt64)) + (((S.1 0) (173 + 1)).toInt64))) hW ⟨rfl, rfl, rfl, rfl, rfl, rfl, rfl, rfl, rfl, rfl, rfl, rfl, rfl, rfl, rfl, rfl, rfl⟩
      refine lv_iinc (v := nI (2)) (lv' := [(1, .int _), (0, .ref _)]) hx hb dX5_digest_74 hl (k := 0) rfl (nI_iinc _ 1 rfl) (by decide) rfl (fun ls hl => ?_)
      refine lv_goto (tgt := 9) hx hb dX5_digest_77 (by decide) ?_
      refine lv_iload_n hx hb dX5_digest_9 rfl (lv_at hl 0 rfl) ?_
      refine lv_iconst (v := nI 4) hx hb dX5_digest_10 (by decide) ?_
      refine n_icmp_ge (tgt := 80) X dX5_digest_11 (by decide) (by omega) (by omega) (fun c_11 => ?_) (fun c_11 => ?_)
      ·
        exact absurd c_11 (by decide)
      ·
        refine lv_aload_n hx hb dX5_digest_14 rfl (lv_at hl 1 rfl) ?_
        refine lv_aload_n hx hb dX5_digest_15 rfl (lv_at hl 1 rfl) ?_
        refine mg_7 X rfl hW dX5_digest_16 ?_
        refine lv_sipush (v := nI 161) hx hb dX5_digest_19 (by decide) ?_
        refine lv_iload_n hx hb dX5_digest_22 rfl (lv_at hl 0 rfl) ?_
        refine n_iadd X dX5_digest_23 ?_
        refine m_ld (v := ((S.1 0) (161 + 2))) X hW 0 (by decide) rfl (161 + 2) rfl (by show 161 + 2 < 179; omega) rfl dX5_digest_24 ?_
        refine lv_i2l hx hb dX5_digest_25 rfl ?_
        refine Ct.callV (ct_X5_mix l g o (uH S (31 * (31 * (31 * (31 * (31 * (31 * (31 * (31 * 4513 + (((S.1 0) (161 + 0)).toInt64)) + (((S.1 0) (165 + 0)).toInt64)) + (((S.1 0) (169 + 0)).toInt64)) + (((S.1 0) (173 + 0)).toInt64)) + (((S.1 0) (161 + 1)).toInt64)) + (((S.1 0) (165 + 1)).toInt64)) + (((S.1 0) (169 + 1)).toInt64)) + (((S.1 0) (173 + 1)).toInt64))) (((S.1 0) (161 + 2)).toInt64) ) X hL hl vb_X5_mix q2282 (hW.2.1.recv hKV rfl) rfl rfl (Nat.le_of_ble_eq_true rfl) dX5_digest_26 ⟨Nat.le_of_ble_eq_true rfl, Nat.le_of_ble_eq_true rfl⟩ (by omega) (by omega) hW (fun r H1 locs hL hp => ?_)
        obtain ⟨rfl, hW, hO1⟩ := hp
        have hO := hO.trans hO1
        have hW := MW.cast (S1 := uH S (31 * (31 * (31 * (31 * (31 * (31 * (31 * (31 * (31 * 4513 + (((S.1 0) (161 + 0)).toInt64)) + (((S.1 0) (165 + 0)).toInt64)) + (((S.1 0) (169 + 0)).toInt64)) + (((S.1 0) (173 + 0)).toInt64)) + (((S.1 0) (161 + 1)).toInt64)) + (((S.1 0) (165 + 1)).toInt64)) + (((S.1 0) (169 + 1)).toInt64)) + (((S.1 0) (173 + 1)).toInt64)) + (((S.1 0) (161 + 2)).toInt64))) hW ⟨rfl, rfl, rfl, rfl, rfl, rfl, rfl, rfl, rfl, rfl, rfl, rfl, rfl, rfl, rfl, rfl, rfl⟩
        refine lv_aload_n hx hb dX5_digest_29 rfl (lv_at hl 1 rfl) ?_
        refine lv_aload_n hx hb dX5_digest_30 rfl (lv_at hl 1 rfl) ?_
        refine mg_7 X rfl hW dX5_digest_31 ?_
        refine lv_sipush (v := nI 165) hx hb dX5_digest_34 (by decide) ?_
        refine lv_iload_n hx hb dX5_digest_37 rfl (lv_at hl 0 rfl) ?_
        refine n_iadd X dX5_digest_38 ?_
        refine m_ld (v := ((S.1 0) (165 + 2))) X hW 0 (by decide) rfl (165 + 2) rfl (by show 165 + 2 < 179; omega) rfl dX5_digest_39 ?_
        refine lv_i2l hx hb dX5_digest_40 rfl ?_
        refine Ct.callV (ct_X5_mix l g o (uH S (31 * (31 * (31 * (31 * (31 * (31 * (31 * (31 * (31 * 4513 + (((S.1 0) (161 + 0)).toInt64)) + (((S.1 0) (165 + 0)).toInt64)) + (((S.1 0) (169 + 0)).toInt64)) + (((S.1 0) (173 + 0)).toInt64)) + (((S.1 0) (161 + 1)).toInt64)) + (((S.1 0) (165 + 1)).toInt64)) + (((S.1 0) (169 + 1)).toInt64)) + (((S.1 0) (173 + 1)).toInt64)) + (((S.1 0) (161 + 2)).toInt64))) (((S.1 0) (165 + 2)).toInt64) ) X hL hl vb_X5_mix q2282 (hW.2.1.recv hKV rfl) rfl rfl (Nat.le_of_ble_eq_true rfl) dX5_digest_41 ⟨Nat.le_of_ble_eq_true rfl, Nat.le_of_ble_eq_true rfl⟩ (by omega) (by omega) hW (fun r H1 locs hL hp => ?_)
        obtain ⟨rfl, hW, hO1⟩ := hp
        have hO := hO.trans hO1
        have hW := MW.cast (S1 := uH S (31 * (31 * (31 * (31 * (31 * (31 * (31 * (31 * (31 * (31 * 4513 + (((S.1 0) (161 + 0)).toInt64)) + (((S.1 0) (165 + 0)).toInt64)) + (((S.1 0) (169 + 0)).toInt64)) + (((S.1 0) (173 + 0)).toInt64)) + (((S.1 0) (161 + 1)).toInt64)) + (((S.1 0) (165 + 1)).toInt64)) + (((S.1 0) (169 + 1)).toInt64)) + (((S.1 0) (173 + 1)).toInt64)) + (((S.1 0) (161 + 2)).toInt64)) + (((S.1 0) (165 + 2)).toInt64))) hW ⟨rfl, rfl, rfl, rfl, rfl, rfl, rfl, rfl, rfl, rfl, rfl, rfl, rfl, rfl, rfl, rfl, rfl⟩
        refine lv_aload_n hx hb dX5_digest_44 rfl (lv_at hl 1 rfl) ?_
        refine lv_aload_n hx hb dX5_digest_45 rfl (lv_at hl 1 rfl) ?_
        refine mg_7 X rfl hW dX5_digest_46 ?_
        refine lv_sipush (v := nI 169) hx hb dX5_digest_49 (by decide) ?_
        refine lv_iload_n hx hb dX5_digest_52 rfl (lv_at hl 0 rfl) ?_
        refine n_iadd X dX5_digest_53 ?_
        refine m_ld (v := ((S.1 0) (169 + 2))) X hW 0 (by decide) rfl (169 + 2) rfl (by show 169 + 2 < 179; omega) rfl dX5_digest_54 ?_
        refine lv_i2l hx hb dX5_digest_55 rfl ?_
        refine Ct.callV (ct_X5_mix l g o (uH S (31 * (31 * (31 * (31 * (31 * (31 * (31 * (31 * (31 * (31 * 4513 + (((S.1 0) (161 + 0)).toInt64)) + (((S.1 0) (165 + 0)).toInt64)) + (((S.1 0) (169 + 0)).toInt64)) + (((S.1 0) (173 + 0)).toInt64)) + (((S.1 0) (161 + 1)).toInt64)) + (((S.1 0) (165 + 1)).toInt64)) + (((S.1 0) (169 + 1)).toInt64)) + (((S.1 0) (173 + 1)).toInt64)) + (((S.1 0) (161 + 2)).toInt64)) + (((S.1 0) (165 + 2)).toInt64))) (((S.1 0) (169 + 2)).toInt64) ) X hL hl vb_X5_mix q2282 (hW.2.1.recv hKV rfl) rfl rfl (Nat.le_of_ble_eq_true rfl) dX5_digest_56 ⟨Nat.le_of_ble_eq_true rfl, Nat.le_of_ble_eq_true rfl⟩ (by omega) (by omega) hW (fun r H1 locs hL hp => ?_)
        obtain ⟨rfl, hW, hO1⟩ := hp
        have hO := hO.trans hO1
        have hW := MW.cast (S1 := uH S (31 * (31 * (31 * (31 * (31 * (31 * (31 * (31 * (31 * (31 * (31 * 4513 + (((S.1 0) (161 + 0)).toInt64)) + (((S.1 0) (165 + 0)).toInt64)) + (((S.1 0) (169 + 0)).toInt64)) + (((S.1 0) (173 + 0)).toInt64)) + (((S.1 0) (161 + 1)).toInt64)) + (((S.1 0) (165 + 1)).toInt64)) + (((S.1 0) (169 + 1)).toInt64)) + (((S.1 0) (173 + 1)).toInt64)) + (((S.1 0) (161 + 2)).toInt64)) + (((S.1 0) (165 + 2)).toInt64)) + (((S.1 0) (169 + 2)).toInt64))) hW ⟨rfl, rfl, rfl, rfl, rfl, rfl, rfl, rfl, rfl, rfl, rfl, rfl, rfl, rfl, rfl, rfl, rfl⟩
        refine lv_aload_n hx hb dX5_digest_59 rfl (lv_at hl 1 rfl) ?_
        refine lv_aload_n hx hb dX5_digest_60 rfl (lv_at hl 1 rfl) ?_
        refine mg_7 X rfl hW dX5_digest_61 ?_
        refine lv_sipush (v := nI 173) hx hb dX5_digest_64 (by decide) ?_
        refine lv_iload_n hx hb dX5_digest_67 rfl (lv_at hl 0 rfl) ?_
        refine n_iadd X dX5_digest_68 ?_
        refine m_ld (v := ((S.1 0) (173 + 2))) X hW 0 (by decide) rfl (173 + 2) rfl (by show 173 + 2 < 179; omega) rfl dX5_digest_69 ?_
        refine lv_i2l hx hb dX5_digest_70 rfl ?_
        refine Ct.callV (ct_X5_mix l g o (uH S (31 * (31 * (31 * (31 * (31 * (31 * (31 * (31 * (31 * (31 * (31 * 4513 + (((S.1 0) (161 + 0)).toInt64)) + (((S.1 0) (165 + 0)).toInt64)) + (((S.1 0) (169 + 0)).toInt64)) + (((S.1 0) (173 + 0)).toInt64)) + (((S.1 0) (161 + 1)).toInt64)) + (((S.1 0) (165 + 1)).toInt64)) + (((S.1 0) (169 + 1)).toInt64)) + (((S.1 0) (173 + 1)).toInt64)) + (((S.1 0) (161 + 2)).toInt64)) + (((S.1 0) (165 + 2)).toInt64)) + (((S.1 0) (169 + 2)).toInt64))) (((S.1 0) (173 + 2)).toInt64) ) X hL hl vb_X5_mix q2282 (hW.2.1.recv hKV rfl) rfl rfl (Nat.le_of_ble_eq_true rfl) dX5_digest_71 ⟨Nat.le_of_ble_eq_true rfl, Nat.le_of_ble_eq_true rfl⟩ (by omega) (by omega) hW (fun r H1 locs hL hp => ?_)
        obtain ⟨rfl, hW, hO1⟩ := hp
        have hO := hO.trans hO1
        have hW := MW.cast (S1 := uH S (31 * (31 * (31 * (31 * (31 * (31 * (31 * (31 * (31 * (31 * (31 * (31 * 4513 + (((S.1 0) (161 + 0)).toInt64)) + (((S.1 0) (165 + 0)).toInt64)) + (((S.1 0) (169 + 0)).toInt64)) + (((S.1 0) (173 + 0)).toInt64)) + (((S.1 0) (161 + 1)).toInt64)) + (((S.1 0) (165 + 1)).toInt64)) + (((S.1 0) (169 + 1)).toInt64)) + (((S.1 0) (173 + 1)).toInt64)) + (((S.1 0) (161 + 2)).toInt64)) + (((S.1 0) (165 + 2)).toInt64)) + (((S.1 0) (169 + 2)).toInt64)) + (((S.1 0) (173 + 2)).toInt64))) hW ⟨rfl, rfl, rfl, rfl, rfl, rfl, rfl, rfl, rfl, rfl, rfl, rfl, rfl, rfl, rfl, rfl, rfl⟩
        refine lv_iinc (v := nI (3)) (lv' := [(1, .int _), (0, .ref _)]) hx hb dX5_digest_74 hl (k := 0) rfl (nI_iinc _ 1 rfl) (by decide) rfl (fun ls hl => ?_)
        refine lv_goto (tgt := 9) hx hb dX5_digest_77 (by decide) ?_
        refine lv_iload_n hx hb dX5_digest_9 rfl (lv_at hl 0 rfl) ?_
        refine lv_iconst (v := nI 4) hx hb dX5_digest_10 (by decide) ?_
        refine n_icmp_ge (tgt := 80) X dX5_digest_11 (by decide) (by omega) (by omega) (fun c_11 => ?_) (fun c_11 => ?_)
        ·
          exact absurd c_11 (by decide)
        ·
          refine lv_aload_n hx hb dX5_digest_14 rfl (lv_at hl 1 rfl) ?_
          refine lv_aload_n hx hb dX5_digest_15 rfl (lv_at hl 1 rfl) ?_
          refine mg_7 X rfl hW dX5_digest_16 ?_
          refine lv_sipush (v := nI 161) hx hb dX5_digest_19 (by decide) ?_
          refine lv_iload_n hx hb dX5_digest_22 rfl (lv_at hl 0 rfl) ?_
          refine n_iadd X dX5_digest_23 ?_
          refine m_ld (v := ((S.1 0) (161 + 3))) X hW 0 (by decide) rfl (161 + 3) rfl (by show 161 + 3 < 179; omega) rfl dX5_digest_24 ?_
          refine lv_i2l hx hb dX5_digest_25 rfl ?_
          refine Ct.callV (ct_X5_mix l g o (uH S (31 * (31 * (31 * (31 * (31 * (31 * (31 * (31 * (31 * (31 * (31 * (31 * 4513 + (((S.1 0) (161 + 0)).toInt64)) + (((S.1 0) (165 + 0)).toInt64)) + (((S.1 0) (169 + 0)).toInt64)) + (((S.1 0) (173 + 0)).toInt64)) + (((S.1 0) (161 + 1)).toInt64)) + (((S.1 0) (165 + 1)).toInt64)) + (((S.1 0) (169 + 1)).toInt64)) + (((S.1 0) (173 + 1)).toInt64)) + (((S.1 0) (161 + 2)).toInt64)) + (((S.1 0) (165 + 2)).toInt64)) + (((S.1 0) (169 + 2)).toInt64)) + (((S.1 0) (173 + 2)).toInt64))) (((S.1 0) (161 + 3)).toInt64) ) X hL hl vb_X5_mix q2282 (hW.2.1.recv hKV rfl) rfl rfl (Nat.le_of_ble_eq_true rfl) dX5_digest_26 ⟨Nat.le_of_ble_eq_true rfl, Nat.le_of_ble_eq_true rfl⟩ (by omega) (by omega) hW (fun r H1 locs hL hp => ?_)
          obtain ⟨rfl, hW, hO1⟩ := hp
          have hO := hO.trans hO1
          have hW := MW.cast (S1 := uH S (31 * (31 * (31 * (31 * (31 * (31 * (31 * (31 * (31 * (31 * (31 * (31 * (31 * 4513 + (((S.1 0) (161 + 0)).toInt64)) + (((S.1 0) (165 + 0)).toInt64)) + (((S.1 0) (169 + 0)).toInt64)) + (((S.1 0) (173 + 0)).toInt64)) + (((S.1 0) (161 + 1)).toInt64)) + (((S.1 0) (165 + 1)).toInt64)) + (((S.1 0) (169 + 1)).toInt64)) + (((S.1 0) (173 + 1)).toInt64)) + (((S.1 0) (161 + 2)).toInt64)) + (((S.1 0) (165 + 2)).toInt64)) + (((S.1 0) (169 + 2)).toInt64)) + (((S.1 0) (173 + 2)).toInt64)) + (((S.1 0) (161 + 3)).toInt64))) hW ⟨rfl, rfl, rfl, rfl, rfl, rfl, rfl, rfl, rfl, rfl, rfl, rfl, rfl, rfl, rfl, rfl, rfl⟩
          refine lv_aload_n hx hb dX5_digest_29 rfl (lv_at hl 1 rfl) ?_
          refine lv_aload_n hx hb dX5_digest_30 rfl (lv_at hl 1 rfl) ?_
          refine mg_7 X rfl hW dX5_digest_31 ?_
          refine lv_sipush (v := nI 165) hx hb dX5_digest_34 (by decide) ?_
          refine lv_iload_n hx hb dX5_digest_37 rfl (lv_at hl 0 rfl) ?_
          refine n_iadd X dX5_digest_38 ?_
          refine m_ld (v := ((S.1 0) (165 + 3))) X hW 0 (by decide) rfl (165 + 3) rfl (by show 165 + 3 < 179; omega) rfl dX5_digest_39 ?_
          refine lv_i2l hx hb dX5_digest_40 rfl ?_
          refine Ct.callV (ct_X5_mix l g o (uH S (31 * (31 * (31 * (31 * (31 * (31 * (31 * (31 * (31 * (31 * (31 * (31 * (31 * 4513 + (((S.1 0) (161 + 0)).toInt64)) + (((S.1 0) (165 + 0)).toInt64)) + (((S.1 0) (169 + 0)).toInt64)) + (((S.1 0) (173 + 0)).toInt64)) + (((S.1 0) (161 + 1)).toInt64)) + (((S.1 0) (165 + 1)).toInt64)) + (((S.1 0) (169 + 1)).toInt64)) + (((S.1 0) (173 + 1)).toInt64)) + (((S.1 0) (161 + 2)).toInt64)) + (((S.1 0) (165 + 2)).toInt64)) + (((S.1 0) (169 + 2)).toInt64)) + (((S.1 0) (173 + 2)).toInt64)) + (((S.1 0) (161 + 3)).toInt64))) (((S.1 0) (165 + 3)).toInt64) ) X hL hl vb_X5_mix q2282 (hW.2.1.recv hKV rfl) rfl rfl (Nat.le_of_ble_eq_true rfl) dX5_digest_41 ⟨Nat.le_of_ble_eq_true rfl, Nat.le_of_ble_eq_true rfl⟩ (by omega) (by omega) hW (fun r H1 locs hL hp => ?_)
          obtain ⟨rfl, hW, hO1⟩ := hp
          have hO := hO.trans hO1
          have hW := MW.cast (S1 := uH S (31 * (31 * (31 * (31 * (31 * (31 * (31 * (31 * (31 * (31 * (31 * (31 * (31 * (31 * 4513 + (((S.1 0) (161 + 0)).toInt64)) + (((S.1 0) (165 + 0)).toInt64)) + (((S.1 0) (169 + 0)).toInt64)) + (((S.1 0) (173 + 0)).toInt64)) + (((S.1 0) (161 + 1)).toInt64)) + (((S.1 0) (165 + 1)).toInt64)) + (((S.1 0) (169 + 1)).toInt64)) + (((S.1 0) (173 + 1)).toInt64)) + (((S.1 0) (161 + 2)).toInt64)) + (((S.1 0) (165 + 2)).toInt64)) + (((S.1 0) (169 + 2)).toInt64)) + (((S.1 0) (173 + 2)).toInt64)) + (((S.1 0) (161 + 3)).toInt64)) + (((S.1 0) (165 + 3)).toInt64))) hW ⟨rfl, rfl, rfl, rfl, rfl, rfl, rfl, rfl, rfl, rfl, rfl, rfl, rfl, rfl, rfl, rfl, rfl⟩
          refine lv_aload_n hx hb dX5_digest_44 rfl (lv_at hl 1 rfl) ?_
          refine lv_aload_n hx hb dX5_digest_45 rfl (lv_at hl 1 rfl) ?_
          refine mg_7 X rfl hW dX5_digest_46 ?_
          refine lv_sipush (v := nI 169) hx hb dX5_digest_49 (by decide) ?_
          refine lv_iload_n hx hb dX5_digest_52 rfl (lv_at hl 0 rfl) ?_
          refine n_iadd X dX5_digest_53 ?_
          refine m_ld (v := ((S.1 0) (169 + 3))) X hW 0 (by decide) rfl (169 + 3) rfl (by show 169 + 3 < 179; omega) rfl dX5_digest_54 ?_
          refine lv_i2l hx hb dX5_digest_55 rfl ?_
          refine Ct.callV (ct_X5_mix l g o (uH S (31 * (31 * (31 * (31 * (31 * (31 * (31 * (31 * (31 * (31 * (31 * (31 * (31 * (31 * 4513 + (((S.1 0) (161 + 0)).toInt64)) + (((S.1 0) (165 + 0)).toInt64)) + (((S.1 0) (169 + 0)).toInt64)) + (((S.1 0) (173 + 0)).toInt64)) + (((S.1 0) (161 + 1)).toInt64)) + (((S.1 0) (165 + 1)).toInt64)) + (((S.1 0) (169 + 1)).toInt64)) + (((S.1 0) (173 + 1)).toInt64)) + (((S.1 0) (161 + 2)).toInt64)) + (((S.1 0) (165 + 2)).toInt64)) + (((S.1 0) (169 + 2)).toInt64)) + (((S.1 0) (173 + 2)).toInt64)) + (((S.1 0) (161 + 3)).toInt64)) + (((S.1 0) (165 + 3)).toInt64))) (((S.1 0) (169 + 3)).toInt64) ) X hL hl vb_X5_mix q2282 (hW.2.1.recv hKV rfl) rfl rfl (Nat.le_of_ble_eq_true rfl) dX5_digest_56 ⟨Nat.le_of_ble_eq_true rfl, Nat.le_of_ble_eq_true rfl⟩ (by omega) (by omega) hW (fun r H1 locs hL hp => ?_)
          obtain ⟨rfl, hW, hO1⟩ := hp
          have hO := hO.trans hO1
          have hW := MW.cast (S1 := uH S (31 * (31 * (31 * (31 * (31 * (31 * (31 * (31 * (31 * (31 * (31 * (31 * (31 * (31 * (31 * 4513 + (((S.1 0) (161 + 0)).toInt64)) + (((S.1 0) (165 + 0)).toInt64)) + (((S.1 0) (169 + 0)).toInt64)) + (((S.1 0) (173 + 0)).toInt64)) + (((S.1 0) (161 + 1)).toInt64)) + (((S.1 0) (165 + 1)).toInt64)) + (((S.1 0) (169 + 1)).toInt64)) + (((S.1 0) (173 + 1)).toInt64)) + (((S.1 0) (161 + 2)).toInt64)) + (((S.1 0) (165 + 2)).toInt64)) + (((S.1 0) (169 + 2)).toInt64)) + (((S.1 0) (173 + 2)).toInt64)) + (((S.1 0) (161 + 3)).toInt64)) + (((S.1 0) (165 + 3)).toInt64)) + (((S.1 0) (169 + 3)).toInt64))) hW ⟨rfl, rfl, rfl, rfl, rfl, rfl, rfl, rfl, rfl, rfl, rfl, rfl, rfl, rfl, rfl, rfl, rfl⟩
          refine lv_aload_n hx hb dX5_digest_59 rfl (lv_at hl 1 rfl) ?_
          refine lv_aload_n hx hb dX5_digest_60 rfl (lv_at hl 1 rfl) ?_
          refine mg_7 X rfl hW dX5_digest_61 ?_
          refine lv_sipush (v := nI 173) hx hb dX5_digest_64 (by decide) ?_
          refine lv_iload_n hx hb dX5_digest_67 rfl (lv_at hl 0 rfl) ?_
          refine n_iadd X dX5_digest_68 ?_
          refine m_ld (v := ((S.1 0) (173 + 3))) X hW 0 (by decide) rfl (173 + 3) rfl (by show 173 + 3 < 179; omega) rfl dX5_digest_69 ?_
          refine lv_i2l hx hb dX5_digest_70 rfl ?_
          refine Ct.callV (ct_X5_mix l g o (uH S (31 * (31 * (31 * (31 * (31 * (31 * (31 * (31 * (31 * (31 * (31 * (31 * (31 * (31 * (31 * 4513 + (((S.1 0) (161 + 0)).toInt64)) + (((S.1 0) (165 + 0)).toInt64)) + (((S.1 0) (169 + 0)).toInt64)) + (((S.1 0) (173 + 0)).toInt64)) + (((S.1 0) (161 + 1)).toInt64)) + (((S.1 0) (165 + 1)).toInt64)) + (((S.1 0) (169 + 1)).toInt64)) + (((S.1 0) (173 + 1)).toInt64)) + (((S.1 0) (161 + 2)).toInt64)) + (((S.1 0) (165 + 2)).toInt64)) + (((S.1 0) (169 + 2)).toInt64)) + (((S.1 0) (173 + 2)).toInt64)) + (((S.1 0) (161 + 3)).toInt64)) + (((S.1 0) (165 + 3)).toInt64)) + (((S.1 0) (169 + 3)).toInt64))) (((S.1 0) (173 + 3)).toInt64) ) X hL hl vb_X5_mix q2282 (hW.2.1.recv hKV rfl) rfl rfl (Nat.le_of_ble_eq_true rfl) dX5_digest_71 ⟨Nat.le_of_ble_eq_true rfl, Nat.le_of_ble_eq_true rfl⟩ (by omega) (by omega) hW (fun r H1 locs hL hp => ?_)
          obtain ⟨rfl, hW, hO1⟩ := hp
          have hO := hO.trans hO1
          have hW := MW.cast (S1 := uH S (31 * (31 * (31 * (31 * (31 * (31 * (31 * (31 * (31 * (31 * (31 * (31 * (31 * (31 * (31 * (31 * 4513 + (((S.1 0) (161 + 0)).toInt64)) + (((S.1 0) (165 + 0)).toInt64)) + (((S.1 0) (169 + 0)).toInt64)) + (((S.1 0) (173 + 0)).toInt64)) + (((S.1 0) (161 + 1)).toInt64)) + (((S.1 0) (165 + 1)).toInt64)) + (((S.1 0) (169 + 1)).toInt64)) + (((S.1 0) (173 + 1)).toInt64)) + (((S.1 0) (161 + 2)).toInt64)) + (((S.1 0) (165 + 2)).toInt64)) + (((S.1 0) (169 + 2)).toInt64)) + (((S.1 0) (173 + 2)).toInt64)) + (((S.1 0) (161 + 3)).toInt64)) + (((S.1 0) (165 + 3)).toInt64)) + (((S.1 0) (169 + 3)).toInt64)) + (((S.1 0) (173 + 3)).toInt64))) hW ⟨rfl, rfl, rfl, rfl, rfl, rfl, rfl, rfl, rfl, rfl, rfl, rfl, rfl, rfl, rfl, rfl, rfl⟩
          refine lv_iinc (v := nI (4)) (lv' := [(1, .int _), (0, .ref _)]) hx hb dX5_digest_74 hl (k := 0) rfl (nI_iinc _ 1 rfl) (by decide) rfl (fun ls hl => ?_)
          refine lv_goto (tgt := 9) hx hb dX5_digest_77 (by decide) ?_
          refine lv_iload_n hx hb dX5_digest_9 rfl (lv_at hl 0 rfl) ?_
          refine lv_iconst (v := nI 4) hx hb dX5_digest_10 (by decide) ?_
          refine n_icmp_ge (tgt := 80) X dX5_digest_11 (by decide) (by omega) (by omega) (fun c_11 => ?_) (fun c_11 => ?_)
          ·
            exact C80 (31 * (31 * (31 * (31 * (31 * (31 * (31 * (31 * (31 * (31 * (31 * (31 * (31 * (31 * (31 * (31 * 4513 + (((S.1 0) (161 + 0)).toInt64)) + (((S.1 0) (165 + 0)).toInt64)) + (((S.1 0) (169 + 0)).toInt64)) + (((S.1 0) (173 + 0)).toInt64)) + (((S.1 0) (161 + 1)).toInt64)) + (((S.1 0) (165 + 1)).toInt64)) + (((S.1 0) (169 + 1)).toInt64)) + (((S.1 0) (173 + 1)).toInt64)) + (((S.1 0) (161 + 2)).toInt64)) + (((S.1 0) (165 + 2)).toInt64)) + (((S.1 0) (169 + 2)).toInt64)) + (((S.1 0) (173 + 2)).toInt64)) + (((S.1 0) (161 + 3)).toInt64)) + (((S.1 0) (165 + 3)).toInt64)) + (((S.1 0) (169 + 3)).toInt64)) + (((S.1 0) (173 + 3)).toInt64)) rfl _ hW hO _ hL ls (lv_sub hl [1] rfl)
          ·
            exact absurd c_11 (by decide)
theorem vb_X5_digest : VB yX5_digest cX5_digest 4 (some .long) 0 := ⟨q2278, q2279, q111, q2280, ⟨by decide, by decide, by decide +kernel⟩⟩
