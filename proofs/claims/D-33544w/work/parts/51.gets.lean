/-! a static field -/
section GETS
variable {p : Program} {l : Launch} {e : Env} {R : Room} {s : State} {m : MethodId} {args : Array Value} {below : List Frame} {meth : Method} {c : Code} {H : Heap} {locs : List Loc} {cells slots : Nat} {Q : State → Prop}
variable {cc : ByteArray} {nL pc index : Nat} {ls : Array Slot} {y : MethodName} {ret : Option FieldType} {g : GT} {rest : List Value}
theorem r_gs {C n d ref : String} {v : Value} (X : Cx p g s m args meth c cc nL y ret) (hL : ∀ q ∈ locs, gLo g ≤ q.base) (hZ : va_Z C n d v (fun q => gLo g ≤ q) s (gB g)) (hlink : Cond.fieldLink y.cls index ref n d ∈ lw_all) (hsame : ∀ x, s.fieldFound? C n d = some x → s.fieldFound? ref n d = some x) (hdg : decode cc pc = .ok (.getstatic index, 3))
    (kk : W p l e R s m args below meth c H locs cells slots Q (F0 m (pc + 3) ls (v :: rest))) : W p l e R s m args below meth c H locs cells slots Q (F0 m pc ls rest) := by
  obtain ⟨hx, hb, hml, hown, hts, hrt, hlk, ⟨hKV, hB⟩, hnm⟩ := X
  obtain ⟨cf, kf, fi, f, a, cell, h1, h2, h3, h4, h5, h6, h7, h8⟩ := hZ
  intro T hT XT
  have hBH : Base g H := by rw [← hT]; exact base_at XT hL hB
  have hca : H[a]? = some cell := (hBH.2.1 a (Nat.not_le.mp h8)).trans h5
  have hne : cell.vm ≠ .unknown := fun z => by rw [z] at h6; cases h6
  have hw : W p l e R s m args below meth c H locs cells slots Q (F0 m pc ls rest) := W.gets (g := F0 m pc ls rest) hx hb hown (hts _ hlink) (hsame _ h1) h2 h3 h4 hca hne h7 rfl hdg kk
  exact hw T hT XT
/-- the empty array of all empty lists -/
theorem gE_at {H : Heap} (hKV : KV g s) (hB : Base g H) : Aq g (gE g) 4 0 (fun _ => none) H := by
  obtain ⟨-, -, -, -, -, -, -, -, -, -, -, ⟨ce, k1, k2⟩, h9, h10⟩ := hKV
  exact ⟨ce, by rw [hB.2.1 _ h9]; exact k1, fun e => absurd rfl e, fun _ => ⟨rfl, k2⟩⟩
end GETS
