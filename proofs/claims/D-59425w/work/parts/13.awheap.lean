/-! ROWS of the plain machine that read and write things -/
def gKs (D : Gd) : List (ClassId × FieldType) := [(D.2.2.1 0, .int), (D.2.2.1 1, .boolean), (D.2.2.1 2, .byte), (D.2.2.1 3, .long), (D.2.2.1 4, .object "java/lang/Object"), (D.2.2.1 5, .object "PermissionDesk$Thing"), (D.2.2.1 6, .object "PermissionDesk$Land"), (D.2.2.1 7, .object "PermissionDesk$Test")]
theorem KN.K {D : Gd} {U : State} (h : KN D U) : va_K D.2.1 gCl (gKs D) U := by
  refine ⟨h.1, fun k q hq => ?_⟩
  obtain ⟨-, h2, -⟩ := h
  match k, hq with
  | 0, hq => cases hq; exact h2 0 _ rfl
  | 1, hq => cases hq; exact h2 1 _ rfl
  | 2, hq => cases hq; exact h2 2 _ rfl
  | 3, hq => cases hq; exact h2 3 _ rfl
  | 4, hq => cases hq; exact h2 4 _ rfl
  | 5, hq => cases hq; exact h2 5 _ rfl
  | 6, hq => cases hq; exact h2 6 _ rfl
  | 7, hq => cases hq; exact h2 7 _ rfl
  | k + 8, hq => simp [gKs] at hq
/-- one thing, as the kit's world has it -/
def gWo (D : Gd) (a : Nat) : Ao → Nat × va_E
  | .inl q => (a, .inr q)
  | .inr q => (a, .inl (D.2.2.1 q.1, q.2))
theorem gR.obj {D : Gd} {H : Heap} {h : Hm} (hR : gR D H h) {a ci : Nat} {vs : List Value} (ha : h a = some (.inl (ci, vs))) {r : vw_C} (hc : gCl[ci]? = some r) : va_P D.2.1 gCl [(a, .inr (ci, vs))] H := by
  intro k q hk
  match k, hk with
  | 0, hk =>
    cases hk
    obtain ⟨-, h1, h2⟩ := hR.2.2 _ _ ha
    exact ⟨r, hc, by rw [h2 r hc]; exact h1⟩
  | k + 1, hk => simp at hk
theorem gR.arr {D : Gd} {H : Heap} {h : Hm} (hR : gR D H h) {a tg : Nat} {x : vp_A} (ha : h a = some (.inr (tg, x))) : va_P D.2.1 gCl [(a, .inl (D.2.2.1 tg, x))] H := by
  intro k q hk
  match k, hk with
  | 0, hk =>
    cases hk
    exact (hR.2.2 _ _ ha).2
  | k + 1, hk => simp at hk
/-- a field of a class, as a method of own names it -/
def gFld (own : String) (idx ci k : Nat) : Prop := ∃ (ref C : String) (T : u_T) (N : Nat), gCl[ci]? = some (C, T, N) ∧ k < N ∧ (∀ w ∈ u_ws C T N, w ∈ lw_all) ∧
  (Cond.fieldLink own idx ref (T k).2.1 (T k).2.2.1 ∈ lw_all ∨ ∃ host : String, Cond.fieldLinkNest own idx ref (T k).2.1 (T k).2.2.1 host ∈ lw_x) ∧ (ref = (T k).1 ∨ Cond.sameField ref (T k).1 (T k).2.1 (T k).2.2.1 ∈ lw_all)
theorem gFld.of {own C : String} {T : u_T} {N idx ci k : Nat} (hc : gCl[ci]? = some (C, T, N)) (hk : k < N) (hin : ∀ w ∈ u_ws C T N, w ∈ lw_all) (hl : Cond.fieldLink own idx (T k).1 (T k).2.1 (T k).2.2.1 ∈ lw_all) : gFld own idx ci k := ⟨_, C, T, N, hc, hk, hin, Or.inl hl, Or.inl rfl⟩
theorem gFld.ofN {own C host : String} {T : u_T} {N idx ci k : Nat} (hc : gCl[ci]? = some (C, T, N)) (hk : k < N) (hin : ∀ w ∈ u_ws C T N, w ∈ lw_all) (hl : Cond.fieldLinkNest own idx (T k).1 (T k).2.1 (T k).2.2.1 host ∈ lw_tbl) : gFld own idx ci k := ⟨_, C, T, N, hc, hk, hin, Or.inr ⟨host, lw_gx hl rfl⟩, Or.inl rfl⟩
theorem gFld.ofS {own C ref : String} {T : u_T} {N idx ci k : Nat} (hc : gCl[ci]? = some (C, T, N)) (hk : k < N) (hin : ∀ w ∈ u_ws C T N, w ∈ lw_all) (hl : Cond.fieldLink own idx ref (T k).2.1 (T k).2.2.1 ∈ lw_all) (hs : Cond.sameField ref (T k).1 (T k).2.1 (T k).2.2.1 ∈ lw_all) : gFld own idx ci k := ⟨_, C, T, N, hc, hk, hin, Or.inl hl, Or.inr hs⟩
/-- .. and how it's written: its type; fin: a final field, written by the class's constructor -/
def gPut (own : String) (idx ci k : Nat) (ty : FieldType) (fin : Bool) : Prop := ∃ (ref C : String) (T : u_T) (N : Nat) (ty0 : Nat → FieldType), gCl[ci]? = some (C, T, N) ∧ k < N ∧ (∀ w ∈ u_ws C T N, w ∈ lw_all) ∧
  (Cond.fieldLink own idx ref (T k).2.1 (T k).2.2.1 ∈ lw_all ∨ (fin = false ∧ ∃ host : String, Cond.fieldLinkNest own idx ref (T k).2.1 (T k).2.2.1 host ∈ lw_x)) ∧ (ref = (T k).1 ∨ Cond.sameField ref (T k).1 (T k).2.1 (T k).2.2.1 ∈ lw_all) ∧
  (∀ j, j < N → parseFieldDescriptor (T j).2.2.1 = some (ty0 j)) ∧ (∀ a, a < N → ∀ b, b < N → a ≠ b → (T a).2.1 ≠ (T b).2.1) ∧ ty0 k = ty ∧ (T k).2.2.2 = fin ∧ (fin = true → (T k).1 = own)
theorem gPut.of {own C : String} {T : u_T} {N idx ci k : Nat} {ty : FieldType} (ty0 : Nat → FieldType) (hc : gCl[ci]? = some (C, T, N)) (hk : k < N) (hin : ∀ w ∈ u_ws C T N, w ∈ lw_all) (hl : Cond.fieldLink own idx (T k).1 (T k).2.1 (T k).2.2.1 ∈ lw_all) (h1 : ∀ j, j < N → parseFieldDescriptor (T j).2.2.1 = some (ty0 j)) (h2 : ∀ a, a < N → ∀ b, b < N → a ≠ b → (T a).2.1 ≠ (T b).2.1) (h3 : ty0 k = ty) (h4 : (T k).2.2.2 = false) : gPut own idx ci k ty false := ⟨_, C, T, N, ty0, hc, hk, hin, Or.inl hl, Or.inl rfl, h1, h2, h3, h4, fun e => by cases e⟩
theorem gPut.ofF {own C : String} {T : u_T} {N idx ci k : Nat} {ty : FieldType} (ty0 : Nat → FieldType) (hc : gCl[ci]? = some (C, T, N)) (hk : k < N) (hin : ∀ w ∈ u_ws C T N, w ∈ lw_all) (hl : Cond.fieldLink own idx (T k).1 (T k).2.1 (T k).2.2.1 ∈ lw_all) (h1 : ∀ j, j < N → parseFieldDescriptor (T j).2.2.1 = some (ty0 j)) (h2 : ∀ a, a < N → ∀ b, b < N → a ≠ b → (T a).2.1 ≠ (T b).2.1) (h3 : ty0 k = ty) (h4 : (T k).2.2.2 = true) (h5 : (T k).1 = own) : gPut own idx ci k ty true := ⟨_, C, T, N, ty0, hc, hk, hin, Or.inl hl, Or.inl rfl, h1, h2, h3, h4, fun _ => h5⟩
theorem gPut.ofN {own C host : String} {T : u_T} {N idx ci k : Nat} {ty : FieldType} (ty0 : Nat → FieldType) (hc : gCl[ci]? = some (C, T, N)) (hk : k < N) (hin : ∀ w ∈ u_ws C T N, w ∈ lw_all) (hl : Cond.fieldLinkNest own idx (T k).1 (T k).2.1 (T k).2.2.1 host ∈ lw_tbl) (h1 : ∀ j, j < N → parseFieldDescriptor (T j).2.2.1 = some (ty0 j)) (h2 : ∀ a, a < N → ∀ b, b < N → a ≠ b → (T a).2.1 ≠ (T b).2.1) (h3 : ty0 k = ty) (h4 : (T k).2.2.2 = false) : gPut own idx ci k ty false := ⟨_, C, T, N, ty0, hc, hk, hin, Or.inr ⟨rfl, host, lw_gx hl rfl⟩, Or.inl rfl, h1, h2, h3, h4, fun e => by cases e⟩
theorem gPut.ofS {own C ref : String} {T : u_T} {N idx ci k : Nat} {ty : FieldType} (ty0 : Nat → FieldType) (hc : gCl[ci]? = some (C, T, N)) (hk : k < N) (hin : ∀ w ∈ u_ws C T N, w ∈ lw_all) (hl : Cond.fieldLink own idx ref (T k).2.1 (T k).2.2.1 ∈ lw_all) (hs : Cond.sameField ref (T k).1 (T k).2.1 (T k).2.2.1 ∈ lw_all) (h1 : ∀ j, j < N → parseFieldDescriptor (T j).2.2.1 = some (ty0 j)) (h2 : ∀ a, a < N → ∀ b, b < N → a ≠ b → (T a).2.1 ≠ (T b).2.1) (h3 : ty0 k = ty) (h4 : (T k).2.2.2 = false) : gPut own idx ci k ty false := ⟨_, C, T, N, ty0, hc, hk, hin, Or.inl hl, Or.inr hs, h1, h2, h3, h4, fun e => by cases e⟩
/-- making an object of a class -/
def gNew (own : String) (idx ci : Nat) (vs : List Value) : Prop := ∃ (C : String) (T : u_T) (ty0 : Nat → FieldType), gCl[ci]? = some (C, T, vs.length) ∧ (∀ w ∈ u_ws C T vs.length, w ∈ lw_all) ∧ (∀ j, j < vs.length → parseFieldDescriptor (T j).2.2.1 = some (ty0 j)) ∧ Cond.classLink own idx C ∈ lw_all ∧ Cond.instantiable C vs.length ∈ lw_all ∧ Cond.initialized C ∈ lw_all ∧ ∀ j, j < vs.length → defaultValue (ty0 j) = vp_V vs j
theorem gsame {s : State} {args : Array Value} {ref o f d : String} (hts : ∀ w ∈ lw_all, w.before args s = true) (h : ref = o ∨ Cond.sameField ref o f d ∈ lw_all) : ∀ x, s.fieldFound? o f d = some x → s.fieldFound? ref f d = some x := by
  rcases h with rfl | h
  · exact fun _ h => h
  · exact fun x hx => u_same (hts _ h) x hx
section GHEAP
variable {z : Cz} {D : Gd} {y : MethodName} {cc : ByteArray} {ret : Option FieldType} {hh : List (Nat × Nat × Nat × Nat)} {fr kc nc nL : Nat} {pc : Nat} {lv : List (Option Value)} {st : List Value} {h : Hm} {k n : Nat}
theorem aw_get (hX : gOk z D y cc ret hh fr kc nc nL) {idx ci j a : Nat} (hf : gFld y.cls idx ci j) {vs : List Value} {v : Value} (ha : h a = some (.inl (ci, vs))) (hv : vs[j]? = some v) (d : decode cc pc = .ok (.getfield idx, 3)) (kk : gW z (pc + 3) lv (v :: st) h k n) : gW z pc lv (.ref a :: st) h k n := by
  intro H locs ls hy
  obtain ⟨ref, C, T, N, hc, hk, hin, hl, hs⟩ := hf
  have hD : z.1 = D := hX.2.2.1.1
  have hK := hX.2.1.2.2.1.K
  have hP := gR.obj hy.1 ha hc
  rw [hD] at hP
  rcases hl with hl | ⟨host, hl⟩
  · exact va_get hX.1.1 hX.1.2.1 hX.1.2.2.2.2 hin hX.1.2.2.2.1 hK hP 0 rfl hc j hk (hX.1.2.2.2.2 _ hl) (gsame hX.1.2.2.2.2 hs) hv d (kk H locs ls hy)
  · exact va_getN hX.1.1 hX.1.2.1 hX.1.2.2.2.2 hin hX.1.2.2.2.1 hK hP 0 rfl hc j hk (va_Nw.use rfl (hX.2.1.2.2.1.2.2.1 _ hl)) (gsame hX.1.2.2.2.2 hs) hv d (kk H locs ls hy)
theorem aw_put (hX : gOk z D y cc ret hh fr kc nc nL) {idx ci j a : Nat} {ty : FieldType} (hf : gPut y.cls idx ci j ty false) {vs : List Value} {v : Value} (ha : h a = some (.inl (ci, vs))) (hn : narrow ty v = v) (hfit : fits ty v = true) (d : decode cc pc = .ok (.putfield idx, 3)) (kk : gW z (pc + 3) lv st (gset h a (.inl (ci, vs.set j v))) k n) : gW z pc lv (v :: .ref a :: st) h k n := by
  intro H locs ls hy
  obtain ⟨ref, C, T, N, ty0, hc, hk, hin, hl, hs, ht0, hnm, e1, e2, -⟩ := hf
  have hD : z.1 = D := hX.2.2.1.1
  have hK := hX.2.1.2.2.1.K
  obtain ⟨hb, hat⟩ := hy.1.2.2 _ _ ha
  obtain ⟨⟨cell, q1, q2, q3, q4⟩, hlen⟩ := hat
  have hN : N = vs.length := hlen _ hc
  rw [hD] at q2 q4
  have hap := va_apart (own := y.cls) hX.1.2.2.2.2 hin ty0 ht0 hnm hK hc
  obtain ⟨hS, hfc, kC, hkC, hkind⟩ := hK.1 ci _ hc
  obtain ⟨cf, kf, fi, f, hi, hsl⟩ := hS j hk
  have hlay := hX.1.2.2.2.2 _ (hin _ (u_in_lay hk))
  unfold u_lay at hlay
  rw [if_neg (by rw [e2]; decide)] at hlay
  have hst := (u_facts hfc hkC (u_lays hX.1.2.2.2.2 hin hk) hi).1
  have h6 := u_store hfc hkC hkind hlay hi ((ht0 j hk).trans (congrArg some e1)) hn hfit
  have fin : ∀ H' : Heap, H'[a]? = some (cell.setSlot f.slot v) → H'.size = H.size → (∀ q, q ≠ a → H'[q]? = H[q]?) → gWz z H' (locs ++ [⟨a, f.slot⟩]) k n (F0 z.2.2.1.2.1 (pc + 3) ls st) := by
    intro H' g1 g2 g3
    refine kk H' _ ls ⟨gR.put hy.1 hb g2 ⟨?_, fun r hr => ?_⟩ g3, hy.2.1.put g2 g3 hb, hy.2.2⟩
    · rw [hD]
      rw [hsl] at g1
      refine t_OB.to (V := updV (vp_V vs) j v) ⟨_, g1, q2, q3, fun i hi2 => ?_⟩ (fun i _ => vp_updV_set (hN ▸ hk) v i)
      exact t_set (N := vs.length) q4 (fun a b ha hb => hap a b (hN ▸ ha) (hN ▸ hb)) (hN ▸ hk) v i (by simpa using hi2)
    · rw [hlen r hr]
      simp
  rcases hl with hl | ⟨-, host, hl⟩
  · exact W.putK hX.1.1 hX.1.2.1 (f := f) ⟨hX.1.2.2.2.1, hX.1.2.2.2.2 _ hl, ⟨_, _, _, gsame hX.1.2.2.2.2 hs _ hi⟩, hst⟩ (by rw [q2]; exact h6) q1 q3 (by rw [hsl]; exact k2_hasslot (q4 j (hN ▸ hk))) rfl rfl d fin
  · exact va_WputK hX.1.1 hX.1.2.1 (f := f) hX.1.2.2.2.1 (va_Nw.use rfl (hX.2.1.2.2.1.2.2.1 _ hl)) (gsame hX.1.2.2.2.2 hs _ hi) hst (by rw [q2]; exact h6) q1 q3 (by rw [hsl]; exact k2_hasslot (q4 j (hN ▸ hk))) rfl rfl d fin
theorem aw_putF (hX : gOk z D y cc ret hh fr kc nc nL) {idx ci j a : Nat} {ty : FieldType} (hf : gPut y.cls idx ci j ty true) (hin2 : y.name = "<init>") {vs : List Value} {v : Value} (ha : h a = some (.inl (ci, vs))) (hn : narrow ty v = v) (hfit : fits ty v = true) (d : decode cc pc = .ok (.putfield idx, 3)) (kk : gW z (pc + 3) lv st (gset h a (.inl (ci, vs.set j v))) k n) : gW z pc lv (v :: .ref a :: st) h k n := by
  intro H locs ls hy
  obtain ⟨ref, C, T, N, ty0, hc, hk, hin, hl, hs, ht0, hnm, e1, e2, e3⟩ := hf
  have hD : z.1 = D := hX.2.2.1.1
  have hK := hX.2.1.2.2.1.K
  obtain ⟨hb, hat⟩ := hy.1.2.2 _ _ ha
  obtain ⟨⟨cell, q1, q2, q3, q4⟩, hlen⟩ := hat
  have hN : N = vs.length := hlen _ hc
  rw [hD] at q2 q4
  have hap := va_apart (own := y.cls) hX.1.2.2.2.2 hin ty0 ht0 hnm hK hc
  obtain ⟨hS, hfc, kC, hkC, hkind⟩ := hK.1 ci _ hc
  obtain ⟨cf, kf, fi, f, hi, hsl⟩ := hS j hk
  have hlay := hX.1.2.2.2.2 _ (hin _ (u_in_lay hk))
  unfold u_lay at hlay
  rw [if_pos e2] at hlay
  have hst := (u_facts hfc hkC (u_lays hX.1.2.2.2.2 hin hk) hi).1
  have hcf : z.2.2.1.2.1.cls = cf := by
    obtain ⟨_, _, c', _, _, _, -, -, hf', -, -, -, hown2, -⟩ := Cond.laysFinal_spec hlay
    have e1 : c' = cf := by have := hi.symm.trans hf'; simp at this; exact this.1.symm
    rw [e3 rfl] at hown2
    rw [← e1]; exact Option.some.inj (hX.1.2.2.2.1.symm.trans hown2)
  have h6 := u_fits hfc hkC hkind (Or.inr hlay) hi ((ht0 j hk).trans (congrArg some e1)) hn hfit
  rcases hl with hl | ⟨hl, -⟩
  · refine W.putFinK hX.1.1 hX.1.2.1 hX.1.2.2.2.1 (hX.1.2.2.2.2 _ hl) (gsame hX.1.2.2.2.2 hs _ hi) hst hcf (hX.2.1.2.2.2.2.1.trans hin2) (by rw [q2]; exact h6) q1 q3 (by rw [hsl]; exact k2_hasslot (q4 j (hN ▸ hk))) rfl rfl d fun H' g1 g2 g3 => ?_
    refine kk H' _ ls ⟨gR.put hy.1 hb g2 ⟨?_, fun r hr => ?_⟩ g3, hy.2.1.put g2 g3 hb, hy.2.2⟩
    · rw [hD]
      rw [hsl] at g1
      refine t_OB.to (V := updV (vp_V vs) j v) ⟨_, g1, q2, q3, fun i hi2 => ?_⟩ (fun i _ => vp_updV_set (hN ▸ hk) v i)
      exact t_set (N := vs.length) q4 (fun a b ha hb => hap a b (hN ▸ ha) (hN ▸ hb)) (hN ▸ hk) v i (by simpa using hi2)
    · rw [hlen r hr]
      simp
  · cases hl
theorem aw_new (hX : gOk z D y cc ret hh fr kc nc nL) {idx ci : Nat} {vs : List Value} (hf : gNew y.cls idx ci vs) (hk : k + 1 ≤ kc) (hn : n + vs.length ≤ nc) (d : decode cc pc = .ok (.new idx, 3)) (kk : ∀ a : Nat, h a = none → gW z (pc + 3) lv (.ref a :: st) (gset h a (.inl (ci, vs))) (k + 1) (n + vs.length)) : gW z pc lv st h k n := by
  intro H locs ls hy
  obtain ⟨C, T, ty0, hc, hin, hty, hl, hi, hini, hdv⟩ := hf
  have hD : z.1 = D := hX.2.2.1.1
  have hKn := hX.2.1.2.2.1.1 ci _ hc
  refine W.newcK hX.1.1 hX.1.2.1 hX.1.2.2.2.1 (hX.1.2.2.2.2 _ hl) (hX.1.2.2.2.2 _ hi) (hX.1.2.2.2.2 _ hini) rfl d (by rw [hX.2.2.1.2.2.2.2.1]; exact hk) (by rw [hX.2.2.1.2.2.2.2.2]; exact hn) hKn.2.1 rfl fun H1 kC hkC e1 z1 o1 => ?_
  have hp := gR.push (o := .inl (ci, vs)) hy.1 z1 ⟨by rw [hD]; exact (u_born ty0 hX.1.2.2.2.2 hin hKn hkC e1 hty).to hdv, fun r hr => by cases hc.symm.trans hr; rfl⟩ o1
  exact kk H.size hp.2 H1 locs ls ⟨hp.1, ⟨Nat.le_trans hy.2.1.1 (by omega), fun x h1 h2 => (o1 x (Nat.lt_of_lt_of_le h1 hy.2.1.1)).trans (hy.2.1.2.1 x h1 h2), hy.2.1.2.2⟩, hy.2.2⟩
/-! arrays: an index is told as a natural number -/
theorem gin {i n : Nat} (hi : i < n) (hn : n < 2147483648) : vp_in (nI i) n := vp_in_nI hi (by omega)
theorem aw_iald (hX : gOk z D y cc ret hh fr kc nc nL) {a m : Nat} {f : Nat → Int32} {x : Int32} (ha : h a = some (.inr (0, m, .inl f))) (i : Nat) (ei : x = nI i) (hi : i < m) (hm : m < 2147483648) (d : decode cc pc = .ok (.iaload, 1)) (kk : gW z (pc + 1) lv (.int (f i) :: st) h k n) : gW z pc lv (.int x :: .ref a :: st) h k n := by
  intro H locs ls hy
  subst ei
  have hP := gR.arr hy.1 ha
  rw [hX.2.2.1.1] at hP
  refine va_iald hX.1.1 hX.1.2.1 hX.2.1.2.2.1.K hP 0 0 rfl rfl (gin hi hm) d ?_
  rw [nI_clamp (by omega)]
  exact kk H locs ls hy
theorem aw_zald (hX : gOk z D y cc ret hh fr kc nc nL) {a m : Nat} {f : Nat → Int32} {x : Int32} (ha : h a = some (.inr (1, m, .inl f))) (i : Nat) (ei : x = nI i) (hi : i < m) (hm : m < 2147483648) (d : decode cc pc = .ok (.baload, 1)) (kk : gW z (pc + 1) lv (.int (f i) :: st) h k n) : gW z pc lv (.int x :: .ref a :: st) h k n := by
  intro H locs ls hy
  subst ei
  have hP := gR.arr hy.1 ha
  rw [hX.2.2.1.1] at hP
  refine va_zald hX.1.1 hX.1.2.1 hX.2.1.2.2.1.K hP 0 1 rfl rfl (gin hi hm) d ?_
  rw [nI_clamp (by omega)]
  exact kk H locs ls hy
theorem aw_bald (hX : gOk z D y cc ret hh fr kc nc nL) {a m : Nat} {f : Nat → Int32} {x : Int32} (ha : h a = some (.inr (2, m, .inl f))) (i : Nat) (ei : x = nI i) (hi : i < m) (hm : m < 2147483648) (d : decode cc pc = .ok (.baload, 1)) (kk : gW z (pc + 1) lv (.int (f i) :: st) h k n) : gW z pc lv (.int x :: .ref a :: st) h k n := by
  intro H locs ls hy
  subst ei
  have hP := gR.arr hy.1 ha
  rw [hX.2.2.1.1] at hP
  refine va_bald hX.1.1 hX.1.2.1 hX.2.1.2.2.1.K hP 0 2 rfl rfl (gin hi hm) d ?_
  rw [nI_clamp (by omega)]
  exact kk H locs ls hy
theorem aw_lald (hX : gOk z D y cc ret hh fr kc nc nL) {a m : Nat} {f : Nat → Int64} {x : Int32} (ha : h a = some (.inr (3, m, .inr (.inl f)))) (i : Nat) (ei : x = nI i) (hi : i < m) (hm : m < 2147483648) (d : decode cc pc = .ok (.laload, 1)) (kk : gW z (pc + 1) lv (.long (f i) :: st) h k n) : gW z pc lv (.int x :: .ref a :: st) h k n := by
  intro H locs ls hy
  subst ei
  have hP := gR.arr hy.1 ha
  rw [hX.2.2.1.1] at hP
  refine va_lald hX.1.1 hX.1.2.1 hX.2.1.2.2.1.K hP 0 3 rfl rfl (gin hi hm) d ?_
  rw [nI_clamp (by omega)]
  exact kk H locs ls hy
theorem aw_aald (hX : gOk z D y cc ret hh fr kc nc nL) {a m tg : Nat} {f : Nat → Option Nat} {x : Int32} (ha : h a = some (.inr (tg, m, .inr (.inr (.inr (.inr f)))))) (htg : 4 ≤ tg ∧ tg ≤ 7) (i : Nat) (ei : x = nI i) (hi : i < m) (hm : m < 2147483648) (d : decode cc pc = .ok (.aaload, 1)) (kk : gW z (pc + 1) lv (va_rf (f i) :: st) h k n) : gW z pc lv (.int x :: .ref a :: st) h k n := by
  intro H locs ls hy
  subst ei
  have hP := gR.arr hy.1 ha
  rw [hX.2.2.1.1] at hP
  obtain ⟨C, hC⟩ : ∃ C : String, (gKs D)[tg]? = some (D.2.2.1 tg, .object C) := by
    obtain ⟨h4, h7⟩ := htg
    rcases (show tg = 4 ∨ tg = 5 ∨ tg = 6 ∨ tg = 7 by omega) with e | e | e | e <;> subst e <;> exact ⟨_, rfl⟩
  refine va_aldq hX.1.1 hX.1.2.1 hX.2.1.2.2.1.K hP 0 tg rfl hC (gin hi hm) d ?_
  rw [nI_clamp (by omega)]
  exact kk H locs ls hy
theorem aw_alen (hX : gOk z D y cc ret hh fr kc nc nL) {a tg m : Nat} {x : (Nat → Int32) ⊕ (Nat → Int64) ⊕ (Nat → UInt32) ⊕ (Nat → UInt64) ⊕ (Nat → Option Nat)} (ha : h a = some (.inr (tg, m, x))) (htg : tg < 8) (d : decode cc pc = .ok (.arraylength, 1)) (kk : gW z (pc + 1) lv (.int (nI m) :: st) h k n) : gW z pc lv (.ref a :: st) h k n := by
  intro H locs ls hy
  have hP := gR.arr hy.1 ha
  rw [hX.2.2.1.1] at hP
  obtain ⟨C, hC⟩ : ∃ C : FieldType, (gKs D)[tg]? = some (D.2.2.1 tg, C) := by
    rcases (show tg = 0 ∨ tg = 1 ∨ tg = 2 ∨ tg = 3 ∨ tg = 4 ∨ tg = 5 ∨ tg = 6 ∨ tg = 7 by omega) with e | e | e | e | e | e | e | e <;> subst e <;> exact ⟨_, rfl⟩
  exact va_alen (v := nI m) hX.1.1 hX.1.2.1 hX.2.1.2.2.1.K hP 0 tg rfl hC rfl d (kk H locs ls hy)
theorem gstore {D : Gd} {cA : ClassId} {a m i : Nat} {f g : Nat → Value} {v : Value} {x y : vp_A} {H1 : Heap} (hx : vp_cell cA x = arrV cA m f) (hy : vp_cell cA y = arrV cA m g) (hg : ∀ j, g j = if j = i then v else f j) (e : H1[a]? = some ((vp_cell cA x).setSlot i v)) : H1[a]? = some (vp_cell cA y) := by
  rw [e, hx, hy, arrV_store]
  congr 2
  funext j
  rw [hg]
  rfl
theorem aw_iast (hX : gOk z D y cc ret hh fr kc nc nL) {a m : Nat} {f : Nat → Int32} {x v : Int32} (ha : h a = some (.inr (0, m, .inl f))) (i : Nat) (ei : x = nI i) (hi : i < m) (hm : m < 2147483648) (d : decode cc pc = .ok (.iastore, 1)) (kk : gW z (pc + 1) lv st (gset h a (.inr (0, m, .inl (upd f i v)))) k n) : gW z pc lv (.int v :: .int x :: .ref a :: st) h k n := by
  intro H locs ls hy
  subst ei
  obtain ⟨hb, hat⟩ := hy.1.2.2 _ _ ha
  have hD : z.1 = D := hX.2.2.1.1
  refine W.iast hX.1.1 hX.1.2.1 hat (by rw [hD]; exact (hX.2.1.2.2.1.2.1 0 _ rfl).1 m (fun j => .int (f j))) (fun q => by cases q) (by show ¬ (_ < 0 ∨ (arrV _ _ _).slots.size ≤ _); rw [arrV_size]; exact gin hi hm) rfl rfl d fun H1 e z1 oq => ?_
  rw [nI_clamp (by omega)] at e ⊢
  exact kk H1 _ ls ⟨gR.put hy.1 hb z1 (gstore (D := D) (i := i) (v := .int v) (vp_cell_i _ _ _) (vp_cell_i _ _ _) (fun j => by simp [upd]; split <;> rfl) e) oq, hy.2.1.put z1 oq hb, hy.2.2⟩
theorem aw_zast (hX : gOk z D y cc ret hh fr kc nc nL) {a m : Nat} {f : Nat → Int32} {x v : Int32} (ha : h a = some (.inr (1, m, .inl f))) (i : Nat) (ei : x = nI i) (hi : i < m) (hm : m < 2147483648) (hv : narrow .boolean (.int v) = .int v) (d : decode cc pc = .ok (.bastore, 1)) (kk : gW z (pc + 1) lv st (gset h a (.inr (1, m, .inl (upd f i v)))) k n) : gW z pc lv (.int v :: .int x :: .ref a :: st) h k n := by
  intro H locs ls hy
  subst ei
  obtain ⟨hb, hat⟩ := hy.1.2.2 _ _ ha
  have hD : z.1 = D := hX.2.2.1.1
  refine W.zast hX.1.1 hX.1.2.1 hat (by rw [hD]; exact (hX.2.1.2.2.1.2.1 1 _ rfl).1 m (fun j => .int (f j))) (fun q => by cases q) (by show ¬ (_ < 0 ∨ (arrV _ _ _).slots.size ≤ _); rw [arrV_size]; exact gin hi hm) rfl rfl d fun H1 e z1 oq => ?_
  rw [nI_clamp (by omega)] at e ⊢
  rw [hv] at e
  exact kk H1 _ ls ⟨gR.put hy.1 hb z1 (gstore (D := D) (i := i) (v := .int v) (vp_cell_i _ _ _) (vp_cell_i _ _ _) (fun j => by simp [upd]; split <;> rfl) e) oq, hy.2.1.put z1 oq hb, hy.2.2⟩
theorem aw_bast (hX : gOk z D y cc ret hh fr kc nc nL) {a m : Nat} {f : Nat → Int32} {x v w : Int32} (ha : h a = some (.inr (2, m, .inl f))) (i : Nat) (ei : x = nI i) (hi : i < m) (hm : m < 2147483648) (hv : narrow .byte (.int v) = .int w) (d : decode cc pc = .ok (.bastore, 1)) (kk : gW z (pc + 1) lv st (gset h a (.inr (2, m, .inl (upd f i w)))) k n) : gW z pc lv (.int v :: .int x :: .ref a :: st) h k n := by
  intro H locs ls hy
  subst ei
  obtain ⟨hb, hat⟩ := hy.1.2.2 _ _ ha
  have hD : z.1 = D := hX.2.2.1.1
  refine W.bast hX.1.1 hX.1.2.1 hat (by rw [hD]; exact (hX.2.1.2.2.1.2.1 2 _ rfl).1 m (fun j => .int (f j))) (fun q => by cases q) (by show ¬ (_ < 0 ∨ (arrV _ _ _).slots.size ≤ _); rw [arrV_size]; exact gin hi hm) rfl rfl d fun H1 e z1 oq => ?_
  rw [nI_clamp (by omega)] at e ⊢
  rw [hv] at e
  exact kk H1 _ ls ⟨gR.put hy.1 hb z1 (gstore (D := D) (i := i) (v := .int w) (vp_cell_i _ _ _) (vp_cell_i _ _ _) (fun j => by simp [upd]; split <;> rfl) e) oq, hy.2.1.put z1 oq hb, hy.2.2⟩
theorem aw_last (hX : gOk z D y cc ret hh fr kc nc nL) {a m : Nat} {f : Nat → Int64} {x : Int32} {v : Int64} (ha : h a = some (.inr (3, m, .inr (.inl f)))) (i : Nat) (ei : x = nI i) (hi : i < m) (hm : m < 2147483648) (d : decode cc pc = .ok (.lastore, 1)) (kk : gW z (pc + 1) lv st (gset h a (.inr (3, m, .inr (.inl (vp_updL f i v))))) k n) : gW z pc lv (.long v :: .int x :: .ref a :: st) h k n := by
  intro H locs ls hy
  subst ei
  obtain ⟨hb, hat⟩ := hy.1.2.2 _ _ ha
  have hD : z.1 = D := hX.2.2.1.1
  refine W.last hX.1.1 hX.1.2.1 hat (by rw [hD]; exact (hX.2.1.2.2.1.2.1 3 _ rfl).1 m (fun j => .long (f j))) (fun q => by cases q) (by show ¬ (_ < 0 ∨ (arrV _ _ _).slots.size ≤ _); rw [arrV_size]; exact gin hi hm) rfl rfl d fun H1 e z1 oq => ?_
  rw [nI_clamp (by omega)] at e ⊢
  exact kk H1 _ ls ⟨gR.put hy.1 hb z1 (gstore (D := D) (i := i) (v := .long v) (vp_cell_l _ _ _) (vp_cell_l _ _ _) (fun j => by simp [vp_updL]; split <;> rfl) e) oq, hy.2.1.put z1 oq hb, hy.2.2⟩
theorem gtag {D : Gd} {U : State} (hK : KN D U) {tg : Nat} (htg : 4 ≤ tg ∧ tg ≤ 7) : ∃ C : String, gTy[tg]? = some (.object C) ∧ ArrOfT U (D.2.2.1 tg) (.object C) ∧ va_RA U (D.2.2.1 tg) (.object C) := by
  obtain ⟨h4, h7⟩ := htg
  rcases (show tg = 4 ∨ tg = 5 ∨ tg = 6 ∨ tg = 7 by omega) with e | e | e | e <;> subst e <;> exact ⟨_, rfl, hK.2.1 _ _ rfl⟩
theorem aw_aastN (hX : gOk z D y cc ret hh fr kc nc nL) {a m tg : Nat} {f : Nat → Option Nat} {x : Int32} (ha : h a = some (.inr (tg, m, .inr (.inr (.inr (.inr f)))))) (htg : 4 ≤ tg ∧ tg ≤ 7) (i : Nat) (ei : x = nI i) (hi : i < m) (hm : m < 2147483648) (d : decode cc pc = .ok (.aastore, 1)) (kk : gW z (pc + 1) lv st (gset h a (.inr (tg, m, .inr (.inr (.inr (.inr (va_up f i none))))))) k n) : gW z pc lv (.null :: .int x :: .ref a :: st) h k n := by
  intro H locs ls hy
  subst ei
  obtain ⟨hb, hat⟩ := hy.1.2.2 _ _ ha
  have hD : z.1 = D := hX.2.2.1.1
  obtain ⟨C, -, hC, -⟩ := gtag hX.2.1.2.2.1 htg
  refine va_WaastN (C := C) hX.1.1 hX.1.2.1 hat (by rw [hD]; exact hC m (fun j => va_rf (f j))) (fun q => by cases q) (by show ¬ (_ < 0 ∨ (arrV _ _ _).slots.size ≤ _); rw [arrV_size]; exact gin hi hm) rfl rfl d fun H1 e z1 oq => ?_
  rw [nI_clamp (by omega)] at e ⊢
  exact kk H1 _ ls ⟨gR.put hy.1 hb z1 (gstore (D := D) (i := i) (v := .null) (vp_cell_q _ _ _) (vp_cell_q _ _ _) (fun j => by simp [va_up]; split <;> rfl) e) oq, hy.2.1.put z1 oq hb, hy.2.2⟩
/-- objects of this class may stand in arrays of this tag -/
def gCast (ci tg : Nat) : Prop := ∃ (r : vw_C) (E : String), gCl[ci]? = some r ∧ gTy[tg]? = some (.object E) ∧ (r.1 = E ∨ Cond.castable r.1 E ∈ lw_x)
theorem aw_aast (hX : gOk z D y cc ret hh fr kc nc nL) {a m tg ci v : Nat} {vs : List Value} {f : Nat → Option Nat} {x : Int32} (ha : h a = some (.inr (tg, m, .inr (.inr (.inr (.inr f)))))) (hv : h v = some (.inl (ci, vs))) (hc : gCast ci tg) (i : Nat) (ei : x = nI i) (hi : i < m) (hm : m < 2147483648) (d : decode cc pc = .ok (.aastore, 1)) (kk : gW z (pc + 1) lv st (gset h a (.inr (tg, m, .inr (.inr (.inr (.inr (va_up f i (some v)))))))) k n) : gW z pc lv (.ref v :: .int x :: .ref a :: st) h k n := by
  intro H locs ls hy
  subst ei
  obtain ⟨hb, hat⟩ := hy.1.2.2 _ _ ha
  have hD : z.1 = D := hX.2.2.1.1
  obtain ⟨r, E, c1, c2, c3⟩ := hc
  obtain ⟨-, hRA⟩ := hX.2.1.2.2.1.2.1 _ _ c2
  obtain ⟨kA, comp, k1, k2, k3, -⟩ := hRA
  obtain ⟨-, ⟨⟨cellV, g1, g2, g3, -⟩, -⟩⟩ := hy.1.2.2 _ _ hv
  have hcls := (hX.2.1.2.2.1.1 ci r c1).2
  rw [hD] at g2
  obtain ⟨kC, hkC, -⟩ := hcls.2
  have hca : z.2.2.1.1.vm.assignable (D.2.1.1 ci) comp = true ∧ ∃ kE : Class, z.2.2.1.1.vm.classes[comp]? = some kE := by
    rcases c3 with c3 | c3
    · subst c3
      have hcomp : comp = D.2.1.1 ci := Option.some.inj (k3.symm.trans hcls.1)
      subst hcomp
      exact ⟨va_assign hcls, kC, hkC⟩
    · obtain ⟨kE, hkE, -⟩ := Vm.findClass_spec k3
      obtain ⟨c0, t1, f1, f2, f3⟩ := Cond.castable_spec (va_Nw.use (A := z.2.2.1.2.2.1) rfl (hX.2.1.2.2.1.2.2.1 _ c3))
      cases hcls.1.symm.trans f1
      cases k3.symm.trans f2
      exact ⟨f3, kE, hkE⟩
  obtain ⟨hca, kE, hkE⟩ := hca
  refine W.aast hX.1.1 hX.1.2.1 hat (fun q h => by cases h) (fun h => by cases h) (by rw [hD]; exact k1) k2 rfl hkE ⟨fun q => (gin hi hm) (Or.inl q), by show _ < (arrV _ _ _).slots.size; rw [arrV_size, nI_clamp (by omega)]; exact hi⟩ g1 (fun q h => by rw [g3] at h; cases h) (by rw [g2]; exact hkC) (by rw [g2]; exact hca) rfl rfl d fun H1 e z1 oq => ?_
  rw [nI_clamp (by omega)] at e ⊢
  exact kk H1 _ ls ⟨gR.put hy.1 hb z1 (gstore (D := D) (i := i) (v := .ref v) (vp_cell_q _ _ _) (vp_cell_q _ _ _) (fun j => by simp [va_up]; split <;> rfl) e) oq, hy.2.1.put z1 oq hb, hy.2.2⟩
theorem aw_anew (hX : gOk z D y cc ret hh fr kc nc nL) {idx tg : Nat} {C : String} {x : Int32} (htg : gTy[tg]? = some (.object C)) (hl : Cond.classLink y.cls idx C ∈ lw_all) (hao : Cond.arrayOver (.object C) ∈ lw_tbl) (m : Nat) (em : x = nI m) (hm : m < 134217728) (hk : k + 1 ≤ kc) (hn : n + m ≤ nc) (d : decode cc pc = .ok (.anewarray idx, 3)) (kk : ∀ a : Nat, h a = none → gW z (pc + 3) lv (.ref a :: st) (gset h a (.inr (tg, m, .inr (.inr (.inr (.inr (fun _ => none))))))) (k + 1) (n + m)) : gW z pc lv (.int x :: st) h k n := by
  intro H locs ls hy
  subst em
  have hD : z.1 = D := hX.2.2.1.1
  have hcl : (nI m).toNatClampNeg = m := nI_clamp (by omega)
  obtain ⟨kA0, comp0, k1, k2, k3, k4⟩ := (hX.2.1.2.2.1.2.1 _ _ htg).2
  refine W.anew hX.1.1 hX.1.2.1 hX.1.2.2.2.1 (hX.1.2.2.2.2 _ hl) (va_AO.use (hX.2.1.2.2.1.2.2.1 _ (lw_gx hao rfl))) rfl d rfl (nI_pos (by omega)) (by rw [hcl]; omega) (by rw [hX.2.2.1.2.2.2.2.1]; exact hk) (by rw [hX.2.2.1.2.2.2.2.2, hcl]; exact hn) fun cA kA comp f1 f2 f3 f4 => ?_
  rw [hcl]
  generalize hH1 : H.push ({ cls := cA, slots := Array.replicate m .null, vm := .none } : Cell) = H1
  have z1 : H1.size = H.size + 1 := by rw [← hH1, Array.size_push]
  have e1 : H1[H.size]? = some (arrV cA m (fun _ => .null)) := by rw [← hH1, Array.getElem?_push_size, ← arrV_new]
  have o1 : ∀ q : Nat, q < H.size → H1[q]? = H[q]? := fun q hq => by rw [← hH1, Array.getElem?_push, if_neg (Nat.ne_of_lt hq)]
  have hcA : cA = D.2.2.1 tg := Option.some.inj (f1.symm.trans k4)
  have hp := gR.push (o := .inr (tg, m, .inr (.inr (.inr (.inr (fun _ => none)))))) hy.1 z1 (by rw [hD]; show H1[H.size]? = some (vp_cell _ _); rw [vp_cell_q, ← hcA]; exact e1) o1
  exact kk H.size hp.2 H1 locs ls ⟨hp.1, ⟨Nat.le_trans hy.2.1.1 (by omega), fun x h1 h2 => (o1 x (Nat.lt_of_lt_of_le h1 hy.2.1.1)).trans (hy.2.1.2.1 x h1 h2), hy.2.1.2.2⟩, hy.2.2⟩
theorem aw_newa (hX : gOk z D y cc ret hh fr kc nc nL) {tg : Nat} {atype : ArrayType} {ty : FieldType} {a0 : (Nat → Int32) ⊕ (Nat → Int64) ⊕ (Nat → UInt32) ⊕ (Nat → UInt64) ⊕ (Nat → Option Nat)} {x : Int32} (hty : newarray.typeOf atype = ty) (htg : gTy[tg]? = some ty) (hw : Cond.arrayClass ty ∈ lw_all) (hp : ∀ C, ty ≠ .object C) (m : Nat) (h0 : ∀ cA : ClassId, vp_cell cA (m, a0) = arrV cA m (fun _ => defaultValue ty)) (em : x = nI m) (hm : m * componentBytes ty ≤ 536870912) (hm2 : m < 2147483648) (hk : k + 1 ≤ kc) (hn : n + m ≤ nc) (d : decode cc pc = .ok (.newarray atype, 2)) (kk : ∀ a : Nat, h a = none → gW z (pc + 2) lv (.ref a :: st) (gset h a (.inr (tg, m, a0))) (k + 1) (n + m)) : gW z pc lv (.int x :: st) h k n := by
  intro H locs ls hy
  subst em
  subst hty
  have hD : z.1 = D := hX.2.2.1.1
  have hRA := (hX.2.1.2.2.1.2.1 _ _ htg).2
  refine va_newaK hX.1.1 hX.1.2.1 (hX.1.2.2.2.2 _ hw) rfl d rfl (nI_pos (by omega)) (nI_clamp (by omega)) hm (by rw [hX.2.2.1.2.2.2.2.1]; exact hk) (by rw [hX.2.2.1.2.2.2.2.2]; exact hn) rfl fun H1 cA e1 z1 o1 hAr hNm => ?_
  have hcA : cA = D.2.2.1 tg := by
    have h9 : z.2.2.1.1.vm.findClass ("[" ++ (newarray.typeOf atype).toString) = some (D.2.2.1 tg) := by
      unfold va_RA at hRA
      split at hRA
      · exact absurd (by assumption) (hp _)
      · exact hRA
    exact Option.some.inj (hNm.symm.trans h9)
  have hp := gR.push (o := .inr (tg, m, a0)) hy.1 z1 (by rw [hD]; show H1[H.size]? = some (vp_cell _ _); rw [h0, ← hcA]; exact e1) o1
  exact kk H.size hp.2 H1 locs ls ⟨hp.1, ⟨Nat.le_trans hy.2.1.1 (by omega), fun x h1 h2 => (o1 x (Nat.lt_of_lt_of_le h1 hy.2.1.1)).trans (hy.2.1.2.1 x h1 h2), hy.2.1.2.2⟩, hy.2.2⟩
end GHEAP
