/-! ROWS of the plain machine: throws and their catching, casts, statics -/
section GEXC
variable {z : Cz} {D : Gd} {y : MethodName} {cc : ByteArray} {ret : Option FieldType} {hh : List (Nat × Nat × Nat × Nat)} {fr kc nc nL : Nat} {pc : Nat} {lv : List (Option Value)} {st : List Value} {h : Hm} {k n : Nat}
theorem KN.nw {D : Gd} {U : State} (hK : KN D U) {w : Cond} {A : Array Value} (hw : w ∈ lw_x) (ht : w.onTables = true) : w.before A U = true := va_Nw.use ht (hK.2.2.1 _ hw)
theorem KN.sta {D : Gd} {U : State} (hK : KN D U) : KS D U := hK.2.2.2.2.2
theorem va_Zk {C n d : String} {v : Value} {z : Cz} {U : State} {H : Heap} {D : Gd} (h : va_Z C n d v (gA D) U D.1) (hq : ∀ q : Nat, q < D.1.size → H[q]? = D.1[q]?) : va_Z C n d v (gA D) U H := h.kept (fun a h1 _ => hq a h1)
/-- thrown here and not caught: a method without handlers -/
theorem gX.out (hX : gOk z D y cc ret [] fr kc nc nL) {E : String} {q : Nat} (hk : k ≤ kc) (hn : n ≤ nc) (hq : z.2.2.2.2.2 E q h) : gX z pc lv h k n E q := by
  intro H locs ls ce rest hy hce hcv hcl
  have e1 : z.2.2.2.1.1 = kc := hX.2.2.2.1
  have e2 : z.2.2.2.1.2.1 = nc := hX.2.2.2.2.1
  refine vx_out (E := E) (ce := ce) (fun x hx => ?_) hX.2.1.1 hce hcv hcl (fun t ht _ => ⟨⟨h, hq, by rw [ht]; exact hy.1⟩, hy.2.1.F ht⟩) hy.2.1.2.2 (by rw [e1]; exact hk) (by rw [e2]; exact hn)
  rw [hX.2.1.2.2.2.2.2] at hx
  cases hx
/-- caught by the handler x; pre: those ahead of it, which don't take it -/
theorem gX.catch (hX : gOk z D y cc ret hh fr kc nc nL) {E name : String} {q : Nat} (pre : List (Nat × Nat × Nat × Nat)) (x : Nat × Nat × Nat × Nat) (suf : List (Nat × Nat × Nat × Nat)) (hs : hh = pre ++ x :: suf)
    (hp : ∀ w ∈ pre, covers ⟨w.1, w.2.1, w.2.2.1, w.2.2.2⟩ pc = false ∨ (w.2.2.2 ≠ 0 ∧ ∃ nm : String, Cond.classLink y.cls w.2.2.2 nm ∈ lw_all ∧ (E, nm) ∈ gNc)) (hx : covers ⟨x.1, x.2.1, x.2.2.1, x.2.2.2⟩ pc = true) (h0 : x.2.2.2 ≠ 0) (hl : Cond.classLink y.cls x.2.2.2 name ∈ lw_all) (hc : Cond.castable E name ∈ lw_tbl)
    (kk : gW z x.2.2.1 lv [.ref q] h k n) : gX z pc lv h k n E q := by
  intro H locs ls ce rest hy hce hcv hcl
  refine vx_catch (E := E) (ce := ce) (name := name) (own := y.cls) hX.1.2.2.2.1 (tableOf pre) ⟨x.1, x.2.1, x.2.2.1, x.2.2.2⟩ (tableOf suf) ?_ ?_ hx h0 (hX.1.2.2.2.2 _ hl) (hX.2.1.2.2.1.nw (lw_gx hc rfl) rfl) hce hcv hcl (kk H locs ls hy)
  · rw [hX.2.1.2.2.2.2.2, hs]
    simp [tableOf]
  · intro w hw
    obtain ⟨w0, hw0, rfl⟩ := List.mem_map.mp hw
    rcases hp w0 hw0 with h1 | ⟨h1, nm, h2, h3⟩
    · exact Or.inl h1
    · exact Or.inr ⟨h1, nm, hX.1.2.2.2.2 _ h2, hX.2.1.2.2.1.2.2.2.2.1 _ h3⟩
/-- 'throw new E()' of a library's exception, in a method without handlers -/
theorem aw_throw0 (hX : gOk z D y cc ret [] fr kc nc nL) {cls : String} {names : List String} {ik ic : Nat} (hcls : Bundle.fit cls = true) (hnames : ∀ n ∈ names, Bundle.fit n = true) (hkl : Cond.classLink y.cls ik cls ∈ lw_all) (hini : Cond.initialized cls ∈ lw_all) (hat : ∀ w ∈ vx_at0 y.cls ic cls names, w ∈ lw_all ∨ w ∈ lw_x) (hgood : ∀ w ∈ vx_at0 y.cls ic cls names, vx_ot w = true) (hot : ∀ w ∈ vx_at0 y.cls ic cls names, w ∈ lw_x → w.onTables = true)
    (hfr : names.length + 3 < fr) (hst : (st.map fun v => v.category).sum + (13 * (names.length + 1) + 42) ≤ 64 * fr) (hk : k + 1 ≤ kc) (hn : n + 6 ≤ nc)
    (d0 : decode cc pc = .ok (.new ik, 3)) (d3 : decode cc (pc + 3) = .ok (.dup, 1)) (d4 : decode cc (pc + 4) = .ok (.invokespecial ic, 3)) (d7 : decode cc (pc + 7) = .ok (.athrow, 1)) (hq : ∀ q : Nat, z.2.2.2.2.2 cls q h) : gW z pc lv st h k n := by
  intro H locs ls hy
  have e1 : z.2.2.2.1.1 = kc := hX.2.2.2.1
  have e2 : z.2.2.2.1.2.1 = nc := hX.2.2.2.2.1
  have hD : z.1 = D := hX.2.2.1.1
  obtain ⟨-, -, -, -, -, hU, hN⟩ := hX.2.1.2.2.1.sta
  have hb0 : D.1.size ≤ z.2.2.1.1.heap.size := hX.2.2.1.2.1
  have hk0 : ∀ q : Nat, q < D.1.size → z.2.2.1.1.heap[q]? = D.1[q]? := fun q hq => by
    have h1 := hy.1.2.1 q (by rw [hD]; exact hq)
    rw [hD] at h1
    rw [← h1]
    exact (hy.2.1.2.1 q (by omega) (by rw [hD]; exact Nat.not_le.mpr hq)).symm
  refine vx_throw0 hX.1.1 hX.1.2.1 hX.2.1.2.1 (own := y.cls) (A := gA z.1) hX.1.2.2.2.1 hcls hnames (hX.1.2.2.2.2 _ hkl) (hX.1.2.2.2.2 _ hini) (fun w hw => ?_) (fun w hw => ?_) (by rw [hD]; exact hU.kept (fun a h1 _ => hk0 a h1)) (by rw [hD]; exact hN.kept (fun a h1 _ => hk0 a h1)) hy.2.1 (hy.2.2.1.trans (hX.2.2.2.2.2.trans hX.1.2.2.1.symm)) d0 d3 d4 d7 (fun x hx => ?_)
    (Nat.lt_of_lt_of_le hfr hX.2.2.1.2.2.1) (Nat.le_trans hst hX.2.2.1.2.2.2.1) (by rw [hX.2.2.1.2.2.2.2.1]; exact hk) (by rw [hX.2.2.1.2.2.2.2.2]; exact hn) hX.2.1.1 (fun t _ h2 h3 => ?_) hy.2.1.2.2 (by rw [e1]; exact hk) (by rw [e2]; exact hn)
  · rcases hat w hw with h1 | h1
    · exact hX.1.2.2.2.2 _ h1
    · exact hX.2.1.2.2.1.nw h1 (hot w hw h1)
  · rcases List.mem_cons.mp hw with rfl | hw
    · rfl
    · rcases List.mem_cons.mp hw with rfl | hw
      · rfl
      · exact hgood w hw
  · rw [hX.2.1.2.2.2.2.2] at hx
    cases hx
  · refine ⟨⟨h, hq _, ?_⟩, ⟨Nat.le_trans hy.2.1.1 h2, fun q h4 h5 => (h3 q (Nat.lt_of_lt_of_le h4 hy.2.1.1)).trans (hy.2.1.2.1 q h4 h5)⟩⟩
    obtain ⟨g1, g2, g3⟩ := hy.1
    exact ⟨Nat.le_trans g1 h2, fun q hq => (h3 q (by omega)).trans (g2 q hq), fun a o ha => ⟨(g3 a o ha).1, (g3 a o ha).2.kept (h3 a (g3 a o ha).2.lt)⟩⟩
/-! casts -/
theorem aw_cast (hX : gOk z D y cc ret hh fr kc nc nL) {idx a ci : Nat} {vs : List Value} {r : vw_C} {nm : String} (ha : h a = some (.inl (ci, vs))) (hc : gCl[ci]? = some r) (hl : Cond.classLink y.cls idx nm ∈ lw_all) (hca : r.1 = nm ∨ Cond.castable r.1 nm ∈ lw_tbl) (d : decode cc pc = .ok (.checkcast idx, 3)) (kk : gW z (pc + 3) lv (.ref a :: st) h k n) : gW z pc lv (.ref a :: st) h k n := by
  intro H locs ls hy
  have hr := grecv hX hy ha hc
  rcases hca with e | hca
  · rw [e] at hr
    have hAt := (hX.2.1.2.2.1.1 ci r hc).2
    rw [e] at hAt
    exact va_castS hX.1.1 hX.1.2.1 hX.1.2.2.2.1 (hX.1.2.2.2.2 _ hl) hAt hr d (kk H locs ls hy)
  · exact va_castY hX.1.1 hX.1.2.1 hX.1.2.2.2.1 (hX.1.2.2.2.2 _ hl) (hX.2.1.2.2.1.2.2.1 _ (lw_gx hca rfl)) hr d (kk H locs ls hy)
theorem aw_instY (hX : gOk z D y cc ret hh fr kc nc nL) {idx a ci : Nat} {vs : List Value} {r : vw_C} {nm : String} (ha : h a = some (.inl (ci, vs))) (hc : gCl[ci]? = some r) (hl : Cond.classLink y.cls idx nm ∈ lw_all) (hca : r.1 = nm) (d : decode cc pc = .ok (.instanceof idx, 3)) (kk : gW z (pc + 3) lv (.int 1 :: st) h k n) : gW z pc lv (.ref a :: st) h k n := by
  intro H locs ls hy
  have hr := grecv hX hy ha hc
  rw [hca] at hr
  have hAt := (hX.2.1.2.2.1.1 ci r hc).2
  rw [hca] at hAt
  exact va_instS hX.1.1 hX.1.2.1 hX.1.2.2.2.1 (hX.1.2.2.2.2 _ hl) hAt hr d (kk H locs ls hy)
theorem aw_instNo (hX : gOk z D y cc ret hh fr kc nc nL) {idx a ci : Nat} {vs : List Value} {r : vw_C} {nm : String} (ha : h a = some (.inl (ci, vs))) (hc : gCl[ci]? = some r) (hl : Cond.classLink y.cls idx nm ∈ lw_all) (hca : (r.1, nm) ∈ gNc) (d : decode cc pc = .ok (.instanceof idx, 3)) (kk : gW z (pc + 3) lv (.int 0 :: st) h k n) : gW z pc lv (.ref a :: st) h k n := by
  intro H locs ls hy
  exact va_instNo hX.1.1 hX.1.2.1 hX.1.2.2.2.1 (hX.1.2.2.2.2 _ hl) (hX.2.1.2.2.1.2.2.2.2.1 _ hca) (grecv hX hy ha hc) d (kk H locs ls hy)
/-! Object.<init> -/
theorem aw_objInit (hX : gOk z D y cc ret hh fr kc nc nL) {idx a : Nat} (hl : Cond.methodLink y.cls idx Lib.objectInit ∈ lw_all) (hi : Cond.instanceMethod Lib.objectInit ∈ lw_all) (hcd : Cond.code Lib.objectInit ⟨#[0xb1]⟩ 1 none ∈ lw_all) (hfr : 1 ≤ fr) (hst : (st.map fun v => v.category).sum ≤ 8) (d : decode cc pc = .ok (.invokespecial idx, 3)) (kk : gW z (pc + 3) lv st h k n) : gW z pc lv (.ref a :: st) h k n := by
  intro H locs ls hy
  have hL := hX.2.2.1.2.2.2.1
  exact W.objInit hX.1.1 hX.1.2.1 hX.1.2.2.2.1 (hX.1.2.2.2.2 _ hl) (hX.1.2.2.2.2 _ hi) (hX.1.2.2.2.2 _ hcd) rfl (hy.2.2.1.trans (hX.2.2.2.2.2.trans hX.1.2.2.1.symm)) rfl d (Nat.le_trans hfr hX.2.2.1.2.2.1) (by have h9 := lv_room (pc := pc) (ls := ls) (rest := .ref a :: st) (m := z.2.2.1.2.1) hst; omega) (kk H locs ls hy)
/-! statics that nobody writes -/
theorem gbase (hX : gOk z D y cc ret hh fr kc nc nL) {H : Heap} {locs : List Loc} {ls : Array Slot} (hy : gHy z H locs ls lv h) : ∀ q : Nat, q < D.1.size → z.2.2.1.1.heap[q]? = D.1[q]? := fun q hq => by
  have hD : z.1 = D := hX.2.2.1.1
  have h1 := hy.1.2.1 q (by rw [hD]; exact hq)
  rw [hD] at h1
  rw [← h1]
  exact (hy.2.1.2.1 q (Nat.lt_of_lt_of_le hq hX.2.2.1.2.1) (by rw [hD]; exact Nat.not_le.mpr hq)).symm
theorem aw_gets (hX : gOk z D y cc ret hh fr kc nc nL) {idx : Nat} {C nm ds : String} {v : Value} (hZ : va_Z C nm ds v (gA D) z.2.2.1.1 D.1) (hl : Cond.fieldLink y.cls idx C nm ds ∈ lw_all) (d : decode cc pc = .ok (.getstatic idx, 3)) (kk : gW z (pc + 3) lv (v :: st) h k n) : gW z pc lv st h k n := by
  intro H locs ls hy
  have hD : z.1 = D := hX.2.2.1.1
  exact va_gets (A := gA D) hX.1.1 hX.1.2.1 (hZ.kept (fun a h1 _ => gbase hX hy a h1)) (by rw [← hD]; exact hy.2.1) hX.1.2.2.2.1 (hX.1.2.2.2.2 _ hl) (fun _ h => h) d (kk H locs ls hy)
end GEXC
