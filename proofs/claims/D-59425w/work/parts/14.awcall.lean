/-! ROWS of the plain machine: ends, calls, throws -/
abbrev gpu (v : Option Value) (rest : List Value) : List Value := match v with
  | none => rest
  | some w => w :: rest
theorem gpu_eq (v : Option Value) (rest : List Value) : v.toList ++ rest = gpu v rest := by cases v <;> rfl
/-- what a method answers: an int, nothing, a cell, a cell or null, a long, a double -/
def qI (P : Int32 → Hm → Prop) : Option Value → Hm → Prop := fun v h => ∃ r : Int32, v = some (.int r) ∧ P r h
def qV (P : Hm → Prop) : Option Value → Hm → Prop := fun v h => v = none ∧ P h
def qA (P : Nat → Hm → Prop) : Option Value → Hm → Prop := fun v h => ∃ r : Nat, v = some (.ref r) ∧ P r h
def qN (P : Option Nat → Hm → Prop) : Option Value → Hm → Prop := fun v h => ∃ r : Option Nat, v = some (va_rf r) ∧ P r h
def qD (P : UInt64 → Hm → Prop) : Option Value → Hm → Prop := fun v h => ∃ r : UInt64, v = some (.double r) ∧ P r h
theorem qI.on {P : Int32 → Hm → Prop} {G : Option Value → Hm → Prop} (g : ∀ r h, P r h → G (some (.int r)) h) : ∀ v h, qI P v h → G v h := by rintro _ h ⟨r, rfl, hp⟩; exact g r h hp
theorem qV.on {P : Hm → Prop} {G : Option Value → Hm → Prop} (g : ∀ h, P h → G none h) : ∀ v h, qV P v h → G v h := by rintro _ h ⟨rfl, hp⟩; exact g h hp
theorem qA.on {P : Nat → Hm → Prop} {G : Option Value → Hm → Prop} (g : ∀ r h, P r h → G (some (.ref r)) h) : ∀ v h, qA P v h → G v h := by rintro _ h ⟨r, rfl, hp⟩; exact g r h hp
theorem qN.on {P : Option Nat → Hm → Prop} {G : Option Value → Hm → Prop} (g : ∀ r h, P r h → G (some (va_rf r)) h) : ∀ v h, qN P v h → G v h := by rintro _ h ⟨r, rfl, hp⟩; exact g r h hp
theorem qD.on {P : UInt64 → Hm → Prop} {G : Option Value → Hm → Prop} (g : ∀ r h, P r h → G (some (.double r)) h) : ∀ v h, qD P v h → G v h := by rintro _ h ⟨r, rfl, hp⟩; exact g r h hp
theorem gnx {z : Cz} {pc : Nat} {lv : List (Option Value)} {k n : Nat} : ∀ (E : String) (q : Nat) (h' : Hm), noX E q h' → gX z pc lv h' k n E q := fun _ _ _ hx => hx.elim
def gAr (y : MethodName) (m : Nat) : Prop := y.cls ≠ "java/lang/invoke/MethodHandle" ∧ y.cls ≠ "java/lang/invoke/VarHandle" ∧ (parseMethodDescriptor y.desc).map (fun d => d.parameters.length) = some m
section GCALL
variable {z : Cz} {D : Gd} {y : MethodName} {cc : ByteArray} {ret : Option FieldType} {hh : List (Nat × Nat × Nat × Nat)} {fr kc nc nL : Nat} {pc : Nat} {lv : List (Option Value)} {st : List Value} {h : Hm} {k n : Nat}
theorem gend {H : Heap} {locs : List Loc} {g : JFrame} (hX : gOk z D y cc ret hh fr kc nc nL) (hk : k ≤ kc) (hn : n ≤ nc) (w : W z.2.1.1 z.2.1.2.1 z.2.1.2.2.1 z.2.1.2.2.2 z.2.2.1.1 z.2.2.1.2.1 z.2.2.1.2.2.1 z.2.2.1.2.2.2.1 z.2.2.1.2.2.2.2.1 z.2.2.1.2.2.2.2.2 H locs kc nc (MQ z.2.2.1.2.2.2.1 (gQc z.1 z.2.2.2.2.1) z.2.2.1.2.2.1 z.2.2.1.1 kc nc (gA z.1)) g) : gWz z H locs k n g := by
  refine W.widen hk hn ?_
  have e1 : z.2.2.2.1.1 = kc := hX.2.2.2.1
  have e2 : z.2.2.2.1.2.1 = nc := hX.2.2.2.2.1
  unfold gQ
  rw [e1, e2]
  exact vx_ret w
theorem gfin {H : Heap} {locs : List Loc} {ls : Array Slot} {v : Option Value} (hy : gHy z H locs ls lv h) (hq : z.2.2.2.2.1 v h) : ∀ t : State, t.heap = H → z.2.2.1.1.WarmedH t.vm → gQc z.1 z.2.2.2.2.1 z.2.2.1.2.2.1 z.2.2.1.1 (.returned v) t := fun t ht _ => ⟨⟨v, h, rfl, hq, by rw [ht]; exact hy.1⟩, hy.2.1.F ht⟩
theorem aw_iret (hX : gOk z D y cc (some .int) hh fr kc nc nL) {v : Int32} (hk : k ≤ kc) (hn : n ≤ nc) (d : decode cc pc = .ok (.ireturn, 1)) (hq : z.2.2.2.2.1 (some (.int v)) h) : gW z pc lv [.int v] h k n :=
  fun H locs ls hy => gend hX hk hn (W.iret hX.1.1 hX.1.2.1 hX.2.1.2.2.2.1 (gfin hy hq) hy.2.1.2.2 d hX.2.1.1)
theorem aw_zret (hX : gOk z D y cc (some .boolean) hh fr kc nc nL) {v : Int32} (hv : narrow .boolean (.int v) = .int v) (hk : k ≤ kc) (hn : n ≤ nc) (d : decode cc pc = .ok (.ireturn, 1)) (hq : z.2.2.2.2.1 (some (.int v)) h) : gW z pc lv [.int v] h k n :=
  fun H locs ls hy => gend hX hk hn (W.zret hX.1.1 hX.1.2.1 hX.2.1.2.2.2.1 hv (gfin hy hq) hy.2.1.2.2 d hX.2.1.1)
/-- an int result of a narrower type (byte, char) -/
theorem aw_nret (hX : gOk z D y cc ret hh fr kc nc nL) {ty : FieldType} (hr : ret = some ty) {v : Int32} (hv : narrow ty (.int v) = .int v) (hk : k ≤ kc) (hn : n ≤ nc) (d : decode cc pc = .ok (.ireturn, 1)) (hq : z.2.2.2.2.1 (some (.int v)) h) : gW z pc lv [.int v] h k n :=
  fun H locs ls hy => gend hX hk hn (W.zret hX.1.1 hX.1.2.1 (hX.2.1.2.2.2.1.trans hr) hv (gfin hy hq) hy.2.1.2.2 d hX.2.1.1)
theorem aw_vret (hX : gOk z D y cc none hh fr kc nc nL) (hk : k ≤ kc) (hn : n ≤ nc) (d : decode cc pc = .ok (.return_, 1)) (hq : z.2.2.2.2.1 none h) : gW z pc lv [] h k n :=
  fun H locs ls hy => gend hX hk hn (W.vret hX.1.1 hX.1.2.1 hX.2.1.2.2.2.1 (gfin hy hq) hy.2.1.2.2 d hX.2.1.1)
theorem aw_dret (hX : gOk z D y cc (some .double) hh fr kc nc nL) {v : UInt64} (hk : k ≤ kc) (hn : n ≤ nc) (d : decode cc pc = .ok (.dreturn, 1)) (hq : z.2.2.2.2.1 (some (.double v)) h) : gW z pc lv [.double v] h k n :=
  fun H locs ls hy => gend hX hk hn (W.dret hX.1.1 hX.1.2.1 hX.2.1.2.2.2.1 (gfin hy hq) hy.2.1.2.2 d hX.2.1.1)
theorem aw_aret (hX : gOk z D y cc ret hh fr kc nc nL) {rt : FieldType} (hr : ret = some rt) (hrt : (∃ n, rt = .object n) ∨ ∃ t, rt = .array t) {v : Value} (hv : v = .null ∨ ∃ a, v = .ref a) (hk : k ≤ kc) (hn : n ≤ nc) (d : decode cc pc = .ok (.areturn, 1)) (hq : z.2.2.2.2.1 (some v) h) : gW z pc lv [v] h k n :=
  fun H locs ls hy => gend hX hk hn (W.aret hX.1.1 hX.1.2.1 (hX.2.1.2.2.2.1.trans hr) hrt hv (gfin hy hq) hy.2.1.2.2 d hX.2.1.1)
theorem gblind {av : List Value} : FrameBlind (va_Pc av (fun U => gR D U.heap h ∧ KN D U)) := fun a U g mk q => ⟨q.1, q.2.1, KN.same (s := U) (U := U.calling g mk a) rfl q.2.2⟩
theorem gpre {av : List Value} {H : Heap} {locs : List Loc} {ls : Array Slot} (hX : gOk z D y cc ret hh fr kc nc nL) (hy : gHy z H locs ls lv h) : ∀ U : State, U.heap = H → z.2.2.1.1.WarmedH U.vm → va_Pc av (fun U => gR D U.heap h ∧ KN D U) av.toArray U := fun U hU hW => ⟨rfl, by rw [hU, ← hX.2.2.1.1]; exact hy.1, KN.warm hW hX.2.1.2.2.1⟩
theorem gcall (hX : gOk z D y cc ret hh fr kc nc nL) {H : Heap} {locs : List Loc} {ls : Array Slot} {st0 rest : List Value} {kc' nc' : Nat} {a : Array Value} {Q' : Option Value → Hm → Prop} {QX' : String → Nat → Hm → Prop}
    (hr : vx_Run z.2.1.1 z.2.1.2.1 z.2.1.2.2.1 z.2.1.2.2.2 z.2.2.1.1 z.2.2.1.2.1 z.2.2.1.2.2.1 z.2.2.1.2.2.2.1 z.2.2.1.2.2.2.2.1 z.2.2.1.2.2.2.2.2 H locs k n kc' nc' (F0 z.2.2.1.2.1 pc ls st0) rest (gQc D Q' a) (gXC D QX') (gA D)) (hy : gHy z H locs ls lv h)
    (kx : ∀ E q h', QX' E q h' → gX z pc lv h' (k + kc') (n + nc') E q) (kk : ∀ v h', Q' v h' → gW z (pc + 3) lv (gpu v rest) h' (k + kc') (n + nc')) : gWz z H locs k n (F0 z.2.2.1.2.1 pc ls st0) := by
  have hD : z.1 = D := hX.2.2.1.1
  intro T hT X
  rcases hr T hT X with ⟨v, st₀, t, T', L, h0, X', hL, e1, e2, ⟨⟨v', h', hv, hq, hR⟩, hF⟩, hst⟩ | ⟨q, st₀, t, T', L, E, ce, h0, X', hL, e1, e2, ⟨⟨h', hq, hR⟩, hF⟩, hce, hcv, hcl, hst⟩
  · cases hv
    obtain ⟨-, -, k3⟩ := vx_keep (A1 := gA D) (free := gA D) h0 e1 (hD ▸ hy.2.1) (fun _ _ h => h) (fun _ h => h) hL hF
    obtain ⟨t2, a1, b1⟩ := kk v h' hq T'.heap (locs ++ L) ls ⟨by rw [hD, e1]; exact hR, hD ▸ k3, hy.2.2⟩ T' rfl X'
    exact ⟨t2, hst t2 (by rw [gpu_eq]; exact a1), b1⟩
  · obtain ⟨-, -, k3⟩ := vx_keep (A1 := gA D) (free := gA D) h0 e1 (hD ▸ hy.2.1) (fun _ _ h => h) (fun _ h => h) hL hF
    obtain ⟨t2, a1, b1⟩ := kx E q h' hq T'.heap (locs ++ L) ls ce rest ⟨by rw [hD, e1]; exact hR, hD ▸ k3, hy.2.2⟩ (by rw [e1]; exact hce) hcv hcl T' rfl X'
    exact ⟨t2, hst.trans a1, b1⟩
theorem gcall5 (hX : gOk z D y cc ret hh fr kc nc nL) {H : Heap} {locs : List Loc} {ls : Array Slot} {st0 rest : List Value} {kc' nc' : Nat} {a : Array Value} {Q' : Option Value → Hm → Prop} {QX' : String → Nat → Hm → Prop}
    (hr : vx_Run5 z.2.1.1 z.2.1.2.1 z.2.1.2.2.1 z.2.1.2.2.2 z.2.2.1.1 z.2.2.1.2.1 z.2.2.1.2.2.1 z.2.2.1.2.2.2.1 z.2.2.1.2.2.2.2.1 z.2.2.1.2.2.2.2.2 H locs k n kc' nc' (F0 z.2.2.1.2.1 pc ls st0) rest (gQc D Q' a) (gXC D QX') (gA D)) (hy : gHy z H locs ls lv h)
    (kx : ∀ E q h', QX' E q h' → gX z pc lv h' (k + kc') (n + nc') E q) (kk : ∀ v h', Q' v h' → gW z (pc + 5) lv (gpu v rest) h' (k + kc') (n + nc')) : gWz z H locs k n (F0 z.2.2.1.2.1 pc ls st0) := by
  have hD : z.1 = D := hX.2.2.1.1
  intro T hT X
  rcases hr T hT X with ⟨v, st₀, t, T', L, h0, X', hL, e1, e2, ⟨⟨v', h', hv, hq, hR⟩, hF⟩, hst⟩ | ⟨q, st₀, t, T', L, E, ce, h0, X', hL, e1, e2, ⟨⟨h', hq, hR⟩, hF⟩, hce, hcv, hcl, hst⟩
  · cases hv
    obtain ⟨-, -, k3⟩ := vx_keep (A1 := gA D) (free := gA D) h0 e1 (hD ▸ hy.2.1) (fun _ _ h => h) (fun _ h => h) hL hF
    obtain ⟨t2, a1, b1⟩ := kk v h' hq T'.heap (locs ++ L) ls ⟨by rw [hD, e1]; exact hR, hD ▸ k3, hy.2.2⟩ T' rfl X'
    exact ⟨t2, hst t2 (by rw [gpu_eq]; exact a1), b1⟩
  · obtain ⟨-, -, k3⟩ := vx_keep (A1 := gA D) (free := gA D) h0 e1 (hD ▸ hy.2.1) (fun _ _ h => h) (fun _ h => h) hL hF
    obtain ⟨t2, a1, b1⟩ := kx E q h' hq T'.heap (locs ++ L) ls ce rest ⟨by rw [hD, e1]; exact hR, hD ▸ k3, hy.2.2⟩ (by rw [e1]; exact hce) hcv hcl T' rfl X'
    exact ⟨t2, hst.trans a1, b1⟩
theorem grm (hX : gOk z D y cc ret hh fr kc nc nL) {fr' nL' : Nat} (hfr : fr' + 1 ≤ fr) (hL : nL' ≤ 45) : fr' + 1 ≤ z.2.1.2.2.2.frames ∧ 8 + (nL' + 11) + 64 * fr' ≤ z.2.1.2.2.2.locals := by
  obtain ⟨-, -, ⟨-, -, h1, h2, -, -⟩, -⟩ := hX
  exact ⟨by omega, by omega⟩
theorem gco (hX : gOk z D y cc ret hh fr kc nc nL) {kc' nc' : Nat} (hk : k + kc' ≤ kc) (hn : n + nc' ≤ nc) : k + kc' ≤ z.2.1.2.2.2.cells ∧ n + nc' ≤ z.2.1.2.2.2.slots := by
  obtain ⟨-, -, ⟨-, -, -, -, h1, h2⟩, -⟩ := hX
  exact ⟨by rw [h1]; exact hk, by rw [h2]; exact hn⟩
theorem grecv (hX : gOk z D y cc ret hh fr kc nc nL) {H : Heap} {locs : List Loc} {ls : Array Slot} (hy : gHy z H locs ls lv h) {b ci : Nat} {vs : List Value} {r : vw_C} (hb : h b = some (.inl (ci, vs))) (hc : gCl[ci]? = some r) : ∃ cell : Cell, H[b]? = some cell ∧ cell.vm.isStatics = false ∧ z.2.2.1.1.vm.findClass r.1 = some cell.cls := by
  have hP := gR.obj hy.1 hb hc
  rw [hX.2.2.1.1] at hP
  exact va_recv hX.2.1.2.2.1.K hP hc (q0 := 0) rfl
variable {y' : MethodName} {cc' : ByteArray} {ret' : Option FieldType} {hh' : List (Nat × Nat × Nat × Nat)} {fr' kc' nc' nL' idx m : Nat} {As rest st0 : List Value} {b ci : Nat} {vs : List Value} {r : vw_C} {Q' : Option Value → Hm → Prop} {QX' : String → Nat → Hm → Prop}
theorem aw_callV (hX : gOk z D y cc ret hh fr kc nc nL) (lk : GoodIn lw_all (wsV y.cls idx y'.cls y' (ws_ y' cc' nL' ret')) ∧ gAr y' m) (hM : AM D fr' kc' nc' y' (ws_ y' cc' nL' ret') (.ref b :: As) h Q' QX') (hb : h b = some (.inl (ci, vs))) (hc : gCl[ci]? = some r) (hC : r.1 = y'.cls) (hs : st0 = As.reverse ++ .ref b :: rest) (hm : As.length = m) (hst : (rest.map fun v => v.category).sum ≤ 8) (hfr : fr' + 1 ≤ fr) (hL : nL' ≤ 45) (hk : k + kc' ≤ kc) (hn : n + nc' ≤ nc) (d : decode cc pc = .ok (.invokevirtual idx, 3))
    (kx : ∀ E q h', QX' E q h' → gX z pc lv h' (k + kc') (n + nc') E q) (kk : ∀ v h', Q' v h' → gW z (pc + 3) lv (gpu v rest) h' (k + kc') (n + nc')) : gW z pc lv st0 h k n := fun H locs ls hy =>
  gcall hX (vx_runV (As := As) (rest := rest) ⟨hX.1.1, hX.1.2.1, hX.1.2.2.1, hX.1.2.2.2.1, hX.1.2.2.2.2⟩ (hM _ hX.2.1.2.1) (cwV m hX.1.2.2.2.2 lk.1 rfl rfl rfl ⟨rfl, lk.2⟩ (grm hX hfr hL)) ⟨gblind, by rw [← hC]; exact grecv hX hy hb hc, gpre hX hy⟩ rfl hm (hy.2.2.1.trans hX.2.2.2.2.2) hs (lv_room hst) d (gco hX hk hn)) hy kx kk
theorem aw_callS (hX : gOk z D y cc ret hh fr kc nc nL) (lk : GoodIn lw_all (va_wsS y.cls idx y' (ws_ y' cc' nL' ret')) ∧ gAr y' m) (hM : AM D fr' kc' nc' y' (ws_ y' cc' nL' ret') As h Q' QX') (hs : st0 = As.reverse ++ rest) (hm : As.length = m) (hst : (rest.map fun v => v.category).sum ≤ 8) (hfr : fr' + 1 ≤ fr) (hL : nL' ≤ 45) (hk : k + kc' ≤ kc) (hn : n + nc' ≤ nc) (d : decode cc pc = .ok (.invokestatic idx, 3))
    (kx : ∀ E q h', QX' E q h' → gX z pc lv h' (k + kc') (n + nc') E q) (kk : ∀ v h', Q' v h' → gW z (pc + 3) lv (gpu v rest) h' (k + kc') (n + nc')) : gW z pc lv st0 h k n := fun H locs ls hy =>
  gcall hX (vx_runS (As := As) (rest := rest) ⟨hX.1.1, hX.1.2.1, hX.1.2.2.1, hX.1.2.2.2.1, hX.1.2.2.2.2⟩ (hM _ hX.2.1.2.1) (va_cwS m hX.1.2.2.2.2 lk.1 rfl rfl rfl lk.2 (grm hX hfr hL)) ⟨gblind, gpre hX hy⟩ rfl hm (hy.2.2.1.trans hX.2.2.2.2.2) hs (lv_room hst) d (gco hX hk hn)) hy kx kk
theorem aw_callI (hX : gOk z D y cc ret hh fr kc nc nL) (lk : (GoodIn lw_all (ws_ y' cc' nL' none) ∧ Cond.initialized y'.cls ∈ lw_all ∧ Cond.methodLink y.cls idx y' ∈ lw_all ∧ Cond.instanceMethod y' ∈ lw_all ∧ y'.name = "<init>") ∧ gAr y' m) (hM : AM D fr' kc' nc' y' (ws_ y' cc' nL' none) (.ref b :: As) h Q' QX') (hs : st0 = As.reverse ++ .ref b :: rest) (hm : As.length = m) (hst : (rest.map fun v => v.category).sum ≤ 8) (hfr : fr' + 1 ≤ fr) (hL : nL' ≤ 45) (hk : k + kc' ≤ kc) (hn : n + nc' ≤ nc) (d : decode cc pc = .ok (.invokespecial idx, 3))
    (kx : ∀ E q h', QX' E q h' → gX z pc lv h' (k + kc') (n + nc') E q) (kk : ∀ v h', Q' v h' → gW z (pc + 3) lv (gpu v rest) h' (k + kc') (n + nc')) : gW z pc lv st0 h k n := fun H locs ls hy =>
  gcall hX (vx_runI (As := As) (rest := rest) ⟨hX.1.1, hX.1.2.1, hX.1.2.2.1, hX.1.2.2.2.1, hX.1.2.2.2.2⟩ (hM _ hX.2.1.2.1) (cwI m hX.1.2.2.2.2 lk.1.1 rfl rfl rfl (hX.1.2.2.2.2 _ lk.1.2.1) (hX.1.2.2.2.2 _ lk.1.2.2.1) (hX.1.2.2.2.2 _ lk.1.2.2.2.1) lk.1.2.2.2.2 lk.2 (grm hX hfr hL)) ⟨gblind, gpre hX hy⟩ rfl hm (hy.2.2.1.trans hX.2.2.2.2.2) hs (lv_room hst) d (gco hX hk hn)) hy kx kk
theorem aw_callVX (hX : gOk z D y cc ret hh fr kc nc nL) (lk : GoodIn lw_all (wsV y.cls idx y'.cls y' (wsW_ y' cc' nL' ret' hh')) ∧ gAr y' m) (hM : AM D fr' kc' nc' y' (wsW_ y' cc' nL' ret' hh') (.ref b :: As) h Q' QX') (hb : h b = some (.inl (ci, vs))) (hc : gCl[ci]? = some r) (hC : r.1 = y'.cls) (hs : st0 = As.reverse ++ .ref b :: rest) (hm : As.length = m) (hst : (rest.map fun v => v.category).sum ≤ 8) (hfr : fr' + 1 ≤ fr) (hL : nL' ≤ 45) (hk : k + kc' ≤ kc) (hn : n + nc' ≤ nc) (d : decode cc pc = .ok (.invokevirtual idx, 3))
    (kx : ∀ E q h', QX' E q h' → gX z pc lv h' (k + kc') (n + nc') E q) (kk : ∀ v h', Q' v h' → gW z (pc + 3) lv (gpu v rest) h' (k + kc') (n + nc')) : gW z pc lv st0 h k n := fun H locs ls hy =>
  gcall hX (vx_runVX (As := As) (rest := rest) ⟨hX.1.1, hX.1.2.1, hX.1.2.2.1, hX.1.2.2.2.1, hX.1.2.2.2.2⟩ (hM _ hX.2.1.2.1) (vx_cwVW m hX.1.2.2.2.2 lk.1 rfl rfl rfl ⟨rfl, lk.2⟩ (grm hX hfr hL)) ⟨gblind, by rw [← hC]; exact grecv hX hy hb hc, gpre hX hy⟩ rfl hm (hy.2.2.1.trans hX.2.2.2.2.2) hs (lv_room hst) d (gco hX hk hn)) hy kx kk
theorem aw_callSX (hX : gOk z D y cc ret hh fr kc nc nL) (lk : GoodIn lw_all (va_wsS y.cls idx y' (wsW_ y' cc' nL' ret' hh')) ∧ gAr y' m) (hM : AM D fr' kc' nc' y' (wsW_ y' cc' nL' ret' hh') As h Q' QX') (hs : st0 = As.reverse ++ rest) (hm : As.length = m) (hst : (rest.map fun v => v.category).sum ≤ 8) (hfr : fr' + 1 ≤ fr) (hL : nL' ≤ 45) (hk : k + kc' ≤ kc) (hn : n + nc' ≤ nc) (d : decode cc pc = .ok (.invokestatic idx, 3))
    (kx : ∀ E q h', QX' E q h' → gX z pc lv h' (k + kc') (n + nc') E q) (kk : ∀ v h', Q' v h' → gW z (pc + 3) lv (gpu v rest) h' (k + kc') (n + nc')) : gW z pc lv st0 h k n := fun H locs ls hy =>
  gcall hX (vx_runSX (As := As) (rest := rest) ⟨hX.1.1, hX.1.2.1, hX.1.2.2.1, hX.1.2.2.2.1, hX.1.2.2.2.2⟩ (hM _ hX.2.1.2.1) (vx_cwSW m hX.1.2.2.2.2 lk.1 rfl rfl rfl lk.2 (grm hX hfr hL)) ⟨gblind, gpre hX hy⟩ rfl hm (hy.2.2.1.trans hX.2.2.2.2.2) hs (lv_room hst) d (gco hX hk hn)) hy kx kk
/-! nest mates -/
def gNm (own : String) (idx : Nat) (y' : MethodName) : Prop := ∃ host : String, Cond.methodLinkNest own idx y' host ∈ lw_x
theorem gNm.of {own host : String} {idx : Nat} {y' : MethodName} (h : Cond.methodLinkNest own idx y' host ∈ lw_tbl) : gNm own idx y' := ⟨host, lw_gx h rfl⟩
theorem aw_callSN (hX : gOk z D y cc ret hh fr kc nc nL) (lk : (GoodIn lw_all (ws_ y' cc' nL' ret') ∧ gNm y.cls idx y' ∧ Cond.initialized y'.cls ∈ lw_all ∧ Cond.static y' ∈ lw_all) ∧ gAr y' m) (hM : AM D fr' kc' nc' y' (ws_ y' cc' nL' ret') As h Q' QX') (hs : st0 = As.reverse ++ rest) (hm : As.length = m) (hst : (rest.map fun v => v.category).sum ≤ 8) (hfr : fr' + 1 ≤ fr) (hL : nL' ≤ 45) (hk : k + kc' ≤ kc) (hn : n + nc' ≤ nc) (d : decode cc pc = .ok (.invokestatic idx, 3))
    (kx : ∀ E q h', QX' E q h' → gX z pc lv h' (k + kc') (n + nc') E q) (kk : ∀ v h', Q' v h' → gW z (pc + 3) lv (gpu v rest) h' (k + kc') (n + nc')) : gW z pc lv st0 h k n := fun H locs ls hy => by
  obtain ⟨⟨l1, ⟨host, l2⟩, l3, l4⟩, l5⟩ := lk
  exact gcall hX (vx_runSN (As := As) (rest := rest) ⟨hX.1.1, hX.1.2.1, hX.1.2.2.1, hX.1.2.2.2.1, hX.1.2.2.2.2⟩ (hM _ hX.2.1.2.1) ⟨va_cnB m hX.1.2.2.2.2 l1 rfl rfl rfl (hX.2.1.2.2.1.2.2.1 _ l2) (hX.1.2.2.2.2 _ l3) l5 (grm hX hfr hL), hX.1.2.2.2.2 _ l4, trivial⟩ ⟨gblind, gpre hX hy⟩ rfl hm (hy.2.2.1.trans hX.2.2.2.2.2) hs (lv_room hst) d (gco hX hk hn)) hy kx kk
theorem aw_callVN (hX : gOk z D y cc ret hh fr kc nc nL) (lk : (GoodIn lw_all (ws_ y' cc' nL' ret') ∧ gNm y.cls idx y' ∧ Cond.initialized y'.cls ∈ lw_all ∧ Cond.instanceMethod y' ∈ lw_all ∧ Cond.selects y'.cls y' y' ∈ lw_all) ∧ gAr y' m) (hM : AM D fr' kc' nc' y' (ws_ y' cc' nL' ret') (.ref b :: As) h Q' QX') (hb : h b = some (.inl (ci, vs))) (hc : gCl[ci]? = some r) (hC : r.1 = y'.cls) (hs : st0 = As.reverse ++ .ref b :: rest) (hm : As.length = m) (hst : (rest.map fun v => v.category).sum ≤ 8) (hfr : fr' + 1 ≤ fr) (hL : nL' ≤ 45) (hk : k + kc' ≤ kc) (hn : n + nc' ≤ nc) (d : decode cc pc = .ok (.invokevirtual idx, 3))
    (kx : ∀ E q h', QX' E q h' → gX z pc lv h' (k + kc') (n + nc') E q) (kk : ∀ v h', Q' v h' → gW z (pc + 3) lv (gpu v rest) h' (k + kc') (n + nc')) : gW z pc lv st0 h k n := fun H locs ls hy => by
  obtain ⟨⟨l1, ⟨host, l2⟩, l3, l4, l6⟩, l5⟩ := lk
  exact gcall hX (vx_runVN (As := As) (rest := rest) (C := y'.cls) ⟨hX.1.1, hX.1.2.1, hX.1.2.2.1, hX.1.2.2.2.1, hX.1.2.2.2.2⟩ (hM _ hX.2.1.2.1) ⟨va_cnB m hX.1.2.2.2.2 l1 rfl rfl rfl (hX.2.1.2.2.1.2.2.1 _ l2) (hX.1.2.2.2.2 _ l3) l5 (grm hX hfr hL), hX.1.2.2.2.2 _ l4, hX.1.2.2.2.2 _ l6⟩ ⟨gblind, by rw [← hC]; exact grecv hX hy hb hc, gpre hX hy⟩ rfl hm (hy.2.2.1.trans hX.2.2.2.2.2) hs (lv_room hst) d (gco hX hk hn)) hy kx kk
theorem aw_callIN (hX : gOk z D y cc ret hh fr kc nc nL) (lk : (GoodIn lw_all (ws_ y' cc' nL' none) ∧ gNm y.cls idx y' ∧ Cond.initialized y'.cls ∈ lw_all ∧ Cond.instanceMethod y' ∈ lw_all ∧ y'.name = "<init>") ∧ gAr y' m) (hM : AM D fr' kc' nc' y' (ws_ y' cc' nL' none) (.ref b :: As) h Q' QX') (hs : st0 = As.reverse ++ .ref b :: rest) (hm : As.length = m) (hst : (rest.map fun v => v.category).sum ≤ 8) (hfr : fr' + 1 ≤ fr) (hL : nL' ≤ 45) (hk : k + kc' ≤ kc) (hn : n + nc' ≤ nc) (d : decode cc pc = .ok (.invokespecial idx, 3))
    (kx : ∀ E q h', QX' E q h' → gX z pc lv h' (k + kc') (n + nc') E q) (kk : ∀ v h', Q' v h' → gW z (pc + 3) lv (gpu v rest) h' (k + kc') (n + nc')) : gW z pc lv st0 h k n := fun H locs ls hy => by
  obtain ⟨⟨l1, ⟨host, l2⟩, l3, l4, l6⟩, l5⟩ := lk
  exact gcall hX (vx_runIN (As := As) (rest := rest) ⟨hX.1.1, hX.1.2.1, hX.1.2.2.1, hX.1.2.2.2.1, hX.1.2.2.2.2⟩ (hM _ hX.2.1.2.1) ⟨va_cnB m hX.1.2.2.2.2 l1 rfl rfl rfl (hX.2.1.2.2.1.2.2.1 _ l2) (hX.1.2.2.2.2 _ l3) l5 (grm hX hfr hL), l6, hX.1.2.2.2.2 _ l4⟩ ⟨gblind, gpre hX hy⟩ rfl hm (hy.2.2.1.trans hX.2.2.2.2.2) hs (lv_room hst) d (gco hX hk hn)) hy kx kk
/-! inherited methods, super, interfaces -/
theorem aw_callU (hX : gOk z D y cc ret hh fr kc nc nL) {x' : MethodName} {owner C : String} (lk : (GoodIn lw_all (va_wsU y.cls idx C owner x' y' (ws_ y' cc' nL' ret')) ∧ y' = ⟨owner, x'.name, x'.desc⟩) ∧ owner ≠ "java/lang/invoke/MethodHandle" ∧ owner ≠ "java/lang/invoke/VarHandle" ∧ (parseMethodDescriptor x'.desc).map (fun d => d.parameters.length) = some m) (hM : AM D fr' kc' nc' y' (ws_ y' cc' nL' ret') (.ref b :: As) h Q' QX') (hb : h b = some (.inl (ci, vs))) (hc : gCl[ci]? = some r) (hC : r.1 = C) (hs : st0 = As.reverse ++ .ref b :: rest) (hm : As.length = m) (hst : (rest.map fun v => v.category).sum ≤ 8) (hfr : fr' + 1 ≤ fr) (hL : nL' ≤ 45) (hk : k + kc' ≤ kc) (hn : n + nc' ≤ nc) (d : decode cc pc = .ok (.invokevirtual idx, 3))
    (kx : ∀ E q h', QX' E q h' → gX z pc lv h' (k + kc') (n + nc') E q) (kk : ∀ v h', Q' v h' → gW z (pc + 3) lv (gpu v rest) h' (k + kc') (n + nc')) : gW z pc lv st0 h k n := fun H locs ls hy =>
  gcall hX (vx_runU (As := As) (rest := rest) (C := C) ⟨hX.1.1, hX.1.2.1, hX.1.2.2.1, hX.1.2.2.2.1, hX.1.2.2.2.2⟩ (hM _ hX.2.1.2.1) (va_cwU m hX.1.2.2.2.2 lk.1.1 rfl rfl rfl lk.1.2 lk.2 (grm hX hfr hL)) ⟨gblind, by rw [← hC]; exact grecv hX hy hb hc, gpre hX hy⟩ rfl hm (hy.2.2.1.trans hX.2.2.2.2.2) hs (lv_room hst) d (gco hX hk hn)) hy kx kk
theorem aw_callSU (hX : gOk z D y cc ret hh fr kc nc nL) (lk : GoodIn lw_all (va_wsSU y.cls idx y' (ws_ y' cc' nL' ret')) ∧ y'.name ≠ "<init>" ∧ (parseMethodDescriptor y'.desc).map (fun d => d.parameters.length) = some m) (hM : AM D fr' kc' nc' y' (ws_ y' cc' nL' ret') (.ref b :: As) h Q' QX') (hb : h b = some (.inl (ci, vs))) (hc : gCl[ci]? = some r) (hs : st0 = As.reverse ++ .ref b :: rest) (hm : As.length = m) (hst : (rest.map fun v => v.category).sum ≤ 8) (hfr : fr' + 1 ≤ fr) (hL : nL' ≤ 45) (hk : k + kc' ≤ kc) (hn : n + nc' ≤ nc) (d : decode cc pc = .ok (.invokespecial idx, 3))
    (kx : ∀ E q h', QX' E q h' → gX z pc lv h' (k + kc') (n + nc') E q) (kk : ∀ v h', Q' v h' → gW z (pc + 3) lv (gpu v rest) h' (k + kc') (n + nc')) : gW z pc lv st0 h k n := fun H locs ls hy =>
  gcall hX (vx_runSU (As := As) (rest := rest) (hX.2.1.2.2.1.1 ci r hc).2 ⟨hX.1.1, hX.1.2.1, hX.1.2.2.1, hX.1.2.2.2.1, hX.1.2.2.2.2⟩ (hM _ hX.2.1.2.1) (va_cwSU m hX.1.2.2.2.2 lk.1 rfl rfl rfl lk.2 (grm hX hfr hL)) ⟨gblind, grecv hX hy hb hc, gpre hX hy⟩ rfl hm (hy.2.2.1.trans hX.2.2.2.2.2) hs (lv_room hst) d (gco hX hk hn)) hy kx kk
theorem aw_callF (hX : gOk z D y cc ret hh fr kc nc nL) {x' : MethodName} {C : String} {ct : Nat} (lk : (GoodIn lw_all (va_wsF y.cls idx C x' y' (ws_ y' cc' nL' ret')) ∧ (C, x', y') ∈ gFw) ∧ x'.cls ≠ "java/lang/invoke/MethodHandle" ∧ x'.cls ≠ "java/lang/invoke/VarHandle" ∧ (parseMethodDescriptor x'.desc).map (fun d => d.parameters.length) = some m) (hM : AM D fr' kc' nc' y' (ws_ y' cc' nL' ret') (.ref b :: As) h Q' QX') (hb : h b = some (.inl (ci, vs))) (hc : gCl[ci]? = some r) (hC : r.1 = C) (hs : st0 = As.reverse ++ .ref b :: rest) (hm : As.length = m) (hst : (rest.map fun v => v.category).sum ≤ 8) (hfr : fr' + 1 ≤ fr) (hL : nL' ≤ 45) (hk : k + kc' ≤ kc) (hn : n + nc' ≤ nc) (d : decode cc pc = .ok (.invokeinterface idx ct, 5))
    (kx : ∀ E q h', QX' E q h' → gX z pc lv h' (k + kc') (n + nc') E q) (kk : ∀ v h', Q' v h' → gW z (pc + 5) lv (gpu v rest) h' (k + kc') (n + nc')) : gW z pc lv st0 h k n := fun H locs ls hy =>
  gcall5 hX (vx_runF (As := As) (rest := rest) (C := C) (by rw [← hC]; exact (hX.2.1.2.2.1.1 ci r hc).2) ⟨hX.1.1, hX.1.2.1, hX.1.2.2.1, hX.1.2.2.2.1, hX.1.2.2.2.2⟩ (hM _ hX.2.1.2.1) (va_cwF m hX.1.2.2.2.2 lk.1.1 rfl rfl rfl (hX.2.1.2.2.1.2.2.2.1 _ lk.1.2) lk.2 (grm hX hfr hL)) ⟨gblind, by rw [← hC]; exact grecv hX hy hb hc, gpre hX hy⟩ rfl hm (hy.2.2.1.trans hX.2.2.2.2.2) hs (lv_room hst) d (gco hX hk hn)) hy kx kk
end GCALL
