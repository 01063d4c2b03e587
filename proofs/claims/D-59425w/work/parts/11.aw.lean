/-! THE PLAIN MACHINE over the kit's rows: a heap is a function from addresses to things; a method's run is told by what it answers and by the heap behind it. -/
abbrev Gd : Type := Heap × va_G × (Nat → ClassId) × (Nat → Nat)
abbrev Ao : Type := (Nat × List Value) ⊕ (Nat × vp_A)
abbrev Hm : Type := Nat → Option Ao
def gCl : List vw_C := [(RX1, TX1, 4), (RX2, TX2, 6), (RX3, TX3, 5), (RX4, TX4, 15), (RX5, TX5, 2), (RX6, TX6, 6), (RX7, TX7, 3), (RX8, TX8, 2), (RX9, TX9, 2), (RX10, TX10, 7), (RX11, TX11, 6), (RX12, TX12, 6), (RJ2, TJ2, 3), (RJ4, TJ4, 4), (RJ22, TJ22, 3), (RJ13, TJ13, 4), (RJ6, TJ6, 4), (RJ12, TJ12, 6)]
def gTy : List FieldType := [.int, .boolean, .byte, .long, .object "java/lang/Object", .object "PermissionDesk$Thing", .object "PermissionDesk$Land", .object "PermissionDesk$Test"]
def gat (D : Gd) (a : Nat) (o : Ao) (H : Heap) : Prop := match o with
  | .inl q => t_OB a (D.2.1.1 q.1) q.2.length (D.2.1.2 q.1) H (vp_V q.2) ∧ ∀ r : vw_C, gCl[q.1]? = some r → r.2.2 = q.2.length
  | .inr q => H[a]? = some (vp_cell (D.2.2.1 q.1) q.2)
def gR (D : Gd) (H : Heap) (h : Hm) : Prop := D.1.size ≤ H.size ∧ (∀ q : Nat, q < D.1.size → H[q]? = D.1[q]?) ∧ ∀ (a : Nat) (o : Ao), h a = some o → D.1.size ≤ a ∧ gat D a o H
def gA (D : Gd) : Nat → Prop := fun q => D.1.size ≤ q
def gset (h : Hm) (a : Nat) (o : Ao) : Hm := fun b => if b = a then some o else h b
theorem gset_s {h : Hm} {a : Nat} {o : Ao} : gset h a o a = some o := by simp [gset]
theorem gset_n {h : Hm} {a b : Nat} {o : Ao} (hn : b ≠ a) : gset h a o b = h b := by simp [gset, hn]
def gokw : Cond → Bool
  | .fieldLinkNest _ _ _ _ _ _ => true
  | .methodLinkNest _ _ _ _ => true
  | .declares _ => true
  | .castable _ _ => true
  | .arrayOver (.object _) => true
  | _ => false
def lw_x : List Cond := lw_tbl.filter gokw
theorem lw_gx {w : Cond} (h : w ∈ lw_tbl) (g : gokw w = true) : w ∈ lw_x := List.mem_filter.mpr ⟨h, g⟩
def gFw : List (String × MethodName × MethodName) := [("java/util/ArrayList", ⟨"java/util/Collection", "toArray", "()[Ljava/lang/Object;"⟩, ⟨"java/util/ArrayList", "toArray", "()[Ljava/lang/Object;"⟩), ("java/util/LinkedList", ⟨"java/util/Collection", "toArray", "()[Ljava/lang/Object;"⟩, ⟨"java/util/LinkedList", "toArray", "()[Ljava/lang/Object;"⟩), ("java/util/ArrayList$Itr", ⟨"java/util/Iterator", "hasNext", "()Z"⟩, ⟨"java/util/ArrayList$Itr", "hasNext", "()Z"⟩), ("java/util/ArrayList$Itr", ⟨"java/util/Iterator", "next", "()Ljava/lang/Object;"⟩, ⟨"java/util/ArrayList$Itr", "next", "()Ljava/lang/Object;"⟩)]
theorem gFw_ok : ∀ q ∈ gFw, q.2.1.cls ≠ "java/lang/invoke/MethodHandle" ∧ q.2.1.cls ≠ "java/lang/invoke/VarHandle" := by decide +kernel
/-- classes that aren't others: what handlers pass over -/
def gNc : List (String × String) := [("java/lang/IllegalStateException", "java/lang/IndexOutOfBoundsException"), ("java/lang/IllegalArgumentException", "java/lang/IndexOutOfBoundsException"), ("java/lang/IllegalStateException", "java/lang/IllegalArgumentException"), ("PermissionDesk$Absent", "PermissionDesk$Unread"), ("java/lang/IllegalStateException", "PermissionDesk$Unread"), ("java/lang/IllegalStateException", "PermissionDesk$Absent")]
def gLet (j : Nat) : Value := .int (([114, 119, 120, 109] : List Int32).getD j 0)
def gOnes (j : Nat) : Value := .int (Int32.ofNat (48 + j % 10))
def gTens (j : Nat) : Value := .int (Int32.ofNat (48 + j / 10))
/-- what the statics that nobody writes hold; D.2.2.2 1 .. 4: where the arrays lie -/
def KS (D : Gd) (U : State) : Prop :=
  (va_Z "PermissionDesk" "LETTERS" "[I" (.ref (D.2.2.2 1)) (gA D) U D.1 ∧ va_T .int (D.2.2.2 1) 4 gLet (gA D) U D.1) ∧
  (va_Z "java/lang/Integer" "DigitOnes" "[B" (.ref (D.2.2.2 2)) (gA D) U D.1 ∧ va_T .byte (D.2.2.2 2) 100 gOnes (gA D) U D.1) ∧
  (va_Z "java/lang/Integer" "DigitTens" "[B" (.ref (D.2.2.2 3)) (gA D) U D.1 ∧ va_T .byte (D.2.2.2 3) 100 gTens (gA D) U D.1) ∧
  (va_Z "java/util/ArrayList" "DEFAULTCAPACITY_EMPTY_ELEMENTDATA" "[Ljava/lang/Object;" (.ref (D.2.2.2 4)) (gA D) U D.1 ∧ va_T (.object "java/lang/Object") (D.2.2.2 4) 0 (fun _ => .null) (gA D) U D.1) ∧
  va_Z "java/lang/String" "COMPACT_STRINGS" "Z" (.int 1) (gA D) U D.1 ∧
  vx_Zq Bundle.tN "UNASSIGNED_STACK" Bundle.steD (gA D) U D.1 ∧ vx_Zq Bundle.tN "SUPPRESSED_SENTINEL" Bundle.listD (gA D) U D.1
theorem KS.moved {D : Gd} {u U : State} (hvm : u.vm.Alike U.vm) (h : KS D u) : KS D U := by
  obtain ⟨⟨a1, a2⟩, ⟨b1, b2⟩, ⟨c1, c2⟩, ⟨d1, d2⟩, e1, f1, f2⟩ := h
  exact ⟨⟨a1.moved hvm, a2.moved hvm⟩, ⟨b1.moved hvm, b2.moved hvm⟩, ⟨c1.moved hvm, c2.moved hvm⟩, ⟨d1.moved hvm, d2.moved hvm⟩, e1.moved hvm, f1.moved hvm, f2.moved hvm⟩
/-- what a run knows of the tables -/
def KN (D : Gd) (U : State) : Prop :=
  (∀ (c : Nat) (q : vw_C), gCl[c]? = some q → u_Kn U q.1 q.2.1 q.2.2 (D.2.1.1 c) (D.2.1.2 c)) ∧
  (∀ (k : Nat) (ty : FieldType), gTy[k]? = some ty → ArrOfT U (D.2.2.1 k) ty ∧ va_RA U (D.2.2.1 k) ty) ∧
  (∀ w ∈ lw_x, va_Nw w U) ∧ (∀ q ∈ gFw, va_Fw q.1 q.2.1 q.2.2 U) ∧ (∀ q ∈ gNc, va_Nc q.1 q.2 U) ∧ KS D U
theorem gokw_same {w : Cond} (h : gokw w = true) {s U : State} (hv : s.vm = U.vm) (hZ : va_Nw w s) : va_Nw w U := by
  cases w with
  | fieldLinkNest a b c d e f => exact va_Nw.same rfl hv hZ
  | methodLinkNest a b c d => exact va_Nw.same rfl hv hZ
  | declares a => exact va_Nw.same rfl hv hZ
  | castable a b => exact va_Nw.same rfl hv hZ
  | arrayOver t =>
    cases t with
    | object C => exact va_AO.moved (by rw [hv]; exact Vm.Alike.refl _) hZ
    | _ => cases h
  | _ => cases h
theorem gokw_warm {w : Cond} (h : gokw w = true) {s U : State} (hW : s.WarmedH U.vm) (hZ : va_Nw w s) : va_Nw w U := by
  cases w with
  | fieldLinkNest a b c d e f => exact va_Nw.warmF hW hZ
  | methodLinkNest a b c d => exact va_Nw.warmM hW hZ
  | declares a => exact va_Nw.warmD hW hZ
  | castable a b => exact va_Nw.warmC hW hZ
  | arrayOver t =>
    cases t with
    | object C => exact va_AO.moved hW.alike hZ
    | _ => cases h
  | _ => cases h
theorem KN.warm {D : Gd} {s U : State} (hW : s.WarmedH U.vm) (h : KN D s) : KN D U := by
  obtain ⟨h1, h2, h3, h4, h6, h5⟩ := h
  exact ⟨fun c q hq => u_Kn_moved hW.alike (h1 c q hq), fun k ty hk => ⟨arrOfT_moved hW.alike (h2 k ty hk).1, (h2 k ty hk).2.moved hW.alike⟩, fun w hw => gokw_warm (List.mem_filter.mp hw).2 hW (h3 w hw), fun q hq => (h4 q hq).moved (gFw_ok q hq) hW.alike, fun q hq => (h6 q hq).moved hW.alike, h5.moved hW.alike⟩
theorem va_Fw.sameVm {C : String} {x y : MethodName} {u U : State} (h : u.vm = U.vm) (hF : va_Fw C x y u) : va_Fw C x y U := by
  obtain ⟨h1, h2, h3, h4, h5⟩ := hF
  exact ⟨va_tabs rfl h h1, va_tabs rfl h h2, va_tabs rfl h h3, va_tabs rfl h h4, va_tabs rfl h h5⟩
theorem KN.same {D : Gd} {s U : State} (hv : s.vm = U.vm) (h : KN D s) : KN D U := by
  obtain ⟨h1, h2, h3, h4, h6, h5⟩ := h
  have hal : s.vm.Alike U.vm := by rw [hv]; exact Vm.Alike.refl _
  exact ⟨fun c q hq => u_Kn_moved hal (h1 c q hq), fun k ty hk => ⟨arrOfT_moved hal (h2 k ty hk).1, (h2 k ty hk).2.moved hal⟩, fun w hw => gokw_same (List.mem_filter.mp hw).2 hv (h3 w hw), fun q hq => (h4 q hq).sameVm hv, fun q hq => (h6 q hq).moved hal, h5.moved hal⟩
/-! the heap's rows -/
theorem gat.kept {D : Gd} {a : Nat} {o : Ao} {H H1 : Heap} (h : gat D a o H) (hq : H1[a]? = H[a]?) : gat D a o H1 := by
  cases o with
  | inl q => exact ⟨t_OB.kept h.1 hq, h.2⟩
  | inr q => exact hq.trans h
theorem gat.lt {D : Gd} {a : Nat} {o : Ao} {H : Heap} (h : gat D a o H) : a < H.size := by
  cases o with
  | inl q =>
    obtain ⟨⟨cell, h1, -⟩, -⟩ := h
    exact (Array.getElem?_eq_some_iff.mp h1).1
  | inr q => exact (Array.getElem?_eq_some_iff.mp h).1
theorem gR.put {D : Gd} {H H1 : Heap} {h : Hm} {a : Nat} {o : Ao} (hR : gR D H h) (ha : D.1.size ≤ a) (hz : H1.size = H.size) (ho : gat D a o H1) (hk : ∀ q : Nat, q ≠ a → H1[q]? = H[q]?) : gR D H1 (gset h a o) := by
  obtain ⟨h1, h2, h3⟩ := hR
  refine ⟨by omega, fun q hq => (hk q (by omega)).trans (h2 q hq), fun b o' hb => ?_⟩
  by_cases e : b = a
  · subst e
    rw [gset_s] at hb
    cases hb
    exact ⟨ha, ho⟩
  · rw [gset_n e] at hb
    exact ⟨(h3 b o' hb).1, (h3 b o' hb).2.kept (hk b e)⟩
theorem gR.push {D : Gd} {H H1 : Heap} {h : Hm} {o : Ao} (hR : gR D H h) (hz : H1.size = H.size + 1) (ho : gat D H.size o H1) (hk : ∀ q : Nat, q < H.size → H1[q]? = H[q]?) : gR D H1 (gset h H.size o) ∧ h H.size = none := by
  obtain ⟨h1, h2, h3⟩ := hR
  refine ⟨⟨by omega, fun q hq => (hk q (by omega)).trans (h2 q hq), fun b o' hb => ?_⟩, ?_⟩
  · by_cases e : b = H.size
    · subst e
      rw [gset_s] at hb
      cases hb
      exact ⟨h1, ho⟩
    · rw [gset_n e] at hb
      exact ⟨(h3 b o' hb).1, (h3 b o' hb).2.kept (hk b (h3 b o' hb).2.lt)⟩
  · cases e : h H.size with
    | none => rfl
    | some o' => exact absurd (h3 _ _ e).2.lt (Nat.lt_irrefl _)
/-- forgetting things -/
theorem gR.less {D : Gd} {H : Heap} {h h' : Hm} (hR : gR D H h) (hs : ∀ a o, h' a = some o → h a = some o) : gR D H h' := ⟨hR.1, hR.2.1, fun a o e => hR.2.2 a o (hs a o e)⟩
/-! a method's run -/
abbrev Cz : Type := Gd × (Program × Launch × Env × Room) × (State × MethodId × Array Value × List Frame × Method × Code) × (Nat × Nat × Nat) × (Option Value → Hm → Prop) × (String → Nat → Hm → Prop)
def gL (ls : Array Slot) (nL : Nat) (lv : List (Option Value)) : Prop := ls.size = nL ∧ lv_wf ls ∧ ∀ (i : Nat) (v : Value), lv[i]? = some (some v) → ls[i]? = some (.val v)
def gQc (D : Gd) (Q : Option Value → Hm → Prop) : Array Value → State → Outcome → State → Prop := fun _ st oc t => (∃ (v : Option Value) (h' : Hm), oc = .returned v ∧ Q v h' ∧ gR D t.heap h') ∧ va_F (gA D) st t
def gXC (D : Gd) (QX : String → Nat → Hm → Prop) : String → Addr → State → State → Prop := fun E q st t => (∃ h' : Hm, QX E q h' ∧ gR D t.heap h') ∧ va_F (gA D) st t
def gQ (z : Cz) : State → Prop := vx_MQ z.2.2.1.2.2.2.1 (gQc z.1 z.2.2.2.2.1) (gXC z.1 z.2.2.2.2.2) z.2.2.1.2.2.1 z.2.2.1.1 z.2.2.2.1.1 z.2.2.2.1.2.1 (gA z.1)
abbrev gWz (z : Cz) (H : Heap) (locs : List Loc) (k n : Nat) (g : JFrame) : Prop :=
  W z.2.1.1 z.2.1.2.1 z.2.1.2.2.1 z.2.1.2.2.2 z.2.2.1.1 z.2.2.1.2.1 z.2.2.1.2.2.1 z.2.2.1.2.2.2.1 z.2.2.1.2.2.2.2.1 z.2.2.1.2.2.2.2.2 H locs k n (gQ z) g
abbrev gWx (z : Cz) (H : Heap) (locs : List Loc) (k n : Nat) (g : JFrame) (q : Nat) : Prop :=
  vx_W z.2.1.1 z.2.1.2.1 z.2.1.2.2.1 z.2.1.2.2.2 z.2.2.1.1 z.2.2.1.2.1 z.2.2.1.2.2.1 z.2.2.1.2.2.2.1 z.2.2.1.2.2.2.2.1 z.2.2.1.2.2.2.2.2 H locs k n (gQ z) g q
def gHy (z : Cz) (H : Heap) (locs : List Loc) (ls : Array Slot) (lv : List (Option Value)) (h : Hm) : Prop :=
  gR z.1 H h ∧ va_S (gA z.1) z.2.2.1.1.heap H locs ∧ gL ls z.2.2.2.1.2.2 lv
/-- the method goes on well from pc, with these locals, this stack, this heap, k cells of n slots made -/
def gW (z : Cz) (pc : Nat) (lv : List (Option Value)) (st : List Value) (h : Hm) (k n : Nat) : Prop :=
  ∀ (H : Heap) (locs : List Loc) (ls : Array Slot), gHy z H locs ls lv h → gWz z H locs k n (F0 z.2.2.1.2.1 pc ls st)
/-- .. with q of class E thrown at pc -/
def gX (z : Cz) (pc : Nat) (lv : List (Option Value)) (h : Hm) (k n : Nat) (E : String) (q : Nat) : Prop :=
  ∀ (H : Heap) (locs : List Loc) (ls : Array Slot) (ce : Cell) (rest : List Value), gHy z H locs ls lv h → H[q]? = some ce → ce.vm = .none → z.2.2.1.1.vm.findClass E = some ce.cls → gWx z H locs k n (F0 z.2.2.1.2.1 pc ls rest) q
/-- what holds in a method's body -/
def gOk (z : Cz) (D : Gd) (y : MethodName) (cc : ByteArray) (ret : Option FieldType) (hh : List (Nat × Nat × Nat × Nat)) (fr kc nc nL : Nat) : Prop :=
  (z.2.1.1.tables.exec = Jvm.exec ∧ z.2.2.1.2.2.2.2.2.code = cc ∧ z.2.2.1.2.2.2.2.2.maxLocals = nL ∧ z.2.2.1.1.vm.findClass y.cls = some z.2.2.1.2.1.cls ∧ (∀ w ∈ lw_all, w.before z.2.2.1.2.2.1 z.2.2.1.1 = true)) ∧
  (z.2.2.1.2.2.2.2.1.locks = false ∧ z.2.1.2.1.stackTraces = false ∧ KN D z.2.2.1.1 ∧ z.2.2.1.2.2.2.2.1.sig.returnType = ret ∧ z.2.2.1.2.2.2.2.1.name = y.name ∧ z.2.2.1.2.2.2.2.2.exceptionTable.toList = tableOf hh) ∧
  (z.1 = D ∧ D.1.size ≤ z.2.2.1.1.heap.size ∧ fr ≤ z.2.1.2.2.2.frames ∧ 64 * fr ≤ z.2.1.2.2.2.locals ∧ z.2.1.2.2.2.cells = kc ∧ z.2.1.2.2.2.slots = nc) ∧ z.2.2.2.1.1 = kc ∧ z.2.2.2.1.2.1 = nc ∧ z.2.2.2.1.2.2 = nL
/-- a method's contract: called on these arguments in this heap it returns with Q or throws with QX, makes at most kc cells of nc slots -/
def AM (D : Gd) (fr kc nc : Nat) (y : MethodName) (ws : List Cond) (av : List Value) (h : Hm) (Q : Option Value → Hm → Prop) (QX : String → Nat → Hm → Prop) : Prop :=
  ∀ l : Launch, l.stackTraces = false → vx_Met l y ws { frames := fr, cells := kc, slots := nc, locals := 64 * fr } (va_Pc av (fun U => gR D U.heap h ∧ KN D U)) (gQc D Q) (gXC D QX) kc nc (gA D)
abbrev noX : String → Nat → Hm → Prop := fun _ _ _ => False
