/-! THE REFERENCE (PermissionDeskModel): its world, its rows. A state: arrays (0 s, 1 past, 2 slots, 3 filled, 4 pad, 5 was, 6 one, 7 part) and numbers (0 pasts, 1 last, 2 typed, 3 spot, 4 told, 5 parts, 6 value) -/
abbrev Ms : Type := (Nat → Nat → Int32) × (Nat → Int32)
def mLen : Nat → Nat := fun k => match k with
  | 0 => 765
  | 1 => 3825
  | 2 => 1530
  | 3 => 2
  | 4 => 80
  | 5 => 240
  | 6 => 5
  | _ => 35
def mTag : Nat → Nat := fun k => match k with
  | 3 => 1
  | _ => 0
abbrev msF (ad : Nat → Nat) (v : Nat → Int32) : List Value := [.ref (ad 0), .ref (ad 1), .ref (ad 2), .ref (ad 3), .int (v 0), .int (v 1), .ref (ad 4), .int (v 2), .ref (ad 5), .ref (ad 6), .int (v 3), .int (v 4), .int (v 5), .int (v 6), .ref (ad 7)]
/-- the addresses are apart -/
def mAp (m : Nat) (ad : Nat → Nat) : Prop := (∀ j, j < 8 → ∀ k, k < 8 → ad j = ad k → j = k) ∧ ∀ k, k < 8 → ad k ≠ m
def MW (m : Nat) (ad : Nat → Nat) (st : Ms) (h : Hm) : Prop := h m = some (.inl (3, msF ad st.2)) ∧ (∀ k, k < 8 → h (ad k) = some (.inr (mTag k, mLen k, .inl (st.1 k)))) ∧ mAp m ad
def MF (m : Nat) (ad : Nat → Nat) (h h' : Hm) : Prop := ∀ a, a ≠ m → (∀ k, k < 8 → a ≠ ad k) → h' a = h a
def MR (m : Nat) (ad : Nat → Nat) (st : Ms) (h h' : Hm) : Prop := MW m ad st h' ∧ MF m ad h h'
def sA (st : Ms) (k : Nat) (f : Nat → Int32) : Ms := (fun j => if j = k then f else st.1 j, st.2)
def sV (st : Ms) (k : Nat) (x : Int32) : Ms := (st.1, upd st.2 k x)
theorem MW.rf {m : Nat} {ad : Nat → Nat} {st : Ms} {h : Hm} (hM : MW m ad st h) : MR m ad st h h := ⟨hM, fun _ _ _ => rfl⟩
theorem MR.tr {m : Nat} {ad : Nat → Nat} {st st' : Ms} {h h1 h2 : Hm} (h1' : MR m ad st h h1) (h2' : MR m ad st' h1 h2) : MR m ad st' h h2 := ⟨h2'.1, fun a e1 e2 => (h2'.2 a e1 e2).trans (h1'.2 a e1 e2)⟩
theorem MR.setA {m : Nat} {ad : Nat → Nat} {st : Ms} {h0 h : Hm} (hM : MR m ad st h0 h) {k : Nat} (hk : k < 8) (f : Nat → Int32) : MR m ad (sA st k f) h0 (gset h (ad k) (.inr (mTag k, mLen k, .inl f))) := by
  obtain ⟨⟨h1, h2, h3⟩, h4⟩ := hM
  refine ⟨⟨(gset_n (Ne.symm (h3.2 k hk))).trans h1, fun j hj => ?_, h3⟩, fun a e1 e2 => (gset_n (e2 k hk)).trans (h4 a e1 e2)⟩
  by_cases e : j = k
  · subst e
    rw [gset_s]
    simp [sA]
  · rw [gset_n (fun e9 => e (h3.1 j hj k hk e9)), h2 j hj]
    simp [sA, e]
theorem MR.setV {m : Nat} {ad : Nat → Nat} {st : Ms} {h0 h : Hm} (hM : MR m ad st h0 h) (k : Nat) (x : Int32) : MR m ad (sV st k x) h0 (gset h m (.inl (3, msF ad (upd st.2 k x)))) := by
  obtain ⟨⟨h1, h2, h3⟩, h4⟩ := hM
  exact ⟨⟨gset_s, fun j hj => (gset_n (h3.2 j hj)).trans (h2 j hj), h3⟩, fun a e1 e2 => (gset_n e1).trans (h4 a e1 e2)⟩
/-- the number's place among the fields -/
def mPl : Nat → Nat := fun k => match k with
  | 0 => 4
  | 1 => 5
  | 2 => 7
  | 3 => 10
  | 4 => 11
  | 5 => 12
  | _ => 13
theorem msF_set (ad : Nat → Nat) (v : Nat → Int32) (k : Nat) (hk : k < 7) (x : Int32) : (msF ad v).set (mPl k) (.int x) = msF ad (upd v k x) := by
  rcases (show k = 0 ∨ k = 1 ∨ k = 2 ∨ k = 3 ∨ k = 4 ∨ k = 5 ∨ k = 6 by omega) with e | e | e | e | e | e | e <;> subst e <;> rfl
section GMW
variable {z : Cz} {D : Gd} {y : MethodName} {cc : ByteArray} {ret : Option FieldType} {hh : List (Nat × Nat × Nat × Nat)} {fr kc nc nL : Nat} {pc : Nat} {lv : List (Option Value)} {st : List Value} {h h0 : Hm} {k n : Nat}
variable {m : Nat} {ad : Nat → Nat} {S : Ms}
theorem mm_get (hX : gOk z D y cc ret hh fr kc nc nL) (hM : MR m ad S h0 h) {idx j : Nat} (hf : gFld y.cls idx 3 j) {v : Value} (hv : (msF ad S.2)[j]? = some v) (d : decode cc pc = .ok (.getfield idx, 3)) (kk : gW z (pc + 3) lv (v :: st) h k n) : gW z pc lv (.ref m :: st) h k n := aw_get hX hf hM.1.1 hv d kk
theorem mm_put (hX : gOk z D y cc ret hh fr kc nc nL) (hM : MR m ad S h0 h) (j : Nat) {idx : Nat} (hf : gPut y.cls idx 3 (mPl j) .int false) (hj : j < 7) {x : Int32} (d : decode cc pc = .ok (.putfield idx, 3)) (kk : ∀ h' : Hm, MR m ad (sV S j x) h0 h' → gW z (pc + 3) lv st h' k n) : gW z pc lv (.int x :: .ref m :: st) h k n := by
  refine aw_put hX hf hM.1.1 rfl rfl d ?_
  rw [msF_set _ _ _ hj]
  exact kk _ (hM.setV j x)
theorem mm_ld (hX : gOk z D y cc ret hh fr kc nc nL) (hM : MR m ad S h0 h) {j : Nat} (hj : j < 8 ∧ j ≠ 3) {x : Int32} (i : Nat) (ei : x = nI i) (hi : i < mLen j) (d : decode cc pc = .ok (.iaload, 1)) (kk : gW z (pc + 1) lv (.int (S.1 j i) :: st) h k n) : gW z pc lv (.int x :: .ref (ad j) :: st) h k n := by
  have ha := hM.1.2.1 j hj.1
  have ht : mTag j = 0 := by unfold mTag; split <;> first | rfl | exact absurd rfl hj.2
  rw [ht] at ha
  have hl : mLen j < 2147483648 := by unfold mLen; split <;> decide
  exact aw_iald hX ha i ei hi hl d kk
theorem mm_st (hX : gOk z D y cc ret hh fr kc nc nL) (hM : MR m ad S h0 h) {j : Nat} (hj : j < 8 ∧ j ≠ 3) {x v : Int32} (i : Nat) (ei : x = nI i) (hi : i < mLen j) (d : decode cc pc = .ok (.iastore, 1)) (kk : ∀ h' : Hm, MR m ad (sA S j (upd (S.1 j) i v)) h0 h' → gW z (pc + 1) lv st h' k n) : gW z pc lv (.int v :: .int x :: .ref (ad j) :: st) h k n := by
  have ha := hM.1.2.1 j hj.1
  have ht : mTag j = 0 := by unfold mTag; split <;> first | rfl | exact absurd rfl hj.2
  rw [ht] at ha
  have hl : mLen j < 2147483648 := by unfold mLen; split <;> decide
  refine aw_iast hX ha i ei hi hl d ?_
  have := hM.setA hj.1 (upd (S.1 j) i v)
  rw [ht] at this
  exact kk _ this
theorem mm_zld (hX : gOk z D y cc ret hh fr kc nc nL) (hM : MR m ad S h0 h) {x : Int32} (i : Nat) (ei : x = nI i) (hi : i < 2) (d : decode cc pc = .ok (.baload, 1)) (kk : gW z (pc + 1) lv (.int (S.1 3 i) :: st) h k n) : gW z pc lv (.int x :: .ref (ad 3) :: st) h k n :=
  aw_zald hX (hM.1.2.1 3 (by decide)) i ei hi (by decide) d kk
theorem mm_zst (hX : gOk z D y cc ret hh fr kc nc nL) (hM : MR m ad S h0 h) {x v : Int32} (i : Nat) (ei : x = nI i) (hi : i < 2) (hv : narrow .boolean (.int v) = .int v) (d : decode cc pc = .ok (.bastore, 1)) (kk : ∀ h' : Hm, MR m ad (sA S 3 (upd (S.1 3) i v)) h0 h' → gW z (pc + 1) lv st h' k n) : gW z pc lv (.int v :: .int x :: .ref (ad 3) :: st) h k n :=
  aw_zast hX (hM.1.2.1 3 (by decide)) i ei hi (by decide) hv d (kk _ (hM.setA (by decide) _))
/-- a contract of the reference: answers rv, leaves the state S' -/
abbrev MC (D : Gd) (fr : Nat) (y : MethodName) (cc : ByteArray) (nL : Nat) (ret : Option FieldType) (m : Nat) (ad : Nat → Nat) (h : Hm) (As : List Value) (rv : Option Value) (S' : Ms) : Prop :=
  AM D fr 0 0 y (ws_ y cc nL ret) (.ref m :: As) h (fun v h' => v = rv ∧ MR m ad S' h h') noX
/-- .. of its static methods -/
abbrev SC (D : Gd) (fr : Nat) (y : MethodName) (cc : ByteArray) (nL : Nat) (ret : Option FieldType) (h : Hm) (As : List Value) (rv : Option Value) : Prop :=
  AM D fr 0 0 y (ws_ y cc nL ret) As h (fun v h' => v = rv ∧ h' = h) noX
variable {y' : MethodName} {cc' : ByteArray} {ret' : Option FieldType} {hh' : List (Nat × Nat × Nat × Nat)} {fr' nL' idx mm : Nat} {As rest st0 : List Value} {S' : Ms} {rv : Option Value}
theorem mm_call (hX : gOk z D y cc ret hh fr kc nc nL) (hM : MR m ad S h0 h) (lk : GoodIn lw_all (wsV y.cls idx y'.cls y' (ws_ y' cc' nL' ret')) ∧ gAr y' mm) (hC : y'.cls = RX4) (hM' : MC D fr' y' cc' nL' ret' m ad h As rv S') (hs : st0 = As.reverse ++ .ref m :: rest) (hm : As.length = mm) (hst : (rest.map fun v => v.category).sum ≤ 8) (hfr : fr' + 1 ≤ fr) (hL : nL' ≤ 45) (hk : k ≤ kc) (hn : n ≤ nc) (d : decode cc pc = .ok (.invokevirtual idx, 3))
    (kk : ∀ h', MR m ad S' h0 h' → gW z (pc + 3) lv (gpu rv rest) h' k n) : gW z pc lv st0 h k n :=
  aw_callV hX lk hM' hM.1.1 (r := (RX4, TX4, 15)) rfl hC.symm hs hm hst hfr hL hk hn d gnx (by rintro v h' ⟨rfl, h1⟩; exact kk h' (hM.tr h1))
theorem ss_call (hX : gOk z D y cc ret hh fr kc nc nL) (lk : GoodIn lw_all (va_wsS y.cls idx y' (ws_ y' cc' nL' ret')) ∧ gAr y' mm) (hM' : SC D fr' y' cc' nL' ret' h As rv) (hs : st0 = As.reverse ++ rest) (hm : As.length = mm) (hst : (rest.map fun v => v.category).sum ≤ 8) (hfr : fr' + 1 ≤ fr) (hL : nL' ≤ 45) (hk : k ≤ kc) (hn : n ≤ nc) (d : decode cc pc = .ok (.invokestatic idx, 3))
    (kk : gW z (pc + 3) lv (gpu rv rest) h k n) : gW z pc lv st0 h k n :=
  aw_callS hX lk hM' hs hm hst hfr hL hk hn d gnx (by rintro v h' ⟨rfl, rfl⟩; exact kk)
end GMW
def bI (b : Bool) : Int32 := if b then 1 else 0
theorem bI_n (b : Bool) : narrow .boolean (.int (bI b)) = .int (bI b) := by cases b <;> rfl
theorem bI_0 (b : Bool) : bI b = 0 ↔ b = false := by cases b <;> decide
theorem bI_1 (b : Bool) : bI b = 1 ↔ b = true := by cases b <;> decide
