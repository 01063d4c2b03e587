/-! texts in plain words: p the pad, t how much is typed, k where one reads -/
def pAt (p : Nat → Int32) (t k : Nat) (lo hi : Int32) : Bool := decide (k < t) && decide (lo ≤ p k ∧ p k ≤ hi)
def pNx (p : Nat → Int32) (t k : Nat) (c : Int32) : Nat := if pAt p t k c c then k + 1 else k
def pNum (p : Nat → Int32) (t k : Nat) (mx : Int32) : Bool × Nat × Int32 :=
  if pAt p t k 48 (48 + (if mx < 9 then mx else 9)) then
    (if p k - 48 = 1 ∧ 9 < mx ∧ pAt p t (k + 1) 48 (48 + mx - 10) = true then (true, k + 2, 10 + p (k + 1) - 48) else (true, k + 1, p k - 48))
  else (false, k, 0)
def pWho (p : Nat → Int32) (t k : Nat) : Bool × Nat × Int32 × Int32 :=
  if pAt p t k 117 117 then ((pNum p t (k + 1) 11).1, (pNum p t (k + 1) 11).2.1, 0, (pNum p t (k + 1) 11).2.2)
  else if pAt p t k 103 103 then ((pNum p t (k + 1) 7).1, (pNum p t (k + 1) 7).2.1, 1, (pNum p t (k + 1) 7).2.2)
  else if pAt p t k 111 111 then (true, k + 1, 2, 0)
  else if pAt p t k 97 97 then (true, k + 1, 3, 0) else (false, k, 3, 0)
def pRt (p : Nat → Int32) (t : Nat) (q : Nat × Int32) (c bit : Int32) : Nat × Int32 := if pAt p t q.1 c c then (q.1 + 1, q.2 + bit) else q
def pRts (p : Nat → Int32) (t k : Nat) : Nat × Int32 := pRt p t (pRt p t (pRt p t (pRt p t (k, 0) 114 1) 119 2) 120 4) 109 8
def pEnt (p : Nat → Int32) (t k : Nat) : Bool × Nat × (Nat → Int32) :=
  if pAt p t k 43 43 = false ∧ pAt p t k 45 45 = false then (false, k, fun _ => 0)
  else if (pWho p t (k + 1)).1 = false then (false, (pWho p t (k + 1)).2.1, fun _ => 0)
  else if pAt p t (pWho p t (k + 1)).2.1 61 61 = false then (false, (pWho p t (k + 1)).2.1, fun _ => 0)
  else if (pRts p t ((pWho p t (k + 1)).2.1 + 1)).2 = 0 then (false, (pRts p t ((pWho p t (k + 1)).2.1 + 1)).1, fun _ => 0)
  else (true, pNx p t (pRts p t ((pWho p t (k + 1)).2.1 + 1)).1 42, five (pWho p t (k + 1)).2.2.1 (pWho p t (k + 1)).2.2.2 (pRts p t ((pWho p t (k + 1)).2.1 + 1)).2 (pAt p t k 43 43) (pAt p t (pRts p t ((pWho p t (k + 1)).2.1 + 1)).1 42 42))
/-- the entries from k on, at most m more: where it is wrong or -1, and what was read -/
def pEnts (p : Nat → Int32) (t : Nat) : Nat → Bool → Nat → Int32 × List (Nat → Int32)
  | _, false, k => (if k = t then -1 else nI k, [])
  | 0, true, k => (nI k, [])
  | m + 1, true, k =>
    if (pEnt p t k).1 = false then (nI (pEnt p t k).2.1, [])
    else
      let mo := decide (0 < m) && pAt p t (pEnt p t k).2.1 59 59
      let r := pEnts p t m mo (if mo then (pEnt p t k).2.1 + 1 else (pEnt p t k).2.1)
      (r.1, (pEnt p t k).2.2 :: r.2)
/-- the whole text: where it is wrong or -1, whose list, the entries -/
def pPlan (p : Nat → Int32) (t : Nat) : Int32 × Int32 × List (Nat → Int32) :=
  if (pNum p t 0 19).1 = false then (nI (pNum p t 0 19).2.1, 0, [])
  else if pAt p t (pNum p t 0 19).2.1 58 58 = false then (nI (pNum p t 0 19).2.1, 0, [])
  else ((pEnts p t 6 (decide ((pNum p t 0 19).2.1 + 1 < t)) ((pNum p t 0 19).2.1 + 1)).1, (pNum p t 0 19).2.2, (pEnts p t 6 (decide ((pNum p t 0 19).2.1 + 1 < t)) ((pNum p t 0 19).2.1 + 1)).2)
abbrev MX (D : Gd) (fr : Nat) (y : MethodName) (cc : ByteArray) (nL : Nat) (ret : Option FieldType) (m : Nat) (ad : Nat → Nat) (h : Hm) (As : List Value) (P : Option Value → Ms → Prop) : Prop :=
  AM D fr 0 0 y (ws_ y cc nL ret) (.ref m :: As) h (fun v h' => ∃ S', P v S' ∧ MR m ad S' h h') noX
section MXC
variable {z : Cz} {D : Gd} {y : MethodName} {cc : ByteArray} {ret : Option FieldType} {hh : List (Nat × Nat × Nat × Nat)} {fr kc nc nL : Nat} {pc : Nat} {lv : List (Option Value)} {st : List Value} {h h0 : Hm} {k n : Nat}
variable {m : Nat} {ad : Nat → Nat} {S : Ms}
variable {y' : MethodName} {cc' : ByteArray} {ret' : Option FieldType} {fr' nL' idx mm : Nat} {As rest st0 : List Value} {P : Option Value → Ms → Prop}
theorem mm_callx (hX : gOk z D y cc ret hh fr kc nc nL) (hM : MR m ad S h0 h) (lk : GoodIn lw_all (wsV y.cls idx y'.cls y' (ws_ y' cc' nL' ret')) ∧ gAr y' mm) (hC : y'.cls = RX4) (hM' : MX D fr' y' cc' nL' ret' m ad h As P) (hs : st0 = As.reverse ++ .ref m :: rest) (hm : As.length = mm) (hst : (rest.map fun v => v.category).sum ≤ 8) (hfr : fr' + 1 ≤ fr) (hL : nL' ≤ 45) (hk : k ≤ kc) (hn : n ≤ nc) (d : decode cc pc = .ok (.invokevirtual idx, 3))
    (kk : ∀ v S' h', P v S' → MR m ad S' h0 h' → gW z (pc + 3) lv (gpu v rest) h' k n) : gW z pc lv st0 h k n :=
  aw_callV hX lk hM' hM.1.1 (r := (RX4, TX4, 15)) rfl hC.symm hs hm hst hfr hL hk hn d gnx (by rintro v h' ⟨S', h2, h1⟩; exact kk v S' h' h2 (hM.tr h1))
end MXC
/-- all but what a reading scribbles on -/
def pSm (S S' : Ms) : Prop := (∀ j, j ≠ 7 → S'.1 j = S.1 j) ∧ S'.2 0 = S.2 0 ∧ S'.2 1 = S.2 1 ∧ S'.2 2 = S.2 2 ∧ S'.2 4 = S.2 4
theorem pSm.rf (S : Ms) : pSm S S := ⟨fun _ _ => rfl, rfl, rfl, rfl, rfl⟩
theorem pSm.tr {S S1 S2 : Ms} (h1 : pSm S S1) (h2 : pSm S1 S2) : pSm S S2 := ⟨fun j hj => (h2.1 j hj).trans (h1.1 j hj), h2.2.1.trans h1.2.1, h2.2.2.1.trans h1.2.2.1, h2.2.2.2.1.trans h1.2.2.2.1, h2.2.2.2.2.trans h1.2.2.2.2⟩
theorem pSm.a7 (S : Ms) (f : Nat → Int32) : pSm S (sA S 7 f) := ⟨fun j hj => sA_n S 7 j f hj, rfl, rfl, rfl, rfl⟩
theorem pSm.v {S : Ms} {k : Nat} {x : Int32} (hk : k = 3 ∨ k = 5 ∨ k = 6) : pSm S (sV S k x) := by
  refine ⟨fun _ _ => rfl, sV_n S k 0 x (by omega), sV_n S k 1 x (by omega), sV_n S k 2 x (by omega), sV_n S k 4 x (by omega)⟩
def Tk (S : Ms) (k t : Nat) : Prop := S.2 3 = nI k ∧ S.2 2 = nI t ∧ k ≤ t ∧ t ≤ 80
theorem pNx_1 {p : Nat → Int32} {t k : Nat} {c : Int32} (h : pAt p t k c c = true) : pNx p t k c = k + 1 := if_pos h
theorem pNx_0 {p : Nat → Int32} {t k : Nat} {c : Int32} (h : pAt p t k c c = false) : pNx p t k c = k := if_neg (by rw [h]; decide)
theorem pAt_lt {p : Nat → Int32} {t k : Nat} {lo hi : Int32} (h : pAt p t k lo hi = true) : k < t := by
  unfold pAt at h
  rw [Bool.and_eq_true] at h
  exact of_decide_eq_true h.1
theorem pNx_le {p : Nat → Int32} {t k : Nat} {c : Int32} (hk : k ≤ t) : pNx p t k c ≤ t := by
  unfold pNx
  split
  · rename_i h; exact pAt_lt h
  · exact hk
def pNumS (S : Ms) (r : Bool × Nat × Int32) : Ms := if r.1 then sV (sV S 6 r.2.2) 3 (nI r.2.1) else S
theorem pNum_0 {p : Nat → Int32} {t k : Nat} {mx : Int32} (h : pAt p t k 48 (48 + (if mx < 9 then mx else 9)) = false) : pNum p t k mx = (false, k, 0) := by
  unfold pNum
  rw [if_neg (by rw [h]; decide)]
theorem pNum_1 {p : Nat → Int32} {t k : Nat} {mx : Int32} (h : pAt p t k 48 (48 + (if mx < 9 then mx else 9)) = true) (h2 : ¬ (p k - 48 = 1 ∧ 9 < mx ∧ pAt p t (k + 1) 48 (48 + mx - 10) = true)) : pNum p t k mx = (true, k + 1, p k - 48) := by
  unfold pNum
  rw [if_pos h, if_neg h2]
theorem pNum_2 {p : Nat → Int32} {t k : Nat} {mx : Int32} (h : pAt p t k 48 (48 + (if mx < 9 then mx else 9)) = true) (h1 : p k - 48 = 1) (h2 : 9 < mx) (h3 : pAt p t (k + 1) 48 (48 + mx - 10) = true) : pNum p t k mx = (true, k + 2, 10 + p (k + 1) - 48) := by
  unfold pNum
  rw [if_pos h, if_pos ⟨h1, h2, h3⟩]
theorem pNum_c (p : Nat → Int32) (t k : Nat) (mx : Int32) : pNum p t k mx = (false, k, 0) ∨ (k < t ∧ pNum p t k mx = (true, k + 1, p k - 48)) ∨ (k + 1 < t ∧ pNum p t k mx = (true, k + 2, 10 + p (k + 1) - 48)) := by
  cases e : pAt p t k 48 (48 + (if mx < 9 then mx else 9))
  · exact Or.inl (pNum_0 e)
  · by_cases h : p k - 48 = 1 ∧ 9 < mx ∧ pAt p t (k + 1) 48 (48 + mx - 10) = true
    · exact Or.inr (Or.inr ⟨pAt_lt h.2.2, pNum_2 e h.1 h.2.1 h.2.2⟩)
    · exact Or.inr (Or.inl ⟨pAt_lt e, pNum_1 e h⟩)
theorem pNum_le {p : Nat → Int32} {t k : Nat} {mx : Int32} (hk : k ≤ t) : (pNum p t k mx).2.1 ≤ t := by
  rcases pNum_c p t k mx with e | ⟨h, e⟩ | ⟨h, e⟩ <;> rw [e]
  · exact hk
  · exact h
  · exact h
theorem pNum_f {p : Nat → Int32} {t k : Nat} {mx : Int32} (h : (pNum p t k mx).1 = false) : (pNum p t k mx).2.1 = k := by
  rcases pNum_c p t k mx with e | ⟨h1, e⟩ | ⟨h1, e⟩ <;> rw [e] at h ⊢ <;> cases h
theorem sV_2 (S : Ms) (d v x y : Int32) : sV (sV (sV (sV S 6 d) 3 x) 6 v) 3 y = sV (sV S 6 v) 3 y := by
  unfold sV upd
  congr 1
  funext j
  by_cases h : j = 3 <;> by_cases h2 : j = 6 <;> simp [h, h2]
theorem pNumS_sm (S : Ms) (r : Bool × Nat × Int32) : pSm S (pNumS S r) := by
  unfold pNumS
  split
  · exact (pSm.v (Or.inr (Or.inr rfl))).tr (pSm.v (Or.inl rfl))
  · exact pSm.rf S
theorem pNumS_3 {S : Ms} {r : Bool × Nat × Int32} (h : r.1 = false → S.2 3 = nI r.2.1) : (pNumS S r).2 3 = nI r.2.1 := by
  unfold pNumS
  cases e : r.1
  · exact h e
  · rfl
theorem sV_3 (S : Ms) {k : Nat} {d v : Int32} (e : S.2 3 = nI k) : sV (sV (sV (sV S 6 d) 3 (S.2 3 + 1)) 6 v) 3 ((sV (sV (sV S 6 d) 3 (S.2 3 + 1)) 6 v).2 3 + 1) = pNumS S (true, k + 2, v) := by
  rw [sV_2]
  show sV (sV S 6 v) 3 (S.2 3 + 1 + 1) = _
  rw [e, nI_1, nI_1]
  rfl
theorem pNumS_1 (S : Ms) (r : Bool × Nat × Int32) : (pNumS S r).1 = S.1 := by
  unfold pNumS
  split <;> rfl
theorem pNumS_5 (S : Ms) (r : Bool × Nat × Int32) : (pNumS S r).2 5 = S.2 5 := by
  unfold pNumS
  split <;> rfl
theorem pNumS_6 {S : Ms} {r : Bool × Nat × Int32} (h : r.1 = true) : (pNumS S r).2 6 = r.2.2 := by
  unfold pNumS
  rw [if_pos h]
  rfl
def pWhoP (S : Ms) (t k n : Nat) (v : Option Value) (S' : Ms) : Prop := v = some (.int (bI (pWho (S.1 4) t k).1)) ∧ pSm S S' ∧ S'.2 3 = nI (pWho (S.1 4) t k).2.1 ∧ S'.2 5 = nI n ∧ (∀ i, i < 5 * n → S'.1 7 i = S.1 7 i) ∧ ((pWho (S.1 4) t k).1 = true → S'.1 7 (5 * n) = (pWho (S.1 4) t k).2.2.1 ∧ S'.1 7 (5 * n + 1) = (pWho (S.1 4) t k).2.2.2)
theorem pWho_u {p : Nat → Int32} {t k : Nat} (h : pAt p t k 117 117 = true) : pWho p t k = ((pNum p t (k + 1) 11).1, (pNum p t (k + 1) 11).2.1, 0, (pNum p t (k + 1) 11).2.2) := if_pos h
theorem pWho_g {p : Nat → Int32} {t k : Nat} (h : pAt p t k 117 117 = false) (h1 : pAt p t k 103 103 = true) : pWho p t k = ((pNum p t (k + 1) 7).1, (pNum p t (k + 1) 7).2.1, 1, (pNum p t (k + 1) 7).2.2) := by
  unfold pWho
  rw [if_neg (by rw [h]; decide), if_pos h1]
theorem pWho_o {p : Nat → Int32} {t k : Nat} (h : pAt p t k 117 117 = false) (h1 : pAt p t k 103 103 = false) (h2 : pAt p t k 111 111 = true) : pWho p t k = (true, k + 1, 2, 0) := by
  unfold pWho
  rw [if_neg (by rw [h]; decide), if_neg (by rw [h1]; decide), if_pos h2]
theorem pWho_a {p : Nat → Int32} {t k : Nat} (h : pAt p t k 117 117 = false) (h1 : pAt p t k 103 103 = false) (h2 : pAt p t k 111 111 = false) (h3 : pAt p t k 97 97 = true) : pWho p t k = (true, k + 1, 3, 0) := by
  unfold pWho
  rw [if_neg (by rw [h]; decide), if_neg (by rw [h1]; decide), if_neg (by rw [h2]; decide), if_pos h3]
theorem pWho_n {p : Nat → Int32} {t k : Nat} (h : pAt p t k 117 117 = false) (h1 : pAt p t k 103 103 = false) (h2 : pAt p t k 111 111 = false) (h3 : pAt p t k 97 97 = false) : pWho p t k = (false, k, 3, 0) := by
  unfold pWho
  rw [if_neg (by rw [h]; decide), if_neg (by rw [h1]; decide), if_neg (by rw [h2]; decide), if_neg (by rw [h3]; decide)]
theorem pWho_le {p : Nat → Int32} {t k : Nat} (hk : k ≤ t) : (pWho p t k).2.1 ≤ t := by
  cases h : pAt p t k 117 117
  · cases h1 : pAt p t k 103 103
    · cases h2 : pAt p t k 111 111
      · cases h3 : pAt p t k 97 97
        · rw [pWho_n h h1 h2 h3]; exact hk
        · rw [pWho_a h h1 h2 h3]; exact pAt_lt h3
      · rw [pWho_o h h1 h2]; exact pAt_lt h2
    · rw [pWho_g h h1]; exact pNum_le (pAt_lt h1)
  · rw [pWho_u h]; exact pNum_le (pAt_lt h)
/-- a user's or a group's number has been read -/
theorem pWhoP_n {S S2 : Ms} {t k n : Nat} {mx kd : Int32} (h2 : pSm S S2) (h3 : S2.2 3 = nI (k + 1)) (h5 : S2.2 5 = nI n) (h7 : ∀ i, i < 5 * n → S2.1 7 i = S.1 7 i) (hw : pWho (S.1 4) t k = ((pNum (S.1 4) t (k + 1) mx).1, (pNum (S.1 4) t (k + 1) mx).2.1, kd, (pNum (S.1 4) t (k + 1) mx).2.2)) :
    pWhoP S t k n (some (.int (bI (pNum (S.1 4) t (k + 1) mx).1))) (sA (sA (pNumS S2 (pNum (S.1 4) t (k + 1) mx)) 7 (upd ((pNumS S2 (pNum (S.1 4) t (k + 1) mx)).1 7) (5 * n) kd)) 7 (upd (upd ((pNumS S2 (pNum (S.1 4) t (k + 1) mx)).1 7) (5 * n) kd) (5 * n + 1) ((pNumS S2 (pNum (S.1 4) t (k + 1) mx)).2 6))) := by
  unfold pWhoP
  rw [hw]
  refine ⟨rfl, h2.tr ((pNumS_sm S2 _).tr ((pSm.a7 _ _).tr (pSm.a7 _ _))), ?_, ?_, fun i hi => ?_, fun ho => ⟨?_, ?_⟩⟩
  · exact pNumS_3 (fun h => by rw [h3, pNum_f h])
  · exact (pNumS_5 _ _).trans h5
  · rw [sA_at, pk_un (by omega), pk_un (by omega), pNumS_1]; exact h7 i hi
  · rw [sA_at, pk_un (by omega), pk_us]
  · rw [sA_at, pk_us]; exact pNumS_6 ho
theorem Tk.nx {S S2 : Ms} {t k : Nat} (h : Tk S k t) (h2 : S2.2 2 = S.2 2) {k' : Nat} (hk : k' ≤ t) (h3 : S2.2 3 = nI k') : Tk S2 k' t := ⟨h3, h2.trans h.2.1, hk, h.2.2.2⟩
theorem pSm.A {S S1 : Ms} {f : Nat → Int32} (h : pSm S S1) : pSm S (sA S1 7 f) := h.tr (pSm.a7 S1 f)
theorem pSm.V {S S1 : Ms} {k : Nat} {x : Int32} (hk : k = 3 ∨ k = 5 ∨ k = 6) (h : pSm S S1) : pSm S (sV S1 k x) := h.tr (pSm.v hk)
