/-! typing, loading, writing: in plain words -/
def mop_append (S : Ms) (c : Int32) : Mo := if decide (33 ≤ c ∧ c ≤ 126) = false then mBad S 1 else if S.2 2 = 80 then mBad S 2 else (0, S.2 2 + 1, sV (sA (sV S 1 0) 4 (upd (S.1 4) (mN (S.2 2)) c)) 2 (S.2 2 + 1))
def mop_clear (S : Ms) : Mo := (0, S.2 2, sV (sV S 1 0) 2 0)
def mq_codeAt (S : Ms) (i : Int32) : Mo := if decide (0 ≤ i ∧ i ≤ 79) = false then mQ S 1 0 else mQ S 0 (if i < S.2 2 then S.1 4 (mN i) else -1)
def pTh (s f : Nat → Int32) : Bool := (decide (¬ f 0 = 0) || mUser s (f 1)) && (decide (¬ f 0 = 1) || mGroup s (f 1))
def pThs (s : Nat → Int32) (x : Int32) (g : Nat → Nat → Int32) : Nat → Bool
  | 0 => mObj s x
  | n + 1 => pThs s x g n && pTh s (g n)
theorem pThs_0 {s : Nat → Int32} {x : Int32} {g : Nat → Nat → Int32} {n : Nat} (h : pThs s x g n = false) : pThs s x g (n + 1) = false := by simp [pThs, h]
theorem pThs_t {s : Nat → Int32} {x : Int32} {g : Nat → Nat → Int32} {n : Nat} (h : pThs s x g n = true) : pThs s x g (n + 1) = pTh s (g n) := by simp [pThs, h]
theorem pThs_obj {s : Nat → Int32} {x : Int32} {g : Nat → Nat → Int32} {n : Nat} (h : pThs s x g n = true) : mObj s x = true := by
  induction n with
  | zero => exact h
  | succ n ih =>
    unfold pThs at h
    rw [Bool.and_eq_true] at h
    exact ih h.1
abbrev lG (l : List (Nat → Int32)) : Nat → Nat → Int32 := fun i => l.getD i (fun _ => 0)
def mLd (s : Nat → Int32) (x : Nat) (l : List (Nat → Int32)) : Nat → Int32 := fill (fun i => lG l (i / 5) (i % 5)) (upd s (mO x 5) (nI l.length)) (mE x 0 0) (5 * l.length)
/-- alike but for what nobody else reads -/
def mEq (S S' : Ms) : Prop := (∀ j, j < 5 → S.1 j = S'.1 j) ∧ S.2 0 = S'.2 0 ∧ S.2 1 = S'.2 1 ∧ S.2 2 = S'.2 2
theorem mEq.rf (S : Ms) : mEq S S := ⟨fun _ _ => rfl, rfl, rfl, rfl⟩
def mLdOk (S : Ms) : Bool := decide ((pPlan (S.1 4) (mN (S.2 2))).1 = -1) && pThs (S.1 0) (pPlan (S.1 4) (mN (S.2 2))).2.1 (lG (pPlan (S.1 4) (mN (S.2 2))).2.2) (pPlan (S.1 4) (mN (S.2 2))).2.2.length
def mop_loadEntries (S : Ms) : Mo := if mLdOk S then (0, nI (pPlan (S.1 4) (mN (S.2 2))).2.2.length, sV (sA (mC S) 0 (mLd (S.1 0) (mN (pPlan (S.1 4) (mN (S.2 2))).2.1) (pPlan (S.1 4) (mN (S.2 2))).2.2)) 2 0) else mBad S 1
def mPut (S : Ms) (c : Int32) : Ms := sV (sA S 4 (upd (S.1 4) (mN (S.2 2)) c)) 2 (S.2 2 + 1)
def mPuts (S : Ms) (l : List Int32) : Ms := l.foldl mPut S
theorem mPuts_app (S : Ms) (a b : List Int32) : mPuts (mPuts S a) b = mPuts S (a ++ b) := (List.foldl_append).symm
theorem mPuts_0 (S : Ms) (l : List Int32) : (mPuts S l).1 0 = S.1 0 := by
  induction l generalizing S with
  | nil => rfl
  | cons c l ih => exact (ih (mPut S c)).trans rfl
theorem mPuts_2 {S : Ms} {k : Nat} (h : S.2 2 = nI k) (l : List Int32) : (mPuts S l).2 2 = nI (k + l.length) := by
  induction l generalizing S k with
  | nil => exact h
  | cons c l ih =>
    have h1 : (mPut S c).2 2 = nI (k + 1) := by show S.2 2 + 1 = _; rw [h, nI_1]
    rw [show (c :: l).length = l.length + 1 from rfl, show k + (l.length + 1) = k + 1 + l.length by omega]
    exact ih h1
def wNum (x : Int32) : List Int32 := if 9 < x then [48 + x / 10, 48 + (x - x / 10 * 10)] else [48 + (x - x / 10 * 10)]
def wSg (b : Bool) : List Int32 := if b then [43] else [45]
def wKd (k : Int32) : List Int32 := if k = 0 then [117] else if k = 1 then [103] else if k = 2 then [111] else [97]
def wIf (b : Bool) (c : Int32) : List Int32 := if b then [c] else []
def wWh (k w : Int32) : List Int32 := if k < 2 then wNum w else []
def wEnt (s : Nat → Int32) (o e : Nat) : List Int32 := wSg (decide (s (mE o e 3) = 1)) ++ wKd (s (mE o e 0)) ++ wWh (s (mE o e 0)) (s (mE o e 1)) ++ [61] ++ wIf (mHas (s (mE o e 2)) 0) 114 ++ wIf (mHas (s (mE o e 2)) 1) 119 ++ wIf (mHas (s (mE o e 2)) 2) 120 ++ wIf (mHas (s (mE o e 2)) 3) 109 ++ wIf (decide (s (mE o e 4) = 1)) 42
def wEnts (s : Nat → Int32) (o : Nat) : Nat → List Int32
  | 0 => []
  | n + 1 => wEnts s o n ++ wIf (decide (0 < n)) 59 ++ wEnt s o n
def wText (s : Nat → Int32) (o n : Nat) : List Int32 := wNum (nI o) ++ [58] ++ wEnts s o n
def mop_writeEntries (S : Ms) (o : Int32) : Mo := if mObj (S.1 0) o = false then mBad S 1 else (0, nI (wText (S.1 0) (mN o) (mCo (S.1 0) (mN o))).length, mPuts (sV (sV S 1 0) 2 0) (wText (S.1 0) (mN o) (mCo (S.1 0) (mN o))))
theorem wNum_le (x : Int32) : (wNum x).length ≤ 2 := by unfold wNum; split <;> simp
theorem wIf_le (b : Bool) (c : Int32) : (wIf b c).length ≤ 1 := by cases b <;> simp [wIf]
theorem wSg_le (b : Bool) : (wSg b).length = 1 := by cases b <;> rfl
theorem wKd_le (k : Int32) : (wKd k).length = 1 := by unfold wKd; split; rfl; split; rfl; split <;> rfl
theorem wWh_le (k x : Int32) : (wWh k x).length ≤ 2 := by unfold wWh; split; exact wNum_le x; exact Nat.zero_le _
theorem wEnt_le (s : Nat → Int32) (o e : Nat) : (wEnt s o e).length ≤ 10 := by
  unfold wEnt
  simp only [List.length_append]
  have h1 := wSg_le (decide (s (mE o e 3) = 1))
  have h2 := wKd_le (s (mE o e 0))
  have h3 := wWh_le (s (mE o e 0)) (s (mE o e 1))
  have h4 := wIf_le (mHas (s (mE o e 2)) 0) 114
  have h5 := wIf_le (mHas (s (mE o e 2)) 1) 119
  have h6 := wIf_le (mHas (s (mE o e 2)) 2) 120
  have h7 := wIf_le (mHas (s (mE o e 2)) 3) 109
  have h8 := wIf_le (decide (s (mE o e 4) = 1)) 42
  have h9 : ([61] : List Int32).length = 1 := rfl
  omega
theorem wEnts_le (s : Nat → Int32) (o n : Nat) : (wEnts s o n).length ≤ 11 * n := by
  induction n with
  | zero => exact Nat.le_refl 0
  | succ n ih =>
    have h1 := wEnt_le s o n
    have h2 := wIf_le (decide (0 < n)) 59
    unfold wEnts
    simp only [List.length_append]
    omega
