/-! objects, entries, what is allowed: in plain words on the reference's array -/
def mBelF (s : Nat → Int32) (b : Nat) : Nat → Int32 → Bool
  | 0, _ => false
  | f + 1, x => if x < 0 then false else if x = nI b then true else mBelF s b f (s (mO (mN x) 1))
/-- object a is below b -/
def mBelow (s : Nat → Int32) (a b : Nat) : Bool := mBelF s b 22 (s (mO a 1))
def mBelows (s : Nat → Int32) (b : Nat) : Nat := cnt (fun k => mObj s (nI k) && mBelow s k b) 20
def mCount (s : Nat → Int32) : Nat := cnt (fun k => decide (s (mO k 0) = 1)) 20
def fstF (p : Nat → Bool) : Nat → Nat → Option Nat
  | 0, _ => none
  | n + 1, k => if p k then some k else fstF p n (k + 1)
def mFor (s : Nat → Int32) (u : Int32) (o l e : Nat) : Bool := if s (mE l e 0) = 0 then decide (s (mE l e 1) = u) else if s (mE l e 0) = 1 then mIsOf s u (mN (s (mE l e 1))) (mN (s 1)) else if s (mE l e 0) = 2 then decide (s (mO o 2) = u) else true
/-- entry e of the list l decides about the right r of u at o -/
def mCnts (s : Nat → Int32) (u : Int32) (o : Nat) (r : Int32) (l e : Nat) : Bool := (decide (l = o) || decide (s (mE l e 4) = 1)) && (mHas (s (mE l e 2)) r && mFor s u o l e)
def mDecF (s : Nat → Int32) (u : Int32) (o : Nat) (r : Int32) : Nat → Int32 → Option (Nat × Nat)
  | 0, _ => none
  | f + 1, x => if x < 0 then none else match fstF (mCnts s u o r (mN x)) (mN (s (mO (mN x) 5))) 0 with
    | some e => some (mN x, e)
    | none => mDecF s u o r f (if s (mO (mN x) 4) = 1 then s (mO (mN x) 1) else -1)
def mDec (s : Nat → Int32) (u : Int32) (o : Nat) (r : Int32) : Option (Nat × Nat) := mDecF s u o r 22 (nI o)
def mDecI : Option (Nat × Nat) → Int32
  | none => -1
  | some q => nI (6 * q.1 + q.2)
def mByList (s : Nat → Int32) (u : Int32) (o : Nat) (r : Int32) : Bool := match mDec s u o r with
  | none => false
  | some q => decide (s (mE q.1 q.2 3) = 1)
def mAllows (s : Nat → Int32) (u : Int32) (o : Nat) (r : Int32) : Bool := decide (u = 0) || (decide (r = 3) && decide (s (mO o 2) = u) || mHas (s (mO o 3)) r && mByList s u o r)
def mRt (s : Nat → Int32) (u : Int32) (o : Nat) : Nat → Int32
  | 0 => 0
  | n + 1 => mRt s u o n ||| (if mAllows s u o (nI n) then 1 <<< (nI n &&& 31) else 0)
def mRights (s : Nat → Int32) (u : Int32) (o : Nat) : Int32 := mRt s u o 4
def mEvI (s : Nat → Int32) (u : Nat) (acc : Int32) : Nat → Int32
  | 0 => acc
  | n + 1 => mEvI s u acc n + (if mObj s (nI n) then mSize (mRights s (nI u) n) else 0)
def mEv (s : Nat → Int32) : Nat → Int32
  | 0 => 0
  | n + 1 => mEvI s n (mEv s n) 20
theorem cnt_mono {f g : Nat → Bool} {n : Nat} (h : ∀ k, k < n → f k = true → g k = true) : cnt f n ≤ cnt g n := by
  induction n with
  | zero => exact Nat.le_refl 0
  | succ n ih =>
    have h1 := ih (fun k hk => h k (by omega))
    unfold cnt
    by_cases e : f n = true
    · rw [if_pos e, if_pos (h n (by omega) e)]; omega
    · rw [if_neg e]; split <;> omega
theorem cnt_lt {f g : Nat → Bool} {n : Nat} (h : ∀ k, k < n → f k = true → g k = true) {q : Nat} (hq : q < n) (h1 : f q = false) (h2 : g q = true) : cnt f n < cnt g n := by
  induction n with
  | zero => omega
  | succ n ih =>
    unfold cnt
    by_cases e : q = n
    · subst e
      have h3 := cnt_mono (fun k hk => h k (by omega) : ∀ k, k < q → f k = true → g k = true)
      rw [h1, h2, if_neg (by decide), if_pos rfl]; omega
    · have h3 := ih (fun k hk => h k (by omega)) (by omega)
      by_cases e : f n = true
      · rw [if_pos e, if_pos (h n (by omega) e)]; omega
      · rw [if_neg e]; split <;> omega
/-- ranks may be taken up to 20 -/
theorem rk_bd {s : Nat → Int32} (h : ∃ rk : Nat → Nat, ∀ o, o < 20 → s (mO o 0) = 1 → mObW s rk o) : ∃ rk : Nat → Nat, (∀ o, rk o ≤ 20) ∧ ∀ o, o < 20 → s (mO o 0) = 1 → mObW s rk o := by
  obtain ⟨rk, h⟩ := h
  refine ⟨fun o => cnt (fun x => decide (rk x < rk o)) 20, fun o => cnt_le _ _, fun o ho h1 => ?_⟩
  obtain ⟨h2, h3⟩ := h o ho h1
  refine ⟨?_, h3⟩
  rcases h2 with h2 | ⟨hn, q, hq, e1, e2, e3⟩
  · exact Or.inl h2
  · exact Or.inr ⟨hn, q, hq, e1, e2, cnt_lt (q := q) (fun k _ hk => by simp at hk ⊢; omega) hq (by simp) (by simpa using e3)⟩
theorem mN_i {n : Nat} (h : n < 2147483648) : mN (nI n) = n := nI_clamp (by omega)
theorem neg1_lt : (-1 : Int32) < 0 := by decide
theorem mBelF_1 {s : Nat → Int32} {b f : Nat} {x : Int32} (h : x < 0) : mBelF s b (f + 1) x = false := by simp [mBelF, h]
theorem mBelF_2 {s : Nat → Int32} {b f : Nat} {x : Int32} (h : ¬ x < 0) (h2 : x = nI b) : mBelF s b (f + 1) x = true := by simp only [mBelF, if_neg h, if_pos h2]
theorem mBelF_3 {s : Nat → Int32} {b f q : Nat} (hq : q < 20) (h2 : ¬ nI q = nI b) : mBelF s b (f + 1) (nI q) = mBelF s b f (s (mO q 1)) := by
  have h1 : ¬ nI q < 0 := nI_pos (by omega)
  simp only [mBelF, if_neg h1, if_neg h2, mN_i (show q < 2147483648 by omega)]
def mFounds (s : Nat → Int32) (o : Nat) (p w : Int32) : Nat → Int32 := upd (upd (upd (upd (upd (fill (fun _ => 0) s (mO o 0) 36) (mO o 0) 1) (mO o 1) p) (mO o 2) w) (mO o 3) 15) (mO o 4) 1
/-- the first object that isn't there -/
def mFree (s : Nat → Int32) : Nat := (fstF (fun k => decide (s (mO k 0) = 0)) 20 0).getD 20
def mop_make (S : Ms) (p w : Int32) : Mo :=
  if mObj (S.1 0) p = false then mBad S 1 else if mUser (S.1 0) w = false then mBad S 1 else if mCount (S.1 0) = 20 then mBad S 2 else (0, nI (mFree (S.1 0)), sA (mC S) 0 (mFounds (S.1 0) (mFree (S.1 0)) p w))
def mop_remove (S : Ms) (o : Int32) : Mo :=
  if mObj (S.1 0) o = false then mBad S 1 else if o = 0 then mBad S 2 else if 0 < mBelows (S.1 0) (mN o) then mBad S 2 else (0, nI (mCount (fill (fun _ => 0) (S.1 0) (mO (mN o) 0) 36)), sA (mC S) 0 (fill (fun _ => 0) (S.1 0) (mO (mN o) 0) 36))
def mop_move (S : Ms) (o p : Int32) : Mo :=
  if mObj (S.1 0) o = false then mBad S 1 else if mObj (S.1 0) p = false then mBad S 1 else if o = 0 then mBad S 2 else if p = o then mBad S 2 else if mBelow (S.1 0) (mN p) (mN o) = true then mBad S 2 else (0, S.1 0 (mO (mN o) 1), mSet S (mO (mN o) 1) p)
theorem fstF_none {p : Nat → Bool} {n k : Nat} (h : ∀ j, k ≤ j → j < k + n → p j = false) : fstF p n k = none := by
  induction n generalizing k with
  | zero => rfl
  | succ n ih =>
    unfold fstF
    rw [h k (Nat.le_refl _) (by omega), if_neg (by decide)]
    exact ih (fun j h1 h2 => h j (by omega) (by omega))
theorem fstF_some {p : Nat → Bool} {n k i : Nat} (h : ∀ j, k ≤ j → j < i → p j = false) (hk : k ≤ i) (hi : i < k + n) (hp : p i = true) : fstF p n k = some i := by
  induction n generalizing k with
  | zero => omega
  | succ n ih =>
    unfold fstF
    by_cases e : k = i
    · subst e; rw [if_pos hp]
    · rw [h k (Nat.le_refl _) (by omega), if_neg (by decide)]
      exact ih (fun j h1 h2 => h j (by omega) h2) (by omega) (by omega)
theorem fstF_st {p : Nat → Bool} {n k : Nat} (h : p k = false) : fstF p (n + 1) k = fstF p n (k + 1) := by
  simp [fstF, h]
theorem fstF_hit {p : Nat → Bool} {n k : Nat} (h : p k = true) : fstF p (n + 1) k = some k := by
  simp [fstF, h]
theorem cnt_all {f : Nat → Bool} {n : Nat} (h : ∀ k, k < n → f k = true) : cnt f n = n := by
  induction n with
  | zero => rfl
  | succ n ih => unfold cnt; rw [ih (fun k hk => h k (by omega)), if_pos (h n (by omega))]
theorem mFree_of {s : Nat → Int32} (hth : ∀ o, o < 20 → s (mO o 0) = 0 ∨ s (mO o 0) = 1) (h : mCount s ≠ 20) : ∃ i, i < 20 ∧ mFree s = i ∧ s (mO i 0) = 0 ∧ ∀ j, j < i → s (mO j 0) = 1 := by
  have h1 : ∃ i, i < 20 ∧ s (mO i 0) = 0 := by
    apply Classical.byContradiction
    intro hn
    apply h
    unfold mCount
    refine cnt_all (fun k hk => ?_)
    rcases hth k hk with e | e
    · exact absurd ⟨k, hk, e⟩ hn
    · simp [e]
  obtain ⟨i, ⟨h2, h3⟩, h4⟩ := pk_least _ h1
  refine ⟨i, h2, ?_, h3, fun j hj => ?_⟩
  · unfold mFree
    rw [fstF_some (i := i) (fun j _ hj => ?_) (Nat.zero_le _) (by omega) (by simp [h3])]
    · rfl
    · have := h4 j hj
      simp only [not_and] at this
      simpa using this (by omega)
  · rcases hth j (by omega) with e | e
    · exact absurd ⟨by omega, e⟩ (h4 j hj)
    · exact e
theorem fill_down (s : Nat → Int32) (a j len : Nat) (h : j < len) : upd (fill (fun i => s (a + (j + 1) + i)) s (a + 5 + (j + 1)) (len - (j + 1))) (a + 5 + j) (s (a + j)) = fill (fun i => s (a + j + i)) s (a + 5 + j) (len - j) := by
  funext x
  unfold upd fill
  by_cases e : x = a + 5 + j
  · subst e
    rw [if_pos rfl, if_pos (by omega)]
    congr 1
    omega
  · rw [if_neg e]
    by_cases e2 : a + 5 + (j + 1) ≤ x ∧ x < a + 5 + (j + 1) + (len - (j + 1))
    · rw [if_pos e2, if_pos (by omega)]
      show s (a + (j + 1) + (x - (a + 5 + (j + 1)))) = s (a + j + (x - (a + 5 + j)))
      rw [show a + (j + 1) + (x - (a + 5 + (j + 1))) = a + j + (x - (a + 5 + j)) by omega]
    · rw [if_neg e2, if_neg (by omega)]
/-- an entry taken out; room for one; one written -/
def mTake (s : Nat → Int32) (o e c : Nat) : Nat → Int32 := fill (fun i => s (mE o e 0 + 5 + i)) (upd s (mO o 5) (s (mO o 5) - 1)) (mE o e 0) (5 * (c - 1 - e))
def mOpen (s : Nat → Int32) (o e c : Nat) : Nat → Int32 := upd (fill (fun i => s (mE o e 0 + i)) s (mE o (e + 1) 0) (5 * (c - e))) (mO o 5) (s (mO o 5) + 1)
def mWr (s : Nat → Int32) (o e : Nat) (kd w r : Int32) (a b : Bool) : Nat → Int32 := upd (upd (upd (upd (upd s (mE o e 0) kd) (mE o e 1) w) (mE o e 2) r) (mE o e 3) (bI a)) (mE o e 4) (bI b)
abbrev mCo (s : Nat → Int32) (o : Nat) : Nat := mN (s (mO o 5))
def mop_adds (S : Ms) (o kd w r : Int32) (a b : Bool) : Mo :=
  if mObj (S.1 0) o = false then mBad S 1 else if kd = 0 ∧ mUser (S.1 0) w = false then mBad S 1 else if kd = 1 ∧ mGroup (S.1 0) w = false then mBad S 1 else if decide (1 ≤ r ∧ r ≤ 15) = false then mBad S 2 else if S.1 0 (mO (mN o) 5) = 6 then mBad S 3 else
  (0, S.1 0 (mO (mN o) 5) + 1, sA (mC S) 0 (mWr (upd (S.1 0) (mO (mN o) 5) (S.1 0 (mO (mN o) 5) + 1)) (mN o) (mCo (S.1 0) (mN o)) kd w r a b))
def mop_removeEntry (S : Ms) (o e : Int32) : Mo := if mEnt (S.1 0) o e = false then mBad S 1 else (0, S.1 0 (mO (mN o) 5) - 1, sA (mC S) 0 (mTake (S.1 0) (mN o) (mN e) (mCo (S.1 0) (mN o))))
theorem MOk.th {S : Ms} (h : MOk S) : ∀ o, o < 20 → S.1 0 (mO o 0) = 0 ∨ S.1 0 (mO o 0) = 1 := by obtain ⟨⟨nu, ng, -, -, -, -, h1, -⟩, -⟩ := h; exact h1
theorem MOk.rk {S : Ms} (h : MOk S) : ∃ rk : Nat → Nat, (∀ o, rk o ≤ 20) ∧ ∀ o, o < 20 → S.1 0 (mO o 0) = 1 → mObW (S.1 0) rk o := rk_bd h.ob
theorem mEnt_of {s : Nat → Int32} {x e : Int32} {rk : Nat → Nat} (hob : ∀ o, o < 20 → s (mO o 0) = 1 → mObW s rk o) (h : mEnt s x e = true) : ∃ o j c : Nat, o < 20 ∧ x = nI o ∧ s (mO o 0) = 1 ∧ j < c ∧ c ≤ 6 ∧ e = nI j ∧ s (mO o 5) = nI c := by
  unfold mEnt at h
  rw [Bool.and_eq_true, decide_eq_true_eq] at h
  obtain ⟨o, ho, rfl, h1⟩ := mObj_of h.1
  obtain ⟨-, -, c, hc, ec, -⟩ := hob o ho h1
  have h2 := h.2
  rw [nI_clamp (by omega), ec] at h2
  rcases Nat.eq_zero_or_pos c with h0 | h0
  · subst h0
    exact absurd (Int32.le_trans h2.1 h2.2) (by decide)
  · obtain ⟨k, rfl⟩ : ∃ k, c = k + 1 := ⟨c - 1, by omega⟩
    rw [nI_pred] at h2
    obtain ⟨j, hj, rfl⟩ := nin h2.1 h2.2 (by omega)
    exact ⟨o, j, k + 1, ho, rfl, h1, by omega, hc, rfl, ec⟩
