/-! well-formed states of the reference, and its operations in plain words: (code of what is wrong, answer, state behind) -/
/-- entry e of object o -/
def mEnW (s : Nat → Int32) (o e : Nat) : Prop := (∃ kd, kd < 4 ∧ s (mE o e 0) = nI kd ∧ (kd = 0 → ∃ w, w < 12 ∧ s (mE o e 1) = nI w) ∧ (kd = 1 → ∃ w, w < 8 ∧ s (mE o e 1) = nI w)) ∧ (∃ r, 1 ≤ r ∧ r ≤ 15 ∧ s (mE o e 2) = nI r) ∧ (∃ b : Bool, s (mE o e 3) = bI b) ∧ ∃ b : Bool, s (mE o e 4) = bI b
/-- object o, that is there -/
def mObW (s : Nat → Int32) (rk : Nat → Nat) (o : Nat) : Prop := ((o = 0 ∧ s (mO o 1) = -1) ∨ (o ≠ 0 ∧ ∃ q, q < 20 ∧ s (mO o 1) = nI q ∧ s (mO q 0) = 1 ∧ rk q < rk o)) ∧ (∃ b : Bool, s (mO o 4) = bI b) ∧ ∃ c, c ≤ 6 ∧ s (mO o 5) = nI c ∧ ∀ e, e < c → mEnW s o e
/-- the groups: members and nests as sets of bits, no group within itself -/
def mGrW (s : Nat → Int32) (ng nu : Nat) (rg : Nat → Nat) : Prop := ∀ k, k < 8 → (∀ u : Nat, u < 32 → mHas (s (2 + k)) (nI u) = true → u < nu ∧ k < ng) ∧ ∀ j : Nat, j < 32 → mHas (s (10 + k)) (nI j) = true → j < ng ∧ k < ng ∧ rg j < rg k
def mWf (s : Nat → Int32) : Prop := ∃ nu ng : Nat, (1 ≤ nu ∧ nu ≤ 12 ∧ s 0 = nI nu) ∧ (ng ≤ 8 ∧ s 1 = nI ng) ∧ (∃ rg : Nat → Nat, mGrW s ng nu rg) ∧ s (mO 0 0) = 1 ∧ (∀ o, o < 20 → s (mO o 0) = 0 ∨ s (mO o 0) = 1) ∧ (∃ rk : Nat → Nat, ∀ o, o < 20 → s (mO o 0) = 1 → mObW s rk o) ∧ (∃ lg, lg ≤ 8 ∧ s 762 = nI lg)
/-- the whole state -/
def MOk (S : Ms) : Prop := mWf (S.1 0) ∧ (∃ p, p ≤ 5 ∧ S.2 0 = nI p ∧ ∀ i, i < p → mWf (fun j => S.1 1 (765 * i + j))) ∧ (∃ t, t ≤ 80 ∧ S.2 2 = nI t) ∧ ∀ i, i < 2 → S.1 3 i = 0 ∨ (S.1 3 i = 1 ∧ mWf (fun j => S.1 2 (765 * i + j)))
theorem MOk.p {S : Ms} (h : MOk S) : ∃ p, p ≤ 5 ∧ S.2 0 = nI p := by obtain ⟨-, ⟨p, h1, h2, -⟩, -⟩ := h; exact ⟨p, h1, h2⟩
theorem MOk.u {S : Ms} (h : MOk S) : ∃ nu, 1 ≤ nu ∧ nu ≤ 12 ∧ S.1 0 0 = nI nu := by obtain ⟨⟨nu, ng, h1, -⟩, -⟩ := h; exact ⟨nu, h1⟩
theorem MOk.g {S : Ms} (h : MOk S) : ∃ ng, ng ≤ 8 ∧ S.1 0 1 = nI ng := by obtain ⟨⟨nu, ng, -, h1, -⟩, -⟩ := h; exact ⟨ng, h1⟩
theorem MOk.ob {S : Ms} (h : MOk S) : ∃ rk : Nat → Nat, ∀ o, o < 20 → S.1 0 (mO o 0) = 1 → mObW (S.1 0) rk o := by obtain ⟨⟨nu, ng, -, -, -, -, -, h1, -⟩, -⟩ := h; exact h1
theorem mUser_of {s : Nat → Int32} {x : Int32} {nu : Nat} (e : s 0 = nI nu) (hn : nu ≤ 12) (h1 : 1 ≤ nu) (h : mUser s x = true) : ∃ u, u < nu ∧ x = nI u := by
  unfold mUser at h
  have h := of_decide_eq_true h
  obtain ⟨k, rfl⟩ : ∃ k, nu = k + 1 := ⟨nu - 1, by omega⟩
  rw [e, nI_pred] at h
  obtain ⟨j, hj, rfl⟩ := nin h.1 h.2 (by omega)
  exact ⟨j, by omega, rfl⟩
theorem mGroup_of {s : Nat → Int32} {x : Int32} {ng : Nat} (e : s 1 = nI ng) (hn : ng ≤ 8) (h : mGroup s x = true) : ∃ g, g < ng ∧ x = nI g := by
  unfold mGroup at h
  have h := of_decide_eq_true h
  rcases Nat.eq_zero_or_pos ng with h0 | h0
  · subst h0
    rw [e] at h
    exact absurd (Int32.le_trans h.1 h.2) (by decide)
  · obtain ⟨k, rfl⟩ : ∃ k, ng = k + 1 := ⟨ng - 1, by omega⟩
    rw [e, nI_pred] at h
    obtain ⟨j, hj, rfl⟩ := nin h.1 h.2 (by omega)
    exact ⟨j, by omega, rfl⟩
theorem sV_1 (S : Ms) (k : Nat) (x : Int32) : (sV S k x).1 = S.1 := rfl
theorem sA_2 (S : Ms) (k : Nat) (f : Nat → Int32) : (sA S k f).2 = S.2 := rfl
theorem sA_n (S : Ms) (k j : Nat) (f : Nat → Int32) (h : j ≠ k) : (sA S k f).1 j = S.1 j := by simp [sA, h]
theorem sV_at (S : Ms) (k : Nat) (x : Int32) : (sV S k x).2 k = x := by simp [sV, upd]
theorem sV_n (S : Ms) (k j : Nat) (x : Int32) (h : j ≠ k) : (sV S k x).2 j = S.2 j := by simp [sV, upd, h]
abbrev mN (x : Int32) : Nat := x.toNatClampNeg
/-- 'last = 0; changes()' -/
def mC (S : Ms) : Ms := mChg (sV S 1 0)
theorem mC_1 (S : Ms) (k : Nat) (h : k ≠ 1) : (mC S).1 k = S.1 k := mChg_1 _ _ h
theorem mC_0 (S : Ms) : (mC S).1 0 = S.1 0 := mChg_1 _ _ (by decide)
theorem p_sV {S : Ms} (h : ∃ p, p ≤ 5 ∧ S.2 0 = nI p) (x : Int32) : ∃ p, p ≤ 5 ∧ (sV S 1 x).2 0 = nI p := h
abbrev mBit (u : Int32) : Int32 := 1 <<< (u &&& 31)
abbrev Mo : Type := Int32 × Int32 × Ms
def mBad (S : Ms) (c : Int32) : Mo := (c, 0, sV S 1 c)
def mSet (S : Ms) (i : Nat) (x : Int32) : Ms := sA (mC S) 0 (upd (S.1 0) i x)
def mop_addUser (S : Ms) : Mo := if S.1 0 0 = 12 then mBad S 1 else (0, S.1 0 0 + 1 - 1, mSet S 0 (S.1 0 0 + 1))
def mop_addGroup (S : Ms) : Mo := if S.1 0 1 = 8 then mBad S 1 else (0, S.1 0 1 + 1 - 1, mSet S 1 (S.1 0 1 + 1))
def mHm (s : Nat → Int32) (g : Nat) : Int32 := nI (mHowMany s g (mN (s 1)) (mN (s 0)))
def mop_join (S : Ms) (u g : Int32) : Mo :=
  if mUser (S.1 0) u = false then mBad S 1 else if mGroup (S.1 0) g = false then mBad S 1 else if mHas (S.1 0 (2 + mN g)) u = true then mBad S 2 else
  (0, mHm (upd (S.1 0) (2 + mN g) (S.1 0 (2 + mN g) ||| mBit u)) (mN g), mSet S (2 + mN g) (S.1 0 (2 + mN g) ||| mBit u))
def mop_leave (S : Ms) (u g : Int32) : Mo :=
  if mUser (S.1 0) u = false then mBad S 1 else if mGroup (S.1 0) g = false then mBad S 1 else if mHas (S.1 0 (2 + mN g)) u = false then mBad S 2 else
  (0, mHm (upd (S.1 0) (2 + mN g) (S.1 0 (2 + mN g) - mBit u)) (mN g), mSet S (2 + mN g) (S.1 0 (2 + mN g) - mBit u))
def mop_nest (S : Ms) (i o : Int32) : Mo :=
  if mGroup (S.1 0) i = false then mBad S 1 else if mGroup (S.1 0) o = false then mBad S 1 else if i = o then mBad S 2 else if mHas (S.1 0 (10 + mN i)) o = true then mBad S 2 else if mHas (mOuters (S.1 0) (mN o)) i = true then mBad S 2 else
  (0, mHm (upd (S.1 0) (10 + mN i) (S.1 0 (10 + mN i) ||| mBit o)) (mN o), mSet S (10 + mN i) (S.1 0 (10 + mN i) ||| mBit o))
def mop_unnest (S : Ms) (i o : Int32) : Mo :=
  if mGroup (S.1 0) i = false then mBad S 1 else if mGroup (S.1 0) o = false then mBad S 1 else if mHas (S.1 0 (10 + mN i)) o = false then mBad S 2 else
  (0, mHm (upd (S.1 0) (10 + mN i) (S.1 0 (10 + mN i) - mBit o)) (mN o), mSet S (10 + mN i) (S.1 0 (10 + mN i) - mBit o))
def mop_giveTo (S : Ms) (o w : Int32) : Mo := if mObj (S.1 0) o = false then mBad S 1 else if mUser (S.1 0) w = false then mBad S 1 else (0, S.1 0 (mO (mN o) 2), mSet S (mO (mN o) 2) w)
def mop_setMask (S : Ms) (o r : Int32) : Mo := if mObj (S.1 0) o = false then mBad S 1 else if decide (0 ≤ r ∧ r ≤ 15) = false then mBad S 2 else (0, S.1 0 (mO (mN o) 3), mSet S (mO (mN o) 3) r)
def mop_setInheriting (S : Ms) (o : Int32) (b : Bool) : Mo := if mObj (S.1 0) o = false then mBad S 1 else (0, bI (decide (S.1 0 (mO (mN o) 4) = 1)), mSet S (mO (mN o) 4) (bI b))
theorem mHm_i {s : Nat → Int32} {k g ng nu : Nat} {x : Int32} (hk : 2 ≤ k) (hg : ng ≤ 8) (hu : nu ≤ 12) (eg : s 1 = nI ng) (eu : s 0 = nI nu) : mHm (upd s k x) g = nI (mHowMany (upd s k x) g ng nu) := by
  unfold mHm mN
  rw [pk_un (show 1 ≠ k by omega), pk_un (show 0 ≠ k by omega), eg, eu, nI_clamp (by omega), nI_clamp (by omega)]
