/-! questions in plain words -/
def mThr (s : Nat → Int32) (u : Int32) (o : Nat) (r g : Int32) : Bool := mAllows s u o r && (match mDec s u o r with
  | none => false
  | some q => decide (s (mE q.1 q.2 3) = 1) && (decide (s (mE q.1 q.2 0) = 1) && decide (s (mE q.1 q.2 1) = g)))
def mUses (s : Nat → Int32) (o : Nat) (r : Int32) : Nat → Nat := cnt (fun k => mAllows s (nI k) o r)
def mRT (s : Nat → Int32) (u g : Int32) : Nat → Nat := cnt (fun i => mObj s (nI (i / 4)) && mThr s u (i / 4) (nI (i % 4)) g)
def mD1 : Option (Nat × Nat) → Int32
  | none => -1
  | some q => nI q.1
def mD2 : Option (Nat × Nat) → Int32
  | none => -1
  | some q => nI q.2
def mUG (s : Nat → Int32) (u g : Int32) : Bool := mUser s u && mGroup s g
def mUO (s : Nat → Int32) (u o : Int32) : Bool := mUser s u && mObj s o
def mq_isMember (S : Ms) (u g : Int32) : Mo := if mUG (S.1 0) u g then mQ S 0 (bI (mHas (S.1 0 (2 + mN g)) u)) else mQ S 1 0
def mq_isNested (S : Ms) (i o : Int32) : Mo := if mGroup (S.1 0) i && mGroup (S.1 0) o then mQ S 0 (bI (mHas (S.1 0 (10 + mN i)) o)) else mQ S 1 0
def mq_isOfGroup (S : Ms) (u g : Int32) : Mo := if mUG (S.1 0) u g then mQ S 0 (bI (mIsOf (S.1 0) u (mN g) (mN (S.1 0 1)))) else mQ S 1 0
def mq_ofObject (S : Ms) (o : Int32) (w : Nat) : Mo := if mObj (S.1 0) o then mQ S 0 (S.1 0 (mO (mN o) w)) else mQ S 1 0
def mq_isInheriting (S : Ms) (o : Int32) : Mo := if mObj (S.1 0) o then mQ S 0 (bI (decide (S.1 0 (mO (mN o) 4) = 1))) else mQ S 1 0
def mq_below (S : Ms) (o : Int32) : Mo := if mObj (S.1 0) o then mQ S 0 (nI (mBelows (S.1 0) (mN o))) else mQ S 1 0
def mq_ofTheEntry (S : Ms) (o e : Int32) (w : Nat) : Mo := if mEnt (S.1 0) o e then mQ S 0 (S.1 0 (mE (mN o) (mN e) w)) else mQ S 1 0
def mq_isE (S : Ms) (o e : Int32) (w : Nat) (x : Int32) : Mo := if mEnt (S.1 0) o e then mQ S 0 (bI (decide (S.1 0 (mE (mN o) (mN e) w) = x))) else mQ S 1 0
def mq_whomOf (S : Ms) (o e kd : Int32) : Mo := if mEnt (S.1 0) o e then mQ S 0 (if S.1 0 (mE (mN o) (mN e) 0) = kd then S.1 0 (mE (mN o) (mN e) 1) else -1) else mQ S 1 0
def mqQ (S : Ms) (u o r : Int32) (x : Int32) : Mo := if mQc (S.1 0) u o r = 0 then mQ S 0 x else mQ S (mQc (S.1 0) u o r) 0
def mq_isAllowed (S : Ms) (u o r : Int32) : Mo := mqQ S u o r (bI (mAllows (S.1 0) u (mN o) r))
def mq_decidingObject (S : Ms) (u o r : Int32) : Mo := mqQ S u o r (mD1 (mDec (S.1 0) u (mN o) r))
def mq_decidingEntry (S : Ms) (u o r : Int32) : Mo := mqQ S u o r (mD2 (mDec (S.1 0) u (mN o) r))
def mq_isStopped (S : Ms) (u o r : Int32) : Mo := mqQ S u o r (bI (!mAllows (S.1 0) u (mN o) r && mByList (S.1 0) u (mN o) r))
def mq_rightsOf (S : Ms) (u o : Int32) : Mo := if mUO (S.1 0) u o then mQ S 0 (mRights (S.1 0) u (mN o)) else mQ S 1 0
def mq_usersWith (S : Ms) (o r : Int32) : Mo := if mObj (S.1 0) o then (if decide (0 ≤ r ∧ r ≤ 3) then mQ S 0 (nI (mUses (S.1 0) (mN o) r (mN (S.1 0 0)))) else mQ S 2 0) else mQ S 1 0
def mq_rightsThrough (S : Ms) (u g : Int32) : Mo := if mUG (S.1 0) u g then mQ S 0 (nI (mRT (S.1 0) u g 80)) else mQ S 1 0
def mLg (s : Nat → Int32) (i : Int32) : Bool := decide (0 ≤ i ∧ i ≤ s 762 - 1)
def mq_logged (S : Ms) (i : Int32) (w : Nat) : Mo := if mLg (S.1 0) i then mQ S 0 (S.1 0 (738 + 3 * mN i + w)) else mQ S 1 0
def mq_wasAllowed (S : Ms) (i : Int32) : Mo := if mLg (S.1 0) i then mQ S 0 (bI (decide (S.1 0 (738 + 3 * mN i + 2) = 1))) else mQ S 1 0
def mop_undo (S : Ms) : Mo := if S.2 0 = 0 then mBad S 1 else (0, S.2 0 - 1, sA (sV (sV S 1 0) 0 (S.2 0 - 1)) 0 (fill (fun i => S.1 1 (765 * (mN (S.2 0) - 1) + i)) (S.1 0) 0 765))
def mop_save (S : Ms) (x : Int32) : Mo := if decide (0 ≤ x ∧ x ≤ 1) = false then mBad S 1 else (0, nI (mCount (S.1 0)), sA (sA (sV S 1 0) 3 (upd (S.1 3) (mN x) 1)) 2 (fill (fun i => S.1 0 i) (S.1 2) (765 * mN x) 765))
def mop_restore (S : Ms) (x : Int32) : Mo := if decide (0 ≤ x ∧ x ≤ 1) = false then mBad S 1 else if S.1 3 (mN x) = 0 then mBad S 2 else
  (0, nI (mCount (fill (fun i => S.1 2 (765 * mN x + i)) (S.1 0) 0 765)), sA (mC S) 0 (fill (fun i => S.1 2 (765 * mN x + i)) (S.1 0) 0 765))
theorem mGroup_lt {s : Nat → Int32} {x : Int32} (hw : mWf s) (h : mGroup s x = true) : ∃ g, g < 8 ∧ x = nI g := by
  obtain ⟨ng, h1, h2⟩ := hw.g
  obtain ⟨g, hg, e⟩ := mGroup_of h2 h1 h
  exact ⟨g, by omega, e⟩
theorem mUser_lt {s : Nat → Int32} {x : Int32} (hw : mWf s) (h : mUser s x = true) : ∃ u, u < 12 ∧ x = nI u := by
  obtain ⟨nu, h0, h1, h2⟩ := hw.u
  obtain ⟨g, hg, e⟩ := mUser_of h2 h1 h0 h
  exact ⟨g, by omega, e⟩
theorem mEnt_at {s : Nat → Int32} {x e : Int32} (hw : mWf s) (h : mEnt s x e = true) : ∃ o j : Nat, o < 20 ∧ x = nI o ∧ s (mO o 0) = 1 ∧ j < 6 ∧ e = nI j ∧ j < mN (s (mO o 5)) := by
  obtain ⟨rk, -, hob⟩ := hw.rk
  obtain ⟨o, j, c, ho, rfl, ho1, hj, hc, rfl, ec⟩ := mEnt_of hob h
  exact ⟨o, j, ho, rfl, ho1, by omega, rfl, by rw [ec, mN_i (by omega)]; exact hj⟩
theorem d4 {i : Nat} (h : i < 80) : nI i / 4 = nI (i / 4) := pk_div (d := 4) (by omega) (by decide) (by decide)
theorem r4 {i : Nat} (h : i < 80) : nI i - nI i / 4 * 4 = nI (i % 4) := pk_rem (d := 4) (by omega) (by decide) (by decide)
theorem mLg_of {s : Nat → Int32} {x : Int32} (hw : mWf s) (h : mLg s x = true) : ∃ i, i < 8 ∧ x = nI i := by
  obtain ⟨nu, ng, -, -, -, -, -, -, lg, hl, el⟩ := hw
  unfold mLg at h
  have h := of_decide_eq_true h
  rcases Nat.eq_zero_or_pos lg with h0 | h0
  · subst h0
    rw [el] at h
    exact absurd (Int32.le_trans h.1 h.2) (by decide)
  · obtain ⟨k, rfl⟩ : ∃ k, lg = k + 1 := ⟨lg - 1, by omega⟩
    rw [el, nI_pred] at h
    obtain ⟨j, hj, rfl⟩ := nin h.1 h.2 (by omega)
    exact ⟨j, by omega, rfl⟩
theorem MOk.nu {S : Ms} (h : MOk S) : mWf (S.1 0) := h.1
theorem l738 (i w : Nat) : (738 : Int32) + 3 * nI i + nI w = nI (738 + 3 * i + w) := by
  rw [show (738 : Int32) = nI 738 from rfl, show (3 : Int32) = nI 3 from rfl, pk_mul, nI_add, nI_add]
theorem mQc_in (s : Nat → Int32) (u o r : Int32) : mQc s u o r = 0 ∨ mQc s u o r = 1 ∨ mQc s u o r = 2 := by
  unfold mQc
  split
  · split
    · exact Or.inl rfl
    · exact Or.inr (Or.inr rfl)
  · exact Or.inr (Or.inl rfl)
theorem mQc_0 {s : Nat → Int32} {u o r : Int32} (h : mQc s u o r = 0) : mUser s u = true ∧ mObj s o = true ∧ decide (0 ≤ r ∧ r ≤ 3) = true := by
  unfold mQc at h
  split at h
  · rename_i h1
    split at h
    · rename_i h2
      exact ⟨h1.1, h1.2, h2⟩
    · cases h
  · cases h
theorem mQc_pos {s : Nat → Int32} {u o r : Int32} (h : ¬ mQc s u o r = 0) : ¬ mQc s u o r ≤ 0 := by
  rcases mQc_in s u o r with e | e | e
  · exact absurd e h
  · rw [e]; decide
  · rw [e]; decide
theorem mqQ_0 {S : Ms} {u o r x : Int32} (h : mQc (S.1 0) u o r = 0) : mqQ S u o r x = mQ S 0 x := if_pos h
theorem mqQ_n {S : Ms} {u o r x : Int32} (h : ¬ mQc (S.1 0) u o r = 0) : mqQ S u o r x = mQ S (mQc (S.1 0) u o r) 0 := if_neg h
theorem mop_undo_of {S : Ms} {p : Nat} (ep : S.2 0 = nI p) (hp : p ≤ 5) (h : ¬ S.2 0 = 0) : mop_undo S = (0, nI (p - 1), sA (sV (sV S 1 0) 0 (S.2 0 - 1)) 0 (fill (fun i => S.1 1 (765 * (p - 1) + i)) (S.1 0) 0 765)) := by
  unfold mop_undo
  have h1 : 1 ≤ p := by
    rcases Nat.eq_zero_or_pos p with q | q
    · subst q; exact absurd ep h
    · exact q
  rw [if_neg h, ep, mN_i (show p < 2147483648 by omega), sub_1 h1]
theorem mop_save_of {S : Ms} {j : Nat} (hj : j ≤ 1) : mop_save S (nI j) = (0, nI (mCount (S.1 0)), sA (sA (sV S 1 0) 3 (upd (S.1 3) j 1)) 2 (fill (fun i => S.1 0 i) (S.1 2) (765 * j) 765)) := by
  unfold mop_save
  rw [mN_i (show j < 2147483648 by omega), if_neg (by
    rw [decide_eq_true (show 0 ≤ nI j ∧ nI j ≤ 1 from ⟨nI_pos' (by omega), nI_le (b := 1) (by omega) (by omega)⟩)]
    decide)]
theorem mop_restore_of {S : Ms} {j : Nat} (hj : j ≤ 1) (h : ¬ S.1 3 j = 0) : mop_restore S (nI j) = (0, nI (mCount (fill (fun i => S.1 2 (765 * j + i)) (S.1 0) 0 765)), sA (mC S) 0 (fill (fun i => S.1 2 (765 * j + i)) (S.1 0) 0 765)) := by
  unfold mop_restore
  rw [mN_i (show j < 2147483648 by omega), if_neg (by
    rw [decide_eq_true (show 0 ≤ nI j ∧ nI j ≤ 1 from ⟨nI_pos' (by omega), nI_le (b := 1) (by omega) (by omega)⟩)]
    decide), if_neg h]
theorem mop_restore_2 {S : Ms} {j : Nat} (hj : j ≤ 1) (h : S.1 3 j = 0) : mop_restore S (nI j) = mBad S 2 := by
  unfold mop_restore
  rw [mN_i (show j < 2147483648 by omega), if_neg (by
    rw [decide_eq_true (show 0 ≤ nI j ∧ nI j ≤ 1 from ⟨nI_pos' (by omega), nI_le (b := 1) (by omega) (by omega)⟩)]
    decide), if_pos h]
theorem MOk.sl {S : Ms} (h : MOk S) {i : Nat} (hi : i < 2) (h1 : ¬ S.1 3 i = 0) : mWf (fun j => S.1 2 (765 * i + j)) := by
  obtain ⟨-, -, -, h4⟩ := h
  exact ((h4 i hi).resolve_left h1).2
theorem mWf_cg {s t : Nat → Int32} (h : ∀ x, x < 765 → t x = s x) (hw : mWf s) : mWf t := by
  have hm : ∀ q w, q < 20 → w < 36 → t (mO q w) = s (mO q w) := fun q w hq hw => h _ (mO_lt hq hw)
  obtain ⟨nu, ng, ⟨a1, a2, a3⟩, ⟨b1, b2⟩, ⟨rg, hg⟩, c1, d1, ⟨rk, hob⟩, lg, hl, el⟩ := hw
  refine ⟨nu, ng, ⟨a1, a2, (h 0 (by decide)).trans a3⟩, ⟨b1, (h 1 (by decide)).trans b2⟩, ⟨rg, fun k hk => ?_⟩, (hm 0 0 (by decide) (by decide)).trans c1, fun q hq => ?_, ⟨rk, fun q hq hq1 => ?_⟩, lg, hl, (h 762 (by decide)).trans el⟩
  · rw [h (2 + k) (by omega), h (10 + k) (by omega)]
    exact hg k hk
  · rw [hm q 0 hq (by decide)]; exact d1 q hq
  · rw [hm q 0 hq (by decide)] at hq1
    obtain ⟨p1, p2, c', hc', ec', hen'⟩ := hob q hq hq1
    refine ⟨?_, ?_, c', hc', (hm q 5 hq (by decide)).trans ec', fun j hj => mEnW_cg (fun w hw => ?_) (hen' j hj)⟩
    · rw [hm q 1 hq (by decide)]
      rcases p1 with p1 | ⟨p0, q', p2, p3, p4, p5⟩
      · exact Or.inl p1
      · exact Or.inr ⟨p0, q', p2, p3, (hm q' 0 p2 (by decide)).trans p4, p5⟩
    · rw [hm q 4 hq (by decide)]; exact p2
    · have := hm q (6 + 5 * j + w) hq (by omega)
      rw [show mO q (6 + 5 * j + w) = mE q j w by unfold mO mE; omega] at this
      exact this
theorem mWf_fill {f s : Nat → Int32} (h : mWf f) : mWf (fill f s 0 765) := mWf_cg (fun _ hx => fill0_at hx) h
