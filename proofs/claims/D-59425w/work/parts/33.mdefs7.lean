/-! entries put in and taken out keep a state well formed; further operations in plain words -/
def mEnF (f : Nat → Int32) : Prop := (∃ kd, kd < 4 ∧ f 0 = nI kd ∧ (kd = 0 → ∃ w, w < 12 ∧ f 1 = nI w) ∧ (kd = 1 → ∃ w, w < 8 ∧ f 1 = nI w)) ∧ (∃ r, 1 ≤ r ∧ r ≤ 15 ∧ f 2 = nI r) ∧ (∃ b : Bool, f 3 = bI b) ∧ ∃ b : Bool, f 4 = bI b
theorem mEnF_cg {f g : Nat → Int32} (h : ∀ w, w < 5 → f w = g w) (hg : mEnF g) : mEnF f := by
  unfold mEnF at hg ⊢
  rw [h 0 (by decide), h 1 (by decide), h 2 (by decide), h 3 (by decide), h 4 (by decide)]
  exact hg
theorem mEnW_cg {s t : Nat → Int32} {o e o' e' : Nat} (h : ∀ w, w < 5 → t (mE o e w) = s (mE o' e' w)) (hw : mEnW s o' e') : mEnW t o e :=
  mEnF_cg (f := fun w => t (mE o e w)) (g := fun w => s (mE o' e' w)) h hw
theorem mEnW_F {s : Nat → Int32} {o e : Nat} {f : Nat → Int32} (h : ∀ w, w < 5 → s (mE o e w) = f w) (hw : mEnF f) : mEnW s o e :=
  mEnF_cg (f := fun w => s (mE o e w)) h hw
theorem mWf_ent {s t : Nat → Int32} {o c : Nat} (hw : mWf s) (ho : o < 20) (h1 : s (mO o 0) = 1) (hout : ∀ x, (x < mO o 5 ∨ mO o 0 + 36 ≤ x) → t x = s x) (hc : c ≤ 6) (ec : t (mO o 5) = nI c) (hen : ∀ e, e < c → mEnW t o e) : mWf t := by
  have hm : ∀ q w, w < 5 → t (mO q w) = s (mO q w) := fun q w h => hout _ (by unfold mO; rcases Nat.lt_trichotomy q o with e | e | e <;> omega)
  have hm5 : ∀ q, q ≠ o → ∀ w, w < 36 → t (mO q w) = s (mO q w) := fun q hq w h => hout _ (by unfold mO; rcases Nat.lt_trichotomy q o with e | e | e <;> omega)
  have hlow : ∀ x, x < 18 → t x = s x := fun x h => hout _ (by unfold mO; omega)
  obtain ⟨nu, ng, ⟨a1, a2, a3⟩, ⟨b1, b2⟩, ⟨rg, hg⟩, c1, d1, ⟨rk, hob⟩, lg, hl, el⟩ := hw
  refine ⟨nu, ng, ⟨a1, a2, (hlow 0 (by decide)).trans a3⟩, ⟨b1, (hlow 1 (by decide)).trans b2⟩, ⟨rg, fun k hk => ?_⟩, (hm 0 0 (by decide)).trans c1, fun q hq => ?_, ⟨rk, fun q hq hq1 => ?_⟩, lg, hl, (hout 762 (by unfold mO; omega)).trans el⟩
  · rw [hlow (2 + k) (by omega), hlow (10 + k) (by omega)]
    exact hg k hk
  · rw [hm q 0 (by decide)]; exact d1 q hq
  · rw [hm q 0 (by decide)] at hq1
    obtain ⟨p1, p2, c', hc', ec', hen'⟩ := hob q hq hq1
    refine ⟨?_, ?_, ?_⟩
    · rw [hm q 1 (by decide)]
      rcases p1 with p1 | ⟨p0, q', p2, p3, p4, p5⟩
      · exact Or.inl p1
      · exact Or.inr ⟨p0, q', p2, p3, (hm q' 0 (by decide)).trans p4, p5⟩
    · rw [hm q 4 (by decide)]; exact p2
    · by_cases e : q = o
      · subst e; exact ⟨c, hc, ec, hen⟩
      · refine ⟨c', hc', (hm5 q e 5 (by decide)).trans ec', fun j hj => mEnW_cg (fun w hw => ?_) (hen' j hj)⟩
        have := hm5 q e (6 + 5 * j + w) (by omega)
        rw [show mO q (6 + 5 * j + w) = mE q j w by unfold mO mE; omega] at this
        exact this
def mIns (s : Nat → Int32) (o e c : Nat) (f : Nat → Int32) : Nat → Int32 := fill f (mOpen s o e c) (mE o e 0) 5
theorem mTake_at (s : Nat → Int32) {o e c : Nat} (x : Nat) : mTake s o e c x = if mE o e 0 ≤ x ∧ x < mE o e 0 + 5 * (c - 1 - e) then s (x + 5) else if x = mO o 5 then s x - 1 else s x := by
  unfold mTake fill upd
  by_cases h : mE o e 0 ≤ x ∧ x < mE o e 0 + 5 * (c - 1 - e)
  · rw [if_pos h, if_pos h]
    show s (mE o e 0 + 5 + (x - mE o e 0)) = _
    rw [show mE o e 0 + 5 + (x - mE o e 0) = x + 5 by omega]
  · rw [if_neg h, if_neg h]
    by_cases h2 : x = mO o 5
    · rw [if_pos h2, if_pos h2, h2]
    · rw [if_neg h2, if_neg h2]
theorem mOpen_at (s : Nat → Int32) {o e c : Nat} (x : Nat) : mOpen s o e c x = if x = mO o 5 then s x + 1 else if mE o (e + 1) 0 ≤ x ∧ x < mE o (e + 1) 0 + 5 * (c - e) then s (x - 5) else s x := by
  unfold mOpen upd
  by_cases h2 : x = mO o 5
  · rw [if_pos h2, if_pos h2, h2]
  · rw [if_neg h2, if_neg h2]
    unfold fill
    by_cases h : mE o (e + 1) 0 ≤ x ∧ x < mE o (e + 1) 0 + 5 * (c - e)
    · rw [if_pos h, if_pos h]
      show s (mE o e 0 + (x - mE o (e + 1) 0)) = _
      rw [show mE o e 0 + (x - mE o (e + 1) 0) = x - 5 by unfold mE at h ⊢; omega]
    · rw [if_neg h, if_neg h]
theorem mIns_at (s : Nat → Int32) {o e c : Nat} {f : Nat → Int32} (x : Nat) : mIns s o e c f x = if mE o e 0 ≤ x ∧ x < mE o e 0 + 5 then f (x - mE o e 0) else if x = mO o 5 then s x + 1 else if mE o (e + 1) 0 ≤ x ∧ x < mE o (e + 1) 0 + 5 * (c - e) then s (x - 5) else s x := by
  unfold mIns fill
  split
  · rfl
  · exact mOpen_at s x
theorem mIns_lo {s f : Nat → Int32} {o e c j w : Nat} (hj : j < e) (hw : w < 5) : mIns s o e c f (mE o j w) = s (mE o j w) := by
  rw [mIns_at, if_neg (by unfold mE; omega), if_neg (by unfold mE mO; omega), if_neg (by unfold mE; omega)]
theorem mIns_mid {s f : Nat → Int32} {o e c w : Nat} (hw : w < 5) : mIns s o e c f (mE o e w) = f w := by
  rw [mIns_at, if_pos (by unfold mE; omega)]
  congr 1
  unfold mE
  omega
theorem mIns_hi {s f : Nat → Int32} {o e c j w : Nat} (hj : e ≤ j) (hjc : j < c) (hw : w < 5) : mIns s o e c f (mE o (j + 1) w) = s (mE o j w) := by
  rw [mIns_at, if_neg (by unfold mE; omega), if_neg (by unfold mE mO; omega), if_pos (by unfold mE; omega)]
  congr 1
  unfold mE
  omega
theorem mIns_co {s f : Nat → Int32} {o e c : Nat} : mIns s o e c f (mO o 5) = s (mO o 5) + 1 := by
  rw [mIns_at, if_neg (by unfold mE mO; omega), if_pos rfl]
theorem mIns_out {s f : Nat → Int32} {o e c x : Nat} (he : e ≤ c) (hc : c ≤ 5) (hx : x < mO o 5 ∨ mO o 0 + 36 ≤ x) : mIns s o e c f x = s x := by
  rw [mIns_at, if_neg (by unfold mE; unfold mO at hx; omega), if_neg (by unfold mO at hx ⊢; omega), if_neg (by unfold mE; unfold mO at hx; omega)]
theorem mWf_ins {s f : Nat → Int32} {o e c : Nat} (hw : mWf s) (ho : o < 20) (h1 : s (mO o 0) = 1) (ec : s (mO o 5) = nI c) (hc : c ≤ 5) (he : e ≤ c) (hf : mEnF f) : mWf (mIns s o e c f) := by
  obtain ⟨c', hc', ec', hen⟩ := hw.co ho h1
  have hcc : c' = c := (nI_eq (by omega) (by omega)).mp (ec'.symm.trans ec)
  subst hcc
  refine mWf_ent (c := c' + 1) hw ho h1 (fun x hx => mIns_out he hc hx) (by omega) (by rw [mIns_co, ec, nI_1]) (fun j hj => ?_)
  rcases Nat.lt_trichotomy j e with q | q | q
  · exact mEnW_cg (fun w hw => mIns_lo q hw) (hen j (by omega))
  · subst q
    exact mEnW_F (fun w hw => mIns_mid hw) hf
  · obtain ⟨i, rfl⟩ : ∃ i, j = i + 1 := ⟨j - 1, by omega⟩
    exact mEnW_cg (fun w hw => mIns_hi (by omega) (by omega) hw) (hen i (by omega))
theorem mTake_lo {s : Nat → Int32} {o e c j w : Nat} (hj : j < e) (hw : w < 5) : mTake s o e c (mE o j w) = s (mE o j w) := by
  rw [mTake_at, if_neg (by unfold mE; omega), if_neg (by unfold mE mO; omega)]
theorem mTake_hi {s : Nat → Int32} {o e c j w : Nat} (hj : e ≤ j) (hjc : j + 1 < c) (hw : w < 5) : mTake s o e c (mE o j w) = s (mE o (j + 1) w) := by
  rw [mTake_at, if_pos (by unfold mE; omega)]
  congr 1
  unfold mE
  omega
theorem mTake_co {s : Nat → Int32} {o e c : Nat} : mTake s o e c (mO o 5) = s (mO o 5) - 1 := by
  rw [mTake_at, if_neg (by unfold mE mO; omega), if_pos rfl]
theorem mTake_out {s : Nat → Int32} {o e c x : Nat} (he : e < c) (hc : c ≤ 6) (hx : x < mO o 5 ∨ mO o 0 + 36 ≤ x) : mTake s o e c x = s x := by
  rw [mTake_at, if_neg (by unfold mE; unfold mO at hx; omega), if_neg (by unfold mO at hx ⊢; omega)]
theorem mWf_take {s : Nat → Int32} {o e c : Nat} (hw : mWf s) (ho : o < 20) (h1 : s (mO o 0) = 1) (ec : s (mO o 5) = nI c) (hc : c ≤ 6) (he : e < c) : mWf (mTake s o e c) := by
  obtain ⟨c', hc', ec', hen⟩ := hw.co ho h1
  have hcc : c' = c := (nI_eq (by omega) (by omega)).mp (ec'.symm.trans ec)
  subst hcc
  refine mWf_ent (c := c' - 1) hw ho h1 (fun x hx => mTake_out he hc hx) (by omega) (by rw [mTake_co, ec]; exact sub_1 (by omega)) (fun j hj => ?_)
  rcases Nat.lt_or_ge j e with q | q
  · exact mEnW_cg (fun w hw => mTake_lo q hw) (hen j (by omega))
  · exact mEnW_cg (fun w hw => mTake_hi q (by omega) hw) (hen (j + 1) (by omega))
theorem mIns_take {s : Nat → Int32} {o e c : Nat} (he : e < c) : mIns (mTake s o e c) o e (c - 1) (fun k => s (mE o e k)) = s := by
  funext x
  rw [mIns_at]
  by_cases h1 : mE o e 0 ≤ x ∧ x < mE o e 0 + 5
  · rw [if_pos h1]
    show s (mE o e (x - mE o e 0)) = s x
    congr 1
    unfold mE at h1 ⊢
    omega
  · rw [if_neg h1]
    by_cases h2 : x = mO o 5
    · subst h2
      rw [if_pos rfl, mTake_co, Int32.sub_add_cancel]
    · rw [if_neg h2]
      by_cases h3 : mE o (e + 1) 0 ≤ x ∧ x < mE o (e + 1) 0 + 5 * (c - 1 - e)
      · rw [if_pos h3, mTake_at, if_pos (by unfold mE at h3 ⊢; omega)]
        congr 1
        unfold mE at h3
        omega
      · rw [if_neg h3, mTake_at, if_neg (by unfold mE at h1 h3 ⊢; omega), if_neg h2]
def five (kd w r : Int32) (a b : Bool) : Nat → Int32 := fun k => match k with
  | 0 => kd
  | 1 => w
  | 2 => r
  | 3 => bI a
  | _ => bI b
theorem mWr_fill (t : Nat → Int32) (o e : Nat) (kd w r : Int32) (a b : Bool) : mWr t o e kd w r a b = fill (five kd w r a b) t (mE o e 0) 5 := by
  funext x
  unfold mWr upd fill
  by_cases h : mE o e 0 ≤ x ∧ x < mE o e 0 + 5
  · rw [if_pos h]
    obtain ⟨k, hk, rfl⟩ : ∃ k, k < 5 ∧ x = mE o e k := ⟨x - mE o e 0, by omega, by unfold mE at h ⊢; omega⟩
    rw [show mE o e k - mE o e 0 = k by unfold mE; omega]
    rcases (show k = 0 ∨ k = 1 ∨ k = 2 ∨ k = 3 ∨ k = 4 by omega) with q | q | q | q | q <;> subst q <;> simp [mE, five]
  · rw [if_neg h, if_neg (by unfold mE at h ⊢; omega), if_neg (by unfold mE at h ⊢; omega), if_neg (by unfold mE at h ⊢; omega), if_neg (by unfold mE at h ⊢; omega), if_neg (by unfold mE at h ⊢; omega)]
theorem mWr_ins (s : Nat → Int32) (o e c : Nat) (kd w r : Int32) (a b : Bool) : mWr (mOpen s o e c) o e kd w r a b = mIns s o e c (five kd w r a b) := mWr_fill _ _ _ _ _ _ _ _
theorem mOpen_end (s : Nat → Int32) (o c : Nat) : mOpen s o c c = upd s (mO o 5) (s (mO o 5) + 1) := by
  unfold mOpen
  rw [Nat.sub_self, fill_0]
theorem mUnl_cg {s w w' : Nat → Int32} {n : Nat} (h : ∀ i, i < n → w i = w' i) : mUnl s w n = mUnl s w' n := by
  induction n with
  | zero => rfl
  | succ n ih =>
    unfold mUnl
    rw [ih (fun i hi => h i (by omega))]
    unfold mUb
    rw [h n (by omega)]
theorem fill_fill (f P Q : Nat → Int32) (b n : Nat) : fill (fill f P 0 n) Q b n = fill f Q b n := by
  funext x
  unfold fill
  by_cases h : b ≤ x ∧ x < b + n
  · rw [if_pos h, if_pos h, if_pos (by omega)]; rfl
  · rw [if_neg h, if_neg h]
def mQ (S : Ms) (c x : Int32) : Mo := (c, x, sV S 1 c)
def mKeep (S : Ms) (o e : Nat) : Ms := sA S 6 (fill (fun k => S.1 0 (mE o e k)) (S.1 6) 0 5)
def mMv (s : Nat → Int32) (o e t c : Nat) : Nat → Int32 := mIns (mTake s o e c) o t (c - 1) (fun k => s (mE o e k))
def mop_moveEntry (S : Ms) (o e t : Int32) : Mo :=
  if mEnt (S.1 0) o e = false then mBad S 1 else if mEnt (S.1 0) o t = false then mBad S 1 else
  (0, nI (mUnl (mMv (S.1 0) (mN o) (mN e) (mN t) (mCo (S.1 0) (mN o))) (mNow (S.1 0)) 240), sA (mKeep (mNotes (mC S)) (mN o) (mN e)) 0 (mMv (S.1 0) (mN o) (mN e) (mN t) (mCo (S.1 0) (mN o))))
def mop_isNeedless (S : Ms) (o e : Int32) : Mo :=
  if mEnt (S.1 0) o e = false then mQ S 1 0 else
  (0, bI (decide (mUnl (mTake (S.1 0) (mN o) (mN e) (mCo (S.1 0) (mN o))) (mNow (S.1 0)) 240 = 0)), mKeep (mNotes (sV S 1 0)) (mN o) (mN e))
def mLog (s : Nat → Int32) (u o : Int32) (a : Bool) : Nat → Int32 :=
  let s1 := upd (upd (upd (fill (fun i => s (738 + i)) s 741 21) 738 u) 739 o) 740 (bI a)
  let s2 := upd s1 762 (s 762 + (if s 762 < 8 then 1 else 0))
  upd (upd s2 763 (s 763 + 1)) 764 (s 764 + (if a then 0 else 1))
def mQc (s : Nat → Int32) (u o r : Int32) : Int32 := if mUser s u = true ∧ mObj s o = true then (if decide (0 ≤ r ∧ r ≤ 3) = true then 0 else 2) else 1
def mop_ask (S : Ms) (u o r : Int32) : Mo :=
  if mQc (S.1 0) u o r = 0 then (0, bI (mAllows (S.1 0) u (mN o) r), sA (mC S) 0 (mLog (S.1 0) u o (mAllows (S.1 0) u (mN o) r))) else mQ S (mQc (S.1 0) u o r) 0
def mSh (s : Nat → Int32) (o : Nat) (w r : Int32) : Nat → Int32 := mIns s o 0 (mCo s o) (five 0 w r true false)
def mop_share (S : Ms) (u o w r : Int32) : Mo :=
  if mUser (S.1 0) u = false ∨ mObj (S.1 0) o = false ∨ mUser (S.1 0) w = false then mBad S 1 else if decide (1 ≤ r ∧ r ≤ 15) = false then mBad S 2 else
  if ¬ mRights (S.1 0) u (mN o) &&& (r ||| 8) = (r ||| 8) ∨ S.1 0 (mO (mN o) 5) = 6 then mBad S 3 else
  (0, mRights (mSh (S.1 0) (mN o) w r) w (mN o), sA (mC S) 0 (mSh (S.1 0) (mN o) w r))
theorem fill_down3 (s : Nat → Int32) (a j len : Nat) (h : j < len) : upd (fill (fun i => s (a + (j + 1) + i)) s (a + 3 + (j + 1)) (len - (j + 1))) (a + 3 + j) (s (a + j)) = fill (fun i => s (a + j + i)) s (a + 3 + j) (len - j) := by
  funext x
  unfold upd fill
  by_cases e : x = a + 3 + j
  · subst e
    rw [if_pos rfl, if_pos (by omega)]
    congr 1
    omega
  · rw [if_neg e]
    by_cases e2 : a + 3 + (j + 1) ≤ x ∧ x < a + 3 + (j + 1) + (len - (j + 1))
    · rw [if_pos e2, if_pos (by omega)]
      show s (a + (j + 1) + (x - (a + 3 + (j + 1)))) = s (a + j + (x - (a + 3 + j)))
      rw [show a + (j + 1) + (x - (a + 3 + (j + 1))) = a + j + (x - (a + 3 + j)) by omega]
    · rw [if_neg e2, if_neg (by omega)]
theorem five_ok {kd w : Nat} {r : Int32} {a b : Bool} (hk : kd < 4) (h0 : kd = 0 → w < 12) (h1 : kd = 1 → w < 8) (hr : 1 ≤ r ∧ r ≤ 15) : mEnF (five (nI kd) (nI w) r a b) := by
  obtain ⟨r, hr2, rfl⟩ := nin (n := 15) (Int32.le_trans (by decide) hr.1) hr.2 (by decide)
  refine ⟨⟨kd, hk, rfl, fun q => ⟨w, h0 q, rfl⟩, fun q => ⟨w, h1 q, rfl⟩⟩, ⟨r, ?_, hr2, rfl⟩, ⟨a, rfl⟩, ⟨b, rfl⟩⟩
  exact nle (a := 1) hr.1 (by omega) (by omega)
theorem mop_moveEntry_of {S : Ms} {o e t c : Nat} (b1 : mEnt (S.1 0) (nI o) (nI e) = true) (b2 : mEnt (S.1 0) (nI o) (nI t) = true) (ho : o < 20) (he : e < 6) (ht : t < 6) (hc : c ≤ 6) (ec : S.1 0 (mO o 5) = nI c) : mop_moveEntry S (nI o) (nI e) (nI t) = (0, nI (mUnl (mMv (S.1 0) o e t c) (mNow (S.1 0)) 240), sA (mKeep (mNotes (mC S)) o e) 0 (mMv (S.1 0) o e t c)) := by
  unfold mop_moveEntry mCo
  rw [if_neg (by rw [b1]; decide), if_neg (by rw [b2]; decide), mN_i (show o < 2147483648 by omega), mN_i (show e < 2147483648 by omega), mN_i (show t < 2147483648 by omega), ec, mN_i (show c < 2147483648 by omega)]
theorem mop_isNeedless_of {S : Ms} {o e c : Nat} (b1 : mEnt (S.1 0) (nI o) (nI e) = true) (ho : o < 20) (he : e < 6) (hc : c ≤ 6) (ec : S.1 0 (mO o 5) = nI c) : mop_isNeedless S (nI o) (nI e) = (0, bI (decide (mUnl (mTake (S.1 0) o e c) (mNow (S.1 0)) 240 = 0)), mKeep (mNotes (sV S 1 0)) o e) := by
  unfold mop_isNeedless mCo
  rw [if_neg (by rw [b1]; decide), mN_i (show o < 2147483648 by omega), mN_i (show e < 2147483648 by omega), ec, mN_i (show c < 2147483648 by omega)]
theorem fill0_at {f P : Nat → Int32} {n i : Nat} (h : i < n) : fill f P 0 n i = f i := by
  have := fill_in (f := f) (P := P) (b := 0) h
  rwa [Nat.zero_add] at this
theorem mUnl_fill (t s P : Nat → Int32) : mUnl t (fill (mNow s) P 0 240) 240 = mUnl t (mNow s) 240 := mUnl_cg (fun _ hi => fill0_at hi)
/-- what stands behind a moved entry -/
theorem mMv_st (S : Ms) (o e t c : Nat) : sA (sA (mKeep (mNotes (mC S)) o e) 0 (mTake (S.1 0) o e c)) 0 (fill ((sA (mKeep (mNotes (mC S)) o e) 0 (mTake (S.1 0) o e c)).1 6) (mOpen ((sA (mKeep (mNotes (mC S)) o e) 0 (mTake (S.1 0) o e c)).1 0) o t (c - 1)) (mE o t 0) 5) = sA (mKeep (mNotes (mC S)) o e) 0 (mMv (S.1 0) o e t c) := by
  rw [sA_sA]
  refine congrArg (sA (mKeep (mNotes (mC S)) o e) 0) ?_
  rw [sA_at, show (sA (mKeep (mNotes (mC S)) o e) 0 (mTake (S.1 0) o e c)).1 6 = fill (fun k => S.1 0 (mE o e k)) (S.1 6) 0 5 from by
    simp [sA, mKeep, mNotes, mC, mChg, sV], fill_fill]
  rfl
theorem mNd_st (S : Ms) {o e c : Nat} (hec : e < c) : sA (sA (mKeep (mNotes (sV S 1 0)) o e) 0 (mTake (S.1 0) o e c)) 0 (fill ((sA (mKeep (mNotes (sV S 1 0)) o e) 0 (mTake (S.1 0) o e c)).1 6) (mOpen ((sA (mKeep (mNotes (sV S 1 0)) o e) 0 (mTake (S.1 0) o e c)).1 0) o e (c - 1)) (mE o e 0) 5) = mKeep (mNotes (sV S 1 0)) o e := by
  rw [sA_sA, sA_at, show (sA (mKeep (mNotes (sV S 1 0)) o e) 0 (mTake (S.1 0) o e c)).1 6 = fill (fun k => S.1 0 (mE o e k)) (S.1 6) 0 5 from by
    simp [sA, mKeep, mNotes, sV], fill_fill]
  show sA _ 0 (mIns (mTake (S.1 0) o e c) o e (c - 1) (fun k => S.1 0 (mE o e k))) = _
  rw [mIns_take hec]
  exact sA_self (mKeep (mNotes (sV S 1 0)) o e) 0
theorem mMv_wf {s : Nat → Int32} {o e t c : Nat} (hw : mWf s) (ho : o < 20) (ho1 : s (mO o 0) = 1) (hec : e < c) (htc : t < c) (hc : c ≤ 6) (ec : s (mO o 5) = nI c) : mWf (mMv s o e t c) :=
  mWf_ins (mWf_take hw ho ho1 ec hc hec) ho ((mTake_out hec hc (Or.inl (by unfold mO; omega))).trans ho1) (by rw [mTake_co, ec]; exact sub_1 (by omega)) (by omega) (by omega) (mEnF_cg (fun w hw => rfl) ((hw.en ho ho1 (by rw [ec, mN_i (by omega)]; exact hec)).2))
theorem mLog_st (S : Ms) (u o v x1 x2 x3 : Int32) (a : Bool) (hv : v = bI a) (h1 : x1 = S.1 0 762 + (if S.1 0 762 < 8 then 1 else 0)) (h2 : x2 = S.1 0 763 + 1) (h3 : x3 = S.1 0 764 + (if a then 0 else 1)) :
    sA (mC S) 0 (upd (upd (upd (upd (upd (upd (fill (fun i => S.1 0 (738 + 0 + i)) (S.1 0) (738 + 3 + 0) (21 - 0)) 738 u) 739 o) 740 v) 762 x1) 763 x2) 764 x3) = sA (mC S) 0 (mLog (S.1 0) u o a) := by
  subst hv h1 h2 h3
  rfl
theorem mop_ask_of {S : Ms} {u r : Int32} {o : Nat} (b1 : mUser (S.1 0) u = true) (b2 : mObj (S.1 0) (nI o) = true) (b3 : decide (0 ≤ r ∧ r ≤ 3) = true) (ho : o < 20) : mop_ask S u (nI o) r = (0, bI (mAllows (S.1 0) u o r), sA (mC S) 0 (mLog (S.1 0) u (nI o) (mAllows (S.1 0) u o r))) := by
  have hq : mQc (S.1 0) u (nI o) r = 0 := by
    unfold mQc
    rw [if_pos ⟨b1, b2⟩, if_pos b3]
  unfold mop_ask
  rw [if_pos hq, mN_i (show o < 2147483648 by omega)]
theorem mop_share_of {S : Ms} {u w r : Int32} {o c : Nat} (b1 : mUser (S.1 0) u = true) (b2 : mObj (S.1 0) (nI o) = true) (b3 : mUser (S.1 0) w = true) (b4 : decide (1 ≤ r ∧ r ≤ 15) = true) (ho : o < 20) (hc : c ≤ 6) (ec : S.1 0 (mO o 5) = nI c) (c1 : mRights (S.1 0) u o &&& (r ||| 8) = (r ||| 8)) (c2 : ¬ S.1 0 (mO o 5) = 6) :
    mop_share S u (nI o) w r = (0, mRights (mIns (S.1 0) o 0 c (five 0 w r true false)) w o, sA (mC S) 0 (mIns (S.1 0) o 0 c (five 0 w r true false))) := by
  unfold mop_share mSh mCo
  rw [if_neg (by rw [b1, b2, b3]; decide), if_neg (by rw [b4]; decide), mN_i (show o < 2147483648 by omega), if_neg (by rintro (q | q); exact q c1; exact c2 q), ec, mN_i (show c < 2147483648 by omega)]
theorem mop_share_3 {S : Ms} {u w r : Int32} {o : Nat} (b1 : mUser (S.1 0) u = true) (b2 : mObj (S.1 0) (nI o) = true) (b3 : mUser (S.1 0) w = true) (b4 : decide (1 ≤ r ∧ r ≤ 15) = true) (ho : o < 20) (c1 : ¬ mRights (S.1 0) u o &&& (r ||| 8) = (r ||| 8) ∨ S.1 0 (mO o 5) = 6) : mop_share S u (nI o) w r = mBad S 3 := by
  unfold mop_share
  rw [if_neg (by rw [b1, b2, b3]; decide), if_neg (by rw [b4]; decide), mN_i (show o < 2147483648 by omega), if_pos c1]
