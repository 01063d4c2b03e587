/-! who decides; what has changed: words ahead of m9 -/
theorem mWf.rk {s : Nat → Int32} (h : mWf s) : ∃ rk : Nat → Nat, (∀ o, rk o ≤ 20) ∧ ∀ o, o < 20 → s (mO o 0) = 1 → mObW s rk o := by obtain ⟨nu, ng, -, -, -, -, -, h1, -⟩ := h; exact rk_bd h1
theorem mWf.g {s : Nat → Int32} (h : mWf s) : ∃ ng, ng ≤ 8 ∧ s 1 = nI ng := by obtain ⟨nu, ng, -, h1, -⟩ := h; exact ⟨ng, h1⟩
theorem mWf.u {s : Nat → Int32} (h : mWf s) : ∃ nu, 1 ≤ nu ∧ nu ≤ 12 ∧ s 0 = nI nu := by obtain ⟨nu, ng, h1, -⟩ := h; exact ⟨nu, h1⟩
theorem MOk.wf {S : Ms} (h : MOk S) : mWf (S.1 0) := h.1
theorem mWf.th {s : Nat → Int32} (h : mWf s) : ∀ o, o < 20 → s (mO o 0) = 0 ∨ s (mO o 0) = 1 := by obtain ⟨nu, ng, -, -, -, -, h1, -⟩ := h; exact h1
theorem mWf.co {s : Nat → Int32} (h : mWf s) {l : Nat} (hl : l < 20) (h1 : s (mO l 0) = 1) : ∃ c, c ≤ 6 ∧ s (mO l 5) = nI c ∧ ∀ e, e < c → mEnW s l e := by
  obtain ⟨rk, -, hob⟩ := h.rk
  exact (hob l hl h1).2.2
theorem mWf.en {s : Nat → Int32} (h : mWf s) {l e : Nat} (hl : l < 20) (h1 : s (mO l 0) = 1) (he : e < mN (s (mO l 5))) : e < 6 ∧ mEnW s l e := by
  obtain ⟨c, hc, ec, hen⟩ := h.co hl h1
  rw [ec, mN_i (by omega)] at he
  exact ⟨by omega, hen e he⟩
theorem mEnW.kd {s : Nat → Int32} {l e : Nat} (h : mEnW s l e) : s (mE l e 0) = 0 ∨ s (mE l e 0) = 1 ∨ s (mE l e 0) = 2 ∨ s (mE l e 0) = 3 := by
  obtain ⟨⟨kd, hk, e0, -⟩, -⟩ := h
  rcases (show kd = 0 ∨ kd = 1 ∨ kd = 2 ∨ kd = 3 by omega) with q | q | q | q <;> subst q
  · exact Or.inl e0
  · exact Or.inr (Or.inl e0)
  · exact Or.inr (Or.inr (Or.inl e0))
  · exact Or.inr (Or.inr (Or.inr e0))
theorem mEnW.gr {s : Nat → Int32} {l e : Nat} (h : mEnW s l e) (h1 : s (mE l e 0) = 1) : ∃ w, w < 8 ∧ s (mE l e 1) = nI w := by
  obtain ⟨⟨kd, hk, e0, -, hg⟩, -⟩ := h
  refine hg ?_
  rw [h1] at e0
  exact ((nI_eq (a := 1) (by omega) (by omega)).mp e0).symm
theorem fstF_of {p : Nat → Bool} {n k i : Nat} (h : fstF p n k = some i) : k ≤ i ∧ i < k + n ∧ p i = true := by
  induction n generalizing k with
  | zero => simp [fstF] at h
  | succ n ih =>
    unfold fstF at h
    by_cases e : p k = true
    · rw [if_pos e] at h
      cases h
      exact ⟨Nat.le_refl _, by omega, e⟩
    · rw [if_neg e] at h
      have := ih h
      exact ⟨by omega, by omega, this.2.2⟩
section DEC
variable {s : Nat → Int32} {u r : Int32} {o f q e : Nat}
theorem mDecF_0 {x : Int32} (h : x < 0) : mDecF s u o r (f + 1) x = none := by simp only [mDecF, if_pos h]
theorem mDecF_h {c : Nat} (hq : q < 20) (ec : s (mO q 5) = nI c) (hc : c ≤ 6) (h : fstF (mCnts s u o r q) c 0 = some e) : mDecF s u o r (f + 1) (nI q) = some (q, e) := by
  have h1 : ¬ nI q < 0 := nI_pos (by omega)
  simp only [mDecF, if_neg h1, mN_i (show q < 2147483648 by omega), ec, mN_i (show c < 2147483648 by omega), h]
theorem mDecF_n {c : Nat} (hq : q < 20) (ec : s (mO q 5) = nI c) (hc : c ≤ 6) (h : fstF (mCnts s u o r q) c 0 = none) : mDecF s u o r (f + 1) (nI q) = mDecF s u o r f (if s (mO q 4) = 1 then s (mO q 1) else -1) := by
  have h1 : ¬ nI q < 0 := nI_pos (by omega)
  simp only [mDecF, if_neg h1, mN_i (show q < 2147483648 by omega), ec, mN_i (show c < 2147483648 by omega), h]
theorem mDecF_of {rk : Nat → Nat} (hob : ∀ o, o < 20 → s (mO o 0) = 1 → mObW s rk o) : ∀ (f : Nat) (x : Int32), (x = -1 ∨ ∃ q, q < 20 ∧ x = nI q ∧ s (mO q 0) = 1) → ∀ l e, mDecF s u o r f x = some (l, e) → l < 20 ∧ s (mO l 0) = 1 ∧ e < mN (s (mO l 5)) ∧ mCnts s u o r l e = true := by
  intro f
  induction f with
  | zero => intro x _ l e h; simp [mDecF] at h
  | succ f ih =>
    intro x hx l e h
    rcases hx with rfl | ⟨q, hq, rfl, h1⟩
    · rw [mDecF_0 neg1_lt] at h; cases h
    · obtain ⟨hp, -, c, hc, ec, -⟩ := hob q hq h1
      rcases hf : fstF (mCnts s u o r q) c 0 with _ | j
      · rw [mDecF_n hq ec hc hf] at h
        refine ih _ ?_ l e h
        split
        · rcases hp with ⟨-, e1⟩ | ⟨-, q2, e1, e2, e3, -⟩
          · exact Or.inl e1
          · exact Or.inr ⟨q2, e1, e2, e3⟩
        · exact Or.inl rfl
      · rw [mDecF_h hq ec hc hf] at h
        cases h
        obtain ⟨-, h3, h4⟩ := fstF_of hf
        exact ⟨hq, h1, by rw [ec, mN_i (by omega)]; omega, h4⟩
theorem mDec_of (hw : mWf s) (ho : o < 20) (h1 : s (mO o 0) = 1) {l e : Nat} (h : mDec s u o r = some (l, e)) : l < 20 ∧ s (mO l 0) = 1 ∧ e < 6 ∧ e < mN (s (mO l 5)) ∧ mCnts s u o r l e = true := by
  obtain ⟨rk, -, hob⟩ := hw.rk
  obtain ⟨h2, h3, h4, h5⟩ := mDecF_of hob 22 (nI o) (Or.inr ⟨o, ho, rfl, h1⟩) l e h
  exact ⟨h2, h3, (hw.en h2 h3 h4).1, h4, h5⟩
theorem mDec_ex (hw : mWf s) (ho : o < 20) (h1 : s (mO o 0) = 1) (h : ¬ mDecI (mDec s u o r) < 0) : ∃ l e, mDec s u o r = some (l, e) ∧ l < 20 ∧ e < 6 ∧ mDecI (mDec s u o r) = nI (6 * l + e) := by
  rcases hd : mDec s u o r with _ | ⟨l, e⟩
  · rw [hd] at h; exact absurd neg1_lt h
  · obtain ⟨h2, -, h3, -⟩ := mDec_of hw ho h1 hd
    exact ⟨l, e, rfl, h2, h3, rfl⟩
theorem mDec_no (hw : mWf s) (ho : o < 20) (h1 : s (mO o 0) = 1) (h : mDecI (mDec s u o r) < 0) : mDec s u o r = none := by
  rcases hd : mDec s u o r with _ | ⟨l, e⟩
  · rfl
  · obtain ⟨h2, -, h3, -⟩ := mDec_of hw ho h1 hd
    rw [hd] at h
    exact absurd h (nI_pos (by omega))
theorem dec_div {l e : Nat} (hl : l < 20) (he : e < 6) : nI (6 * l + e) / 6 = nI l := by
  have := pk_div (a := 6 * l + e) (d := 6) (by omega) (by decide) (by decide)
  rw [show (6 * l + e) / 6 = l by omega] at this
  exact this
theorem dec_rem {l e : Nat} (hl : l < 20) (he : e < 6) : nI (6 * l + e) - nI (6 * l + e) / 6 * 6 = nI e := by
  have := pk_rem (a := 6 * l + e) (d := 6) (by omega) (by decide) (by decide)
  rw [show (6 * l + e) % 6 = e by omega] at this
  exact this
end DEC
/-- what u may at o, both of number i: as 'notes' writes it -/
def mNow (s : Nat → Int32) (i : Nat) : Int32 := if nI (i / 20) < s 0 ∧ mObj s (nI (i % 20)) = true then mRights s (nI (i / 20)) (i % 20) else 0
def mNotes (S : Ms) : Ms := sA S 5 (fill (mNow (S.1 0)) (S.1 5) 0 240)
abbrev mUb (s w : Nat → Int32) (i : Nat) : Nat → Bool := fun b => mHas (mNow s i) (nI b) != mHas (w i) (nI b)
def mUnl (s w : Nat → Int32) : Nat → Nat
  | 0 => 0
  | n + 1 => mUnl s w n + cnt (mUb s w n) 4
theorem mUnl_le (s w : Nat → Int32) (n : Nat) : mUnl s w n ≤ 4 * n := by
  induction n with
  | zero => exact Nat.le_refl 0
  | succ n ih => have := cnt_le (mUb s w n) 4; unfold mUnl; omega
theorem d20 {i : Nat} (h : i < 240) : nI i / 20 = nI (i / 20) := pk_div (d := 20) (by omega) (by decide) (by decide)
theorem r20 {i : Nat} (h : i < 240) : nI i - nI i / 20 * 20 = nI (i % 20) := pk_rem (d := 20) (by omega) (by decide) (by decide)
theorem mNow_t {s : Nat → Int32} {i : Nat} (h1 : ¬ s 0 ≤ nI (i / 20)) (h2 : mObj s (nI (i % 20)) = true) : mNow s i = mRights s (nI (i / 20)) (i % 20) := if_pos ⟨Int32.not_le.mp h1, h2⟩
theorem mNow_f {s : Nat → Int32} {i : Nat} (h1 : s 0 ≤ nI (i / 20)) : mNow s i = 0 := if_neg (fun q => absurd q.1 (Int32.not_lt.mpr h1))
theorem mNow_g {s : Nat → Int32} {i : Nat} (h2 : mObj s (nI (i % 20)) = false) : mNow s i = 0 := if_neg (fun q => by rw [h2] at q; cases q.2)
theorem bI_eq {a b : Bool} (h : bI a = bI b) : (a != b) = false := by revert h; cases a <;> cases b <;> decide
theorem bI_ne {a b : Bool} (h : ¬ bI a = bI b) : (a != b) = true := by revert h; cases a <;> cases b <;> decide
theorem cnt_t' {f : Nat → Bool} {k n : Nat} (h : f n = true) : nI (k + cnt f n) + 1 = nI (k + cnt f (n + 1)) := by rw [nI_1]; simp [cnt, h]; rfl
theorem cnt_f' {f : Nat → Bool} {k n : Nat} (h : f n = false) : nI (k + cnt f n) + 0 = nI (k + cnt f (n + 1)) := by simp [cnt, h]
theorem mObj_th {s : Nat → Int32} {o : Nat} (ho : o < 20) (h : mObj s (nI o) = true) : s (mO o 0) = 1 := by rw [mObj_i ho] at h; exact of_decide_eq_true h
