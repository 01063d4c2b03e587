/-! loading, writing, the making: words -/
theorem pWrP.o4 {S S' : Ms} {t : Nat} {v : Option Value} (h : pWrP S t v S') : ∀ j, j ≠ 7 → S'.1 j = S.1 j := h.2.1.1
theorem ix5 (i w : Nat) : (5 : Int32) * nI i + nI w = nI (5 * i + w) := by rw [show (5 : Int32) = nI 5 from rfl, pk_mul, nI_add]
theorem mLd_eq {s P7 : Nat → Int32} {x n : Nat} {l : List (Nat → Int32)} (hl : l.length = n) (hg : ∀ i, i < n → ∀ w, w < 5 → P7 (5 * i + w) = lG l i w) : fill (fun i => P7 i) (upd s (mO x 5) (nI n)) (mE x 0 0) (5 * n) = mLd s x l := by
  subst hl
  funext y
  unfold mLd fill
  by_cases h : mE x 0 0 ≤ y ∧ y < mE x 0 0 + 5 * l.length
  · rw [if_pos h, if_pos h]
    have := hg ((y - mE x 0 0) / 5) (by omega) ((y - mE x 0 0) % 5) (by omega)
    rw [show 5 * ((y - mE x 0 0) / 5) + (y - mE x 0 0) % 5 = y - mE x 0 0 by omega] at this
    exact this
  · rw [if_neg h, if_neg h]
theorem mLdOk_t {S : Ms} {t : Nat} (ht : S.2 2 = nI t) (ht8 : t ≤ 80) : mLdOk S = (decide ((pPlan (S.1 4) t).1 = -1) && pThs (S.1 0) (pPlan (S.1 4) t).2.1 (lG (pPlan (S.1 4) t).2.2) (pPlan (S.1 4) t).2.2.length) := by
  unfold mLdOk
  rw [ht, mN_i (by omega)]
theorem mop_load_0 {S : Ms} (h : mLdOk S = false) : mop_loadEntries S = mBad S 1 := by
  unfold mop_loadEntries
  rw [if_neg (by rw [h]; decide)]
theorem mop_load_1 {S : Ms} {t : Nat} (ht : S.2 2 = nI t) (ht8 : t ≤ 80) (h : mLdOk S = true) {j : Nat} (hj : j < 20) (ej : (pPlan (S.1 4) t).2.1 = nI j) : mop_loadEntries S = (0, nI (pPlan (S.1 4) t).2.2.length, sV (sA (mC S) 0 (mLd (S.1 0) j (pPlan (S.1 4) t).2.2)) 2 0) := by
  unfold mop_loadEntries
  rw [if_pos h, ht, mN_i (show t < 2147483648 by omega), ej, mN_i (show j < 2147483648 by omega)]
theorem mEq_bad {S S6 : Ms} (h : pS3 (sV S 1 0) S6) (c : Int32) : mEq (sV S6 1 c) (sV S 1 c) := by
  refine ⟨fun j hj => h.1 j (by omega), ?_, rfl, ?_⟩
  · exact (sV_n S6 1 0 c (by decide)).trans (h.2.1.trans ((sV_n S 1 0 0 (by decide)).trans (sV_n S 1 0 c (by decide)).symm))
  · exact (sV_n S6 1 2 c (by decide)).trans (h.2.2.2.trans ((sV_n S 1 2 0 (by decide)).trans (sV_n S 1 2 c (by decide)).symm))
theorem mEq_load {S S6 : Ms} (h : pS3 (sV S 1 0) S6) (F : Nat → Int32) (X : Int32) : mEq (sV (sA (mChg S6) 0 F) 2 X) (sV (sA (mC S) 0 F) 2 X) := by
  have e0 : S6.1 0 = S.1 0 := h.1 0 (by decide)
  have e1 : S6.1 1 = S.1 1 := h.1 1 (by decide)
  have e2 : S6.2 0 = S.2 0 := h.2.1
  refine ⟨fun j hj => ?_, ?_, ?_, rfl⟩
  · rcases (show j = 0 ∨ j = 1 ∨ j = 2 ∨ j = 3 ∨ j = 4 by omega) with q | q | q | q | q <;> subst q
    · rfl
    · show mPast (S6.1 1) (S6.1 0) (S6.2 0).toNatClampNeg = mPast (S.1 1) (S.1 0) (S.2 0).toNatClampNeg
      rw [e0, e1, e2]
    · exact h.1 2 (by decide)
    · exact h.1 3 (by decide)
    · exact h.1 4 (by decide)
  · show (if S6.2 0 = 5 then (5 : Int32) else S6.2 0 + 1) = (if S.2 0 = 5 then (5 : Int32) else S.2 0 + 1)
    rw [e2]
  · exact h.2.2.1
/-- the reference just made -/
def mS0 : Ms := (fun _ _ => 0, fun _ => 0)
def mSt : Ms := sA mS0 0 (mFounds (upd (fun _ => 0) 0 1) 0 (-1) 0)
def mAd (a0 a1 a2 a3 a4 a5 a6 a7 : Nat) : Nat → Nat := fun k => match k with
  | 0 => a0
  | 1 => a1
  | 2 => a2
  | 3 => a3
  | 4 => a4
  | 5 => a5
  | 6 => a6
  | _ => a7
/-- contract of the making: a new reference at m stands in its first state -/
def mInitQ (m : Nat) (h : Hm) (v : Option Value) (h' : Hm) : Prop := v = none ∧ ∃ ad : Nat → Nat, MW m ad mSt h' ∧ (∀ a, a ≠ m → h a ≠ none → h' a = h a) ∧ ∀ k, k < 8 → h (ad k) = none
theorem gset_nn {h : Hm} {a b : Nat} {o : Ao} (hn : gset h a o b = none) : h b = none ∧ b ≠ a := by
  by_cases e : b = a
  · subst e; rw [gset_s] at hn; cases hn
  · rw [gset_n e] at hn; exact ⟨hn, e⟩
theorem fr_ne {h : Hm} {a b : Nat} {o : Ao} (hb : h b = some o) (ha : h a = none) : a ≠ b := fun e => by rw [e, hb] at ha; cases ha
theorem gW.hv {z : Cz} {pc : Nat} {lv : List (Option Value)} {st : List Value} {h : Hm} {k n : Nat} (P : Hm → Prop) (hp : P h) (kk : ∀ H, P H → gW z pc lv st H k n) : gW z pc lv st h k n := kk h hp
