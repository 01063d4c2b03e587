/-! a whole text read: words -/
def pS3 (S S' : Ms) : Prop := (∀ j, j ≠ 7 → S'.1 j = S.1 j) ∧ S'.2 0 = S.2 0 ∧ S'.2 1 = S.2 1 ∧ S'.2 2 = S.2 2
theorem pSm.to3 {S S' : Ms} (h : pSm S S') : pS3 S S' := ⟨h.1, h.2.1, h.2.2.1, h.2.2.2.1⟩
theorem pS3.tr {S S1 S2 : Ms} (h1 : pS3 S S1) (h2 : pS3 S1 S2) : pS3 S S2 := ⟨fun j hj => (h2.1 j hj).trans (h1.1 j hj), h2.2.1.trans h1.2.1, h2.2.2.1.trans h1.2.2.1, h2.2.2.2.trans h1.2.2.2⟩
theorem pS3.v {S S1 : Ms} (h : pS3 S S1) {k : Nat} {x : Int32} (hk : k = 3 ∨ k = 4 ∨ k = 5 ∨ k = 6) : pS3 S (sV S1 k x) := h.tr ⟨fun _ _ => rfl, sV_n S1 k 0 x (by omega), sV_n S1 k 1 x (by omega), sV_n S1 k 2 x (by omega)⟩
theorem pS3.rf (S : Ms) : pS3 S S := ⟨fun _ _ => rfl, rfl, rfl, rfl⟩
def pG (S9 : Ms) (n : Nat) (pre : List (Nat → Int32)) : Prop := pre.length = n ∧ ∀ i, i < n → ∀ w, w < 5 → S9.1 7 (5 * i + w) = pre.getD i (fun _ => 0) w
theorem pG.add {S9 S' : Ms} {n : Nat} {pre : List (Nat → Int32)} {e : Nat → Int32} (h : pG S9 n pre) (h1 : ∀ i, i < 5 * n → S'.1 7 i = S9.1 7 i) (h2 : ∀ w, w < 5 → S'.1 7 (5 * n + w) = e w) : pG S' (n + 1) (pre ++ [e]) := by
  obtain ⟨a, b⟩ := h
  refine ⟨by rw [List.length_append, a]; rfl, fun i hi w hw => ?_⟩
  by_cases q : i < n
  · rw [h1 _ (by omega), b i q w hw]
    simp [List.getD, List.getElem?_append, show i < pre.length by omega]
  · have : i = n := by omega
    subst this
    rw [h2 w hw]
    simp [List.getD, List.getElem?_append, a]
theorem pG.cg {S9 S' : Ms} {n : Nat} {pre : List (Nat → Int32)} (h : pG S9 n pre) (h1 : S'.1 7 = S9.1 7) : pG S' n pre := ⟨h.1, fun i hi w hw => by rw [h1]; exact h.2 i hi w hw⟩
def pWrP (S : Ms) (t : Nat) (v : Option Value) (S' : Ms) : Prop := v = some (.int (pPlan (S.1 4) t).1) ∧ pS3 S S' ∧ ((pPlan (S.1 4) t).1 = -1 → S'.2 4 = (pPlan (S.1 4) t).2.1 ∧ ∃ n, n ≤ 6 ∧ S'.2 5 = nI n ∧ pG S' n (pPlan (S.1 4) t).2.2)
theorem pRts_le {p : Nat → Int32} {t k : Nat} (h : k ≤ t) : (pRts p t k).1 ≤ t := by
  unfold pRts
  exact pRt_le (pRt_le (pRt_le (pRt_le h)))
theorem pEnt_le {p : Nat → Int32} {t k : Nat} (hk : k ≤ t) : (pEnt p t k).2.1 ≤ t := by
  by_cases h : pAt p t k 43 43 = false ∧ pAt p t k 45 45 = false
  · rw [pEnt_0 h.1 h.2]; exact hk
  · have hk1 : k + 1 ≤ t := by
      by_cases h1 : pAt p t k 43 43 = true
      · exact pAt_lt h1
      · have h2 : pAt p t k 45 45 = true := by
          cases e : pAt p t k 45 45
          · exact absurd ⟨by simpa using h1, e⟩ h
          · rfl
        exact pAt_lt h2
    cases h2 : (pWho p t (k + 1)).1
    · rw [pEnt_1 h h2]; exact pWho_le hk1
    · cases h3 : pAt p t (pWho p t (k + 1)).2.1 61 61
      · rw [pEnt_2 h h2 h3]; exact pWho_le hk1
      · by_cases h4 : (pRts p t ((pWho p t (k + 1)).2.1 + 1)).2 = 0
        · rw [pEnt_3 h h2 h3 h4]; exact pRts_le (pAt_lt h3)
        · rw [pEnt_4 h h2 h3 h4]; exact pNx_le (pRts_le (pAt_lt h3))
theorem nI_m1 {k : Nat} (h : k ≤ 80) : ¬ nI k = -1 := fun q => nI_pos (n := k) (by omega) (by rw [q]; exact neg1_lt)
theorem pEnts_0 (p : Nat → Int32) (t m k : Nat) : pEnts p t m false k = (if k = t then -1 else nI k, []) := by
  cases m <;> rfl
theorem pEnts_f {p : Nat → Int32} {t m k : Nat} (h : (pEnt p t k).1 = false) : pEnts p t (m + 1) true k = (nI (pEnt p t k).2.1, []) := by
  simp only [pEnts]
  rw [if_pos h]
theorem pEnts_s {p : Nat → Int32} {t m k k2 : Nat} {mo : Bool} (h : (pEnt p t k).1 = true) (hmo : mo = (decide (0 < m) && pAt p t (pEnt p t k).2.1 59 59)) (hk2 : k2 = if mo then (pEnt p t k).2.1 + 1 else (pEnt p t k).2.1) : pEnts p t (m + 1) true k = ((pEnts p t m mo k2).1, (pEnt p t k).2.2 :: (pEnts p t m mo k2).2) := by
  subst hk2 hmo
  simp only [pEnts]
  rw [if_neg (by rw [h]; decide)]
theorem pPlan_0 {p : Nat → Int32} {t : Nat} (h : (pNum p t 0 19).1 = false) : pPlan p t = (nI (pNum p t 0 19).2.1, 0, []) := if_pos h
theorem pPlan_1 {p : Nat → Int32} {t : Nat} (h : (pNum p t 0 19).1 = true) (h2 : pAt p t (pNum p t 0 19).2.1 58 58 = false) : pPlan p t = (nI (pNum p t 0 19).2.1, 0, []) := by
  unfold pPlan
  rw [if_neg (by rw [h]; decide), if_pos h2]
theorem pPlan_2 {p : Nat → Int32} {t : Nat} (h : (pNum p t 0 19).1 = true) (h2 : pAt p t (pNum p t 0 19).2.1 58 58 = true) {b : Bool} (hb : b = decide ((pNum p t 0 19).2.1 + 1 < t)) : pPlan p t = ((pEnts p t 6 b ((pNum p t 0 19).2.1 + 1)).1, (pNum p t 0 19).2.2, (pEnts p t 6 b ((pNum p t 0 19).2.1 + 1)).2) := by
  subst hb
  unfold pPlan
  rw [if_neg (by rw [h]; decide), if_neg (by rw [h2]; decide)]
theorem pWrP_f {S S' : Ms} {t k : Nat} {x : Int32} {l : List (Nat → Int32)} (h : pPlan (S.1 4) t = (nI k, x, l)) (hk : k ≤ 80) (h1 : pS3 S S') : pWrP S t (some (.int (nI k))) S' := by
  unfold pWrP
  rw [h]
  exact ⟨rfl, h1, fun q => absurd q (nI_m1 hk)⟩
