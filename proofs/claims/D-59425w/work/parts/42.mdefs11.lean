/-! an entry read: words -/
def pEI (S S9 : Ms) (n k9 : Nat) (kd wh : Int32) : Prop := pSm S S9 ∧ S9.2 3 = nI k9 ∧ S9.2 5 = nI n ∧ (∀ i, i < 5 * n → S9.1 7 i = S.1 7 i) ∧ S9.1 7 (5 * n) = kd ∧ S9.1 7 (5 * n + 1) = wh
theorem pEI.v {S S9 : Ms} {n k9 : Nat} {kd wh : Int32} (h : pEI S S9 n k9 kd wh) (k' : Nat) : pEI S (sV S9 3 (nI k')) n k' kd wh := ⟨h.1.V (by decide), rfl, h.2.2.1, h.2.2.2.1, h.2.2.2.2.1, h.2.2.2.2.2⟩
theorem pEI.p {S S9 : Ms} {n k9 : Nat} {kd wh : Int32} (h : pEI S S9 n k9 kd wh) : S9.1 4 = S.1 4 := h.1.1 4 (by decide)
theorem pEI.tk {S S9 : Ms} {n k9 t k : Nat} {kd wh : Int32} (h : pEI S S9 n k9 kd wh) (ht : Tk S k t) (hk : k9 ≤ t) : Tk S9 k9 t := ht.nx h.1.2.2.2.1 hk h.2.1
def pEntP (S : Ms) (t k n : Nat) (v : Option Value) (S' : Ms) : Prop := v = some (.int (bI (pEnt (S.1 4) t k).1)) ∧ pSm S S' ∧ S'.2 3 = nI (pEnt (S.1 4) t k).2.1 ∧ ((pEnt (S.1 4) t k).1 = true → S'.2 5 = nI (n + 1) ∧ (∀ i, i < 5 * n → S'.1 7 i = S.1 7 i) ∧ ∀ w, w < 5 → S'.1 7 (5 * n + w) = (pEnt (S.1 4) t k).2.2 w)
theorem pRt_t {p : Nat → Int32} {t k : Nat} {acc c b : Int32} (h : pAt p t k c c = true) : pRt p t (k, acc) c b = (k + 1, acc + b) := if_pos h
theorem pRt_f {p : Nat → Int32} {t k : Nat} {acc c b : Int32} (h : pAt p t k c c = false) : pRt p t (k, acc) c b = (k, acc) := if_neg (by rw [h]; decide)
section PENT
variable {p : Nat → Int32} {t k : Nat}
theorem pEnt_0 (h : pAt p t k 43 43 = false) (h2 : pAt p t k 45 45 = false) : pEnt p t k = (false, k, fun _ => 0) := by
  unfold pEnt
  rw [if_pos ⟨h, h2⟩]
theorem pEnt_1 (h : ¬ (pAt p t k 43 43 = false ∧ pAt p t k 45 45 = false)) (h2 : (pWho p t (k + 1)).1 = false) : pEnt p t k = (false, (pWho p t (k + 1)).2.1, fun _ => 0) := by
  unfold pEnt
  rw [if_neg h, if_pos h2]
theorem pEnt_2 (h : ¬ (pAt p t k 43 43 = false ∧ pAt p t k 45 45 = false)) (h2 : (pWho p t (k + 1)).1 = true) (h3 : pAt p t (pWho p t (k + 1)).2.1 61 61 = false) : pEnt p t k = (false, (pWho p t (k + 1)).2.1, fun _ => 0) := by
  unfold pEnt
  rw [if_neg h, if_neg (by rw [h2]; decide), if_pos h3]
theorem pEnt_3 (h : ¬ (pAt p t k 43 43 = false ∧ pAt p t k 45 45 = false)) (h2 : (pWho p t (k + 1)).1 = true) (h3 : pAt p t (pWho p t (k + 1)).2.1 61 61 = true) (h4 : (pRts p t ((pWho p t (k + 1)).2.1 + 1)).2 = 0) : pEnt p t k = (false, (pRts p t ((pWho p t (k + 1)).2.1 + 1)).1, fun _ => 0) := by
  unfold pEnt
  rw [if_neg h, if_neg (by rw [h2]; decide), if_neg (by rw [h3]; decide), if_pos h4]
theorem pEnt_4 (h : ¬ (pAt p t k 43 43 = false ∧ pAt p t k 45 45 = false)) (h2 : (pWho p t (k + 1)).1 = true) (h3 : pAt p t (pWho p t (k + 1)).2.1 61 61 = true) (h4 : ¬ (pRts p t ((pWho p t (k + 1)).2.1 + 1)).2 = 0) : pEnt p t k = (true, pNx p t (pRts p t ((pWho p t (k + 1)).2.1 + 1)).1 42, five (pWho p t (k + 1)).2.2.1 (pWho p t (k + 1)).2.2.2 (pRts p t ((pWho p t (k + 1)).2.1 + 1)).2 (pAt p t k 43 43) (pAt p t (pRts p t ((pWho p t (k + 1)).2.1 + 1)).1 42 42)) := by
  unfold pEnt
  rw [if_neg h, if_neg (by rw [h2]; decide), if_neg (by rw [h3]; decide), if_neg h4]
end PENT
theorem pEntP_f {S S' : Ms} {t k n : Nat} {k9 : Nat} (h : pEnt (S.1 4) t k = (false, k9, fun _ => 0)) (h1 : pSm S S') (h3 : S'.2 3 = nI k9) : pEntP S t k n (some (.int 0)) S' := by
  unfold pEntP
  rw [h]
  exact ⟨rfl, h1, h3, fun q => by cases q⟩
/-- the entry stands in the part -/
theorem pEntP_t {S S9 : Ms} {t k n k9 : Nat} {kd wh acc : Int32} {a b : Bool} (hE : pEI S S9 n k9 kd wh) (h : pEnt (S.1 4) t k = (true, pNx (S.1 4) t k9 42, five kd wh acc a b)) (hn : n ≤ 5) (S4 S' : Ms) (e4 : S4 = sV (sA (sA S9 7 (upd (S9.1 7) (5 * n + 2) acc)) 7 (upd (upd (S9.1 7) (5 * n + 2) acc) (5 * n + 3) (bI a))) 3 (nI (pNx (S.1 4) t k9 42))) (e' : S' = sV (sA S4 7 (upd (S4.1 7) (5 * n + 4) (bI b))) 5 (nI (n + 1))) : pEntP S t k n (some (.int 1)) S' := by
  subst e4
  subst e'
  unfold pEntP
  rw [h]
  obtain ⟨h1, h3, h5, h7, h8, h9⟩ := hE
  refine ⟨rfl, ?_, rfl, fun _ => ⟨rfl, fun i hi => ?_, fun w hw => ?_⟩⟩
  · refine pSm.V (by decide) (pSm.A (pSm.V (by decide) (pSm.A (pSm.A h1))))
  · show upd (upd (upd (S9.1 7) (5 * n + 2) acc) (5 * n + 3) (bI a)) (5 * n + 4) (bI b) i = _
    rw [pk_un (by omega), pk_un (by omega), pk_un (by omega)]
    exact h7 i hi
  · show upd (upd (upd (S9.1 7) (5 * n + 2) acc) (5 * n + 3) (bI a)) (5 * n + 4) (bI b) (5 * n + w) = _
    rcases (show w = 0 ∨ w = 1 ∨ w = 2 ∨ w = 3 ∨ w = 4 by omega) with q | q | q | q | q <;> subst q
    · rw [pk_un (by omega), pk_un (by omega), pk_un (by omega)]; exact h8
    · rw [pk_un (by omega), pk_un (by omega), pk_un (by omega)]; exact h9
    · rw [pk_un (by omega), pk_un (by omega), pk_us]; rfl
    · rw [pk_un (by omega), pk_us]; rfl
    · rw [pk_us]; rfl
theorem pRt_le {p : Nat → Int32} {t : Nat} {q : Nat × Int32} {c b : Int32} (h : q.1 ≤ t) : (pRt p t q c b).1 ≤ t := by
  unfold pRt
  split
  · rename_i h1; exact pAt_lt h1
  · exact h
theorem pEI.cgk {S S9 : Ms} {n k9 k' : Nat} {kd wh : Int32} (h : pEI S S9 n k9 kd wh) (e : k9 = k') : pEI S S9 n k' kd wh := e ▸ h
theorem pAt_cg {p p' : Nat → Int32} {t k : Nat} {lo hi : Int32} {b : Bool} (e : p' = p) (h : pAt p' t k lo hi = b) : pAt p t k lo hi = b := e ▸ h
