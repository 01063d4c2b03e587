/-! what the reference's changes do to its state -/
/-- n cells from b on are f's -/
def fill (f P : Nat → Int32) (b n : Nat) : Nat → Int32 := fun j => if b ≤ j ∧ j < b + n then f (j - b) else P j
theorem fill_0 (f P : Nat → Int32) (b : Nat) : fill f P b 0 = P := by
  funext j
  unfold fill
  rw [if_neg (by omega)]
theorem fill_s (f P : Nat → Int32) (b n : Nat) : upd (fill f P b n) (b + n) (f n) = fill f P b (n + 1) := by
  funext j
  unfold upd fill
  by_cases h : j = b + n
  · subst h
    rw [if_pos rfl, if_pos (by omega)]
    congr 1
    omega
  · rw [if_neg h]
    by_cases h2 : b ≤ j ∧ j < b + n
    · rw [if_pos h2, if_pos (by omega)]
    · rw [if_neg h2, if_neg (by omega)]
theorem fill_out {f P : Nat → Int32} {b n j : Nat} (h : j < b ∨ b + n ≤ j) : fill f P b n j = P j := by
  unfold fill
  rw [if_neg (by omega)]
theorem fill_in {f P : Nat → Int32} {b n j : Nat} (h : j < n) : fill f P b n (b + j) = f j := by
  unfold fill
  rw [if_pos (by omega)]
  congr 1
  omega
theorem upd_upd (f : Nat → Int32) (k : Nat) (x w : Int32) : upd (upd f k x) k w = upd f k w := by
  funext j
  unfold upd
  split <;> rfl
theorem sV_sV (S : Ms) (k : Nat) (x w : Int32) : sV (sV S k x) k w = sV S k w := by unfold sV; rw [upd_upd]
theorem sA_sA (S : Ms) (k : Nat) (f g : Nat → Int32) : sA (sA S k f) k g = sA S k g := by
  unfold sA
  congr 1
  funext j
  by_cases h : j = k <;> simp [h]
theorem sA_self (S : Ms) (k : Nat) : sA S k (S.1 k) = S := by
  obtain ⟨a, b⟩ := S
  unfold sA
  congr 1
  funext j
  by_cases h : j = k
  · subst h; simp
  · simp [h]
theorem sV_self (S : Ms) (k : Nat) {x : Int32} (h : S.2 k = x) : sV S k x = S := by
  obtain ⟨a, b⟩ := S
  subst h
  unfold sV upd
  congr 1
  funext j
  by_cases h : j = k
  · subst h; simp
  · simp [h]
theorem sA_at (S : Ms) (k : Nat) (f : Nat → Int32) : (sA S k f).1 k = f := by simp [sA]
theorem MR.cg {m : Nat} {ad : Nat → Nat} {S S' : Ms} {h h' : Hm} (hM : MR m ad S h h') (e : S = S') : MR m ad S' h h' := e ▸ hM
/-- what 'changes' makes of the past -/
def mPast (P s : Nat → Int32) (p : Nat) : Nat → Int32 := if p = 5 then fill s (fill (fun i => P (i + 765)) P 0 3060) 3060 765 else fill s P (765 * p) 765
def mChg (S : Ms) : Ms := sV (sA S 1 (mPast (S.1 1) (S.1 0) (S.2 0).toNatClampNeg)) 0 (if (S.2 0) = 5 then 5 else S.2 0 + 1)
theorem mChg_1 (S : Ms) (k : Nat) (h : k ≠ 1) : (mChg S).1 k = S.1 k := by simp [mChg, sV, sA, h]
theorem mChg_2 (S : Ms) (k : Nat) (h : k ≠ 0) : (mChg S).2 k = S.2 k := by simp [mChg, sV, sA, upd, h]
theorem chg_sh (S : Ms) (i : Nat) : sA (sA S 1 (fill (fun j => S.1 1 (j + 765)) (S.1 1) 0 i)) 1 (upd ((sA S 1 (fill (fun j => S.1 1 (j + 765)) (S.1 1) 0 i)).1 1) i ((sA S 1 (fill (fun j => S.1 1 (j + 765)) (S.1 1) 0 i)).1 1 (i + 765))) = sA S 1 (fill (fun j => S.1 1 (j + 765)) (S.1 1) 0 (i + 1)) := by
  rw [sA_sA, sA_at, fill_out (by omega)]
  have h := fill_s (fun j => S.1 1 (j + 765)) (S.1 1) 0 i
  rw [Nat.zero_add] at h
  rw [h]
theorem chg_2 (S : Ms) (G : Nat → Int32) (b i : Nat) : sA (sV (sA S 1 (fill (S.1 0) G b i)) 0 4) 1 (upd ((sV (sA S 1 (fill (S.1 0) G b i)) 0 4).1 1) (b + i) ((sV (sA S 1 (fill (S.1 0) G b i)) 0 4).1 0 i)) = sV (sA S 1 (fill (S.1 0) G b (i + 1))) 0 4 := by
  rw [← fill_s]
  show sV (sA (sA S 1 (fill (S.1 0) G b i)) 1 _) 0 4 = _
  rw [sA_sA]
  have e : (sV (sA S 1 (fill (S.1 0) G b i)) 0 4).1 1 = fill (S.1 0) G b i := sA_at S 1 _
  rw [e]
  rfl
