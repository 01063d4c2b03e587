/-! entries: further words -/
theorem sub_1 {c : Nat} (h : 1 ≤ c) : nI c - 1 = nI (c - 1) := by
  obtain ⟨k, rfl⟩ : ∃ k, c = k + 1 := ⟨c - 1, by omega⟩
  exact nI_pred k
theorem mO_ne {o w : Nat} {e f q : Nat} (hw : w < 6) : mE o e f + q ≠ mO o w := by unfold mE mO; omega
theorem mTake_st (S : Ms) (o e c i : Nat) (s1 : Nat → Int32) (hs : s1 = upd (S.1 0) (mO o 5) (S.1 0 (mO o 5) - 1)) : sA (sA S 0 (fill (fun i => S.1 0 (mE o e 0 + 5 + i)) s1 (mE o e 0) i)) 0 (upd ((sA S 0 (fill (fun i => S.1 0 (mE o e 0 + 5 + i)) s1 (mE o e 0) i)).1 0) (mE o e 0 + i) ((sA S 0 (fill (fun i => S.1 0 (mE o e 0 + 5 + i)) s1 (mE o e 0) i)).1 0 (mE o e 0 + i + 5))) = sA S 0 (fill (fun i => S.1 0 (mE o e 0 + 5 + i)) s1 (mE o e 0) (i + 1)) := by
  rw [sA_sA, sA_at, fill_out (by omega), hs, pk_un (by unfold mE mO; omega), show mE o e 0 + i + 5 = mE o e 0 + 5 + i by omega]
  exact congrArg (sA S 0) (fill_s (fun i => S.1 0 (mE o e 0 + 5 + i)) _ (mE o e 0) i)
theorem fill_self (s : Nat → Int32) (b : Nat) (f : Nat → Int32) : fill f s b 0 = s := fill_0 f s b
theorem add_I (a b : Nat) : nI a + nI b = nI (a + b) := nI_add a b
theorem sub_5 {x : Nat} (h : 5 ≤ x) : nI x - 5 = nI (x - 5) := pk_sub (b := 5) h
