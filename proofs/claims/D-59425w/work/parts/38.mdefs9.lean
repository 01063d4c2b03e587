/-! the quotient of two small numbers is a number -/
theorem n64_as (s : Bool) (e t : Nat) (h : e * 4503599627370496 + t ≤ 9218868437227405312) : FP.Core.assemble FP.Core.b64 s e t % 9223372036854775808 ≤ 9218868437227405312 ∧ FP.Core.assemble FP.Core.b64 s e t < 18446744073709551616 := by
  have he : FP.Core.b64.exps = 2048 := by decide
  have ht : FP.Core.b64.tails = 4503599627370496 := by decide
  unfold FP.Core.assemble
  rw [he, ht]
  cases s
  · rw [show (Bool.toNat false) = 0 from rfl]; omega
  · rw [show (Bool.toNat true) = 1 from rfl]; omega
theorem n64_enc (s : Bool) (num den : Nat) (e : Int) : FP.Core.encode FP.Core.b64 (FP.Core.roundRatio FP.Core.b64 s num den e) % 9223372036854775808 ≤ 9218868437227405312 ∧ FP.Core.encode FP.Core.b64 (FP.Core.roundRatio FP.Core.b64 s num den e) < 18446744073709551616 := by
  have he : FP.Core.b64.exps = 2048 := by decide
  have ht : FP.Core.b64.tails = 4503599627370496 := by decide
  have h2 : 2 ^ FP.Core.b64.p = 9007199254740992 := by decide
  have hq1 : FP.Core.b64.qmin = -1074 := by decide
  have hq2 : FP.Core.b64.qmax = 971 := by decide
  have hb : ∀ (c : Nat) (q : Int), c < 9007199254740992 → -1074 ≤ q → FP.Core.encode FP.Core.b64 (FP.Core.bound FP.Core.b64 s c q) % 9223372036854775808 ≤ 9218868437227405312 ∧ FP.Core.encode FP.Core.b64 (FP.Core.bound FP.Core.b64 s c q) < 18446744073709551616 := by
    intro c q hc hq
    unfold FP.Core.bound
    rw [hq2]
    split
    · unfold FP.Core.encode
      rw [ht, hq1]
      dsimp only
      split
      · exact n64_as s 0 c (by omega)
      · exact n64_as s _ _ (by omega)
    · unfold FP.Core.encode
      rw [he]
      exact n64_as s _ _ (by omega)
  unfold FP.Core.roundRatio
  split
  · rw [hq1]
    have := n64_as s 0 0 (by omega)
    unfold FP.Core.encode
    rw [ht]
    dsimp only
    rw [if_pos (by omega)]
    exact this
  · unfold FP.Core.roundAt FP.Core.settle
    rw [h2]
    have hq : -1074 ≤ FP.Core.quantum FP.Core.b64 num den e := by
      unfold FP.Core.quantum
      rw [hq1]
      omega
    split
    · rename_i hc
      exact hb _ _ hc hq
    · rw [ht]
      exact hb _ _ (by omega) (by omega)
theorem n64_of {n : Nat} (h1 : n % 9223372036854775808 ≤ 9218868437227405312) (h2 : n < 18446744073709551616) : vf_n64 (UInt64.ofNat n) := by
  unfold vf_n64
  rw [UInt64.le_iff_toNat_le, UInt64.toNat_and, UInt64.toNat_ofNat_of_lt' (by exact h2)]
  show n &&& 9223372036854775807 ≤ 9218868437227405312
  rw [show (9223372036854775807 : Nat) = 2 ^ 63 - 1 from rfl, Nat.and_two_pow_sub_one_eq_mod]
  exact h1
def isFN : FP.Core.Datum → Bool
  | .fin _ c _ => c != 0
  | _ => false
def isF : FP.Core.Datum → Bool
  | .fin _ _ _ => true
  | _ => false
theorem quo_n64 {x y : FP.Core.Datum} (hx : isF x = true) (hy : isFN y = true) : FP.Core.encode FP.Core.b64 (FP.Core.quotient FP.Core.b64 x y) % 9223372036854775808 ≤ 9218868437227405312 ∧ FP.Core.encode FP.Core.b64 (FP.Core.quotient FP.Core.b64 x y) < 18446744073709551616 := by
  cases x with
  | nan => cases hx
  | inf s => cases hx
  | fin s c q =>
    cases y with
    | nan => cases hy
    | inf s => cases hy
    | fin t d r =>
      have hd : d ≠ 0 := by intro e; subst e; cases hy
      unfold FP.Core.quotient
      dsimp only
      rw [if_neg hd]
      exact n64_enc _ _ _ _
def isFs : Nat → Bool
  | 0 => true
  | n + 1 => isFs n && isF (FP.Core.decode FP.Core.b64 (FP.i2d (Int32.ofNat n)).toNat)
def isFNs : Nat → Bool
  | 0 => true
  | n + 1 => isFNs n && isFN (FP.Core.decode FP.Core.b64 (FP.i2d (Int32.ofNat (n + 1))).toNat)
theorem isFs_of {k n : Nat} (h : isFs n = true) (hk : k < n) : isF (FP.Core.decode FP.Core.b64 (FP.i2d (Int32.ofNat k)).toNat) = true := by
  induction n with
  | zero => omega
  | succ n ih =>
    unfold isFs at h
    rw [Bool.and_eq_true] at h
    by_cases e : k = n
    · subst e; exact h.2
    · exact ih h.1 (by omega)
theorem isFNs_of {k n : Nat} (h : isFNs n = true) (hk : k < n) : isFN (FP.Core.decode FP.Core.b64 (FP.i2d (Int32.ofNat (k + 1))).toNat) = true := by
  induction n with
  | zero => omega
  | succ n ih =>
    unfold isFNs at h
    rw [Bool.and_eq_true] at h
    by_cases e : k = n
    · subst e; exact h.2
    · exact ih h.1 (by omega)
set_option maxRecDepth 100000 in
theorem isFs_v : isFs 4801 = true := by decide +kernel
set_option maxRecDepth 100000 in
theorem isFNs_v : isFNs 960 = true := by decide +kernel
theorem nI_ofNat (k : Nat) : nI k = Int32.ofNat k := rfl
theorem small_n64 {a b : Nat} (ha : a ≤ 4800) (hb : 1 ≤ b) (hb2 : b ≤ 960) : vf_n64 (FP.ddiv (FP.i2d (nI a)) (FP.i2d (nI b))) := by
  obtain ⟨k, rfl⟩ : ∃ k, b = k + 1 := ⟨b - 1, by omega⟩
  have h := quo_n64 (isFs_of isFs_v (show a < 4801 by omega)) (isFNs_of isFNs_v (show k < 960 by omega))
  exact n64_of h.1 h.2
theorem mEvI_n (s : Nat → Int32) (u : Nat) {a : Nat} {acc : Int32} (h : acc = nI a) : ∀ n, ∃ b, b ≤ a + 20 * n ∧ mEvI s u acc n = nI b := by
  intro n
  induction n with
  | zero => exact ⟨a, by omega, h⟩
  | succ n ih =>
    obtain ⟨b, hb, e⟩ := ih
    unfold mEvI
    rw [e]
    split
    · have := cnt_le (fun k => mHas (mRights s (nI u) n) (nI k)) 20
      exact ⟨b + cnt (fun k => mHas (mRights s (nI u) n) (nI k)) 20, by omega, by unfold mSize; rw [nI_add]⟩
    · exact ⟨b, by omega, by rw [Int32.add_zero]⟩
theorem mEv_n (s : Nat → Int32) : ∀ n, ∃ b, b ≤ 400 * n ∧ mEv s n = nI b := by
  intro n
  induction n with
  | zero => exact ⟨0, by omega, rfl⟩
  | succ n ih =>
    obtain ⟨b, hb, e⟩ := ih
    obtain ⟨c, hc, e2⟩ := mEvI_n s n e 20
    exact ⟨c, by omega, e2⟩
theorem mCount_pos {s : Nat → Int32} (hw : mWf s) : 1 ≤ mCount s := by
  obtain ⟨nu, ng, -, -, -, h0, -⟩ := hw
  have h1 := cnt_mono (f := fun k => decide (k = 0)) (g := fun k => decide (s (mO k 0) = 1)) (n := 20) (fun k _ hk => by
    have : k = 0 := of_decide_eq_true hk
    subst this
    exact decide_eq_true h0)
  have h2 : cnt (fun k => decide (k = 0)) 20 = 1 := by decide
  unfold mCount
  omega
theorem mOpn_n64 {s : Nat → Int32} (hw : mWf s) : vf_n64 (FP.ddiv (FP.i2d (mEv s (mN (s 0)))) (FP.i2d (4 * s 0 * nI (mCount s)))) := by
  obtain ⟨nu, h1, h2, e⟩ := hw.u
  obtain ⟨b, hb, eb⟩ := mEv_n s nu
  have h3 := mCount_pos hw
  have h4 : mCount s ≤ 20 := cnt_le _ _
  rw [e, mN_i (by omega), eb, show (4 : Int32) = nI 4 from rfl, pk_mul, pk_mul]
  have h5 : 4 * nu * mCount s ≤ 48 * 20 := Nat.mul_le_mul (by omega) h4
  have h6 : 1 * 1 ≤ 4 * nu * mCount s := Nat.mul_le_mul (by omega) h3
  exact small_n64 (by omega) (by omega) (by omega)
theorem mqE_t {S : Ms} {o e w : Nat} (b : mEnt (S.1 0) (nI o) (nI e) = true) (ho : o < 20) (he : e < 6) : mq_ofTheEntry S (nI o) (nI e) w = mQ S 0 (S.1 0 (mE o e w)) := by
  unfold mq_ofTheEntry
  rw [if_pos b, mN_i (show o < 2147483648 by omega), mN_i (show e < 2147483648 by omega)]
theorem mqE_l {S : Ms} {o e : Int32} {w : Nat} (h : (mq_ofTheEntry S o e w).2.2.2 1 = 1) : mEnt (S.1 0) o e = false := by
  cases b : mEnt (S.1 0) o e
  · rfl
  · unfold mq_ofTheEntry at h
    rw [if_pos b] at h
    exact absurd ((sV_at S 1 0).symm.trans h) (by decide)
theorem mqE_m {S : Ms} {o e : Int32} {w : Nat} (h : ¬ (mq_ofTheEntry S o e w).2.2.2 1 = 1) : mEnt (S.1 0) o e = true := by
  cases b : mEnt (S.1 0) o e
  · unfold mq_ofTheEntry at h
    rw [if_neg (by rw [b]; decide)] at h
    exact absurd (sV_at S 1 1) h
  · rfl
