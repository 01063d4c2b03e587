/-! what the reference computes, in plain words: on its array s of 765 ints -/
def cnt (f : Nat → Bool) : Nat → Nat
  | 0 => 0
  | n + 1 => cnt f n + (if f n then 1 else 0)
def anyB (f : Nat → Bool) : Nat → Bool
  | 0 => false
  | n + 1 => anyB f n || f n
theorem cnt_le (f : Nat → Bool) (n : Nat) : cnt f n ≤ n := by
  induction n with
  | zero => exact Nat.le_refl 0
  | succ n ih => unfold cnt; split <;> omega
theorem anyB_iff {f : Nat → Bool} {n : Nat} : anyB f n = true ↔ ∃ k, k < n ∧ f k = true := by
  induction n with
  | zero => simp [anyB]
  | succ n ih =>
    simp only [anyB, Bool.or_eq_true, ih]
    constructor
    · rintro (⟨k, h1, h2⟩ | h)
      · exact ⟨k, by omega, h2⟩
      · exact ⟨n, by omega, h⟩
    · rintro ⟨k, h1, h2⟩
      by_cases e : k = n
      · subst e; exact Or.inr h2
      · exact Or.inl ⟨k, by omega, h2⟩
def mHas (s k : Int32) : Bool := decide ((s >>> (k &&& 31)) &&& 1 = 1)
def mSize (set : Int32) : Int32 := nI (cnt (fun k => mHas set (nI k)) 20)
def mOut (s : Nat → Int32) (set : Int32) : Nat → Int32
  | 0 => set
  | n + 1 => if mHas (mOut s set n) (nI n) then mOut s set n ||| s (10 + n) else mOut s set n
def mOutR (s : Nat → Int32) (set : Int32) : Nat → Int32
  | 0 => set
  | r + 1 => mOut s (mOutR s set r) 8
def mOuters (s : Nat → Int32) (g : Nat) : Int32 := mOutR s (s (10 + g)) 8
/-- user u is of group g -/
def mIsOf (s : Nat → Int32) (u : Int32) (g : Nat) (n : Nat) : Bool := mHas (s (2 + g)) u || anyB (fun k => mHas (s (2 + k)) u && mHas (mOuters s k) (nI g)) n
def mHowMany (s : Nat → Int32) (g ng nu : Nat) : Nat := cnt (fun k => mIsOf s (nI k) g ng) nu
def mUser (s : Nat → Int32) (x : Int32) : Bool := decide (0 ≤ x ∧ x ≤ s 0 - 1)
def mGroup (s : Nat → Int32) (x : Int32) : Bool := decide (0 ≤ x ∧ x ≤ s 1 - 1)
def mO (o w : Nat) : Nat := 18 + 36 * o + w
def mE (o e w : Nat) : Nat := 18 + 36 * o + 6 + 5 * e + w
def mObj (s : Nat → Int32) (x : Int32) : Bool := decide (0 ≤ x ∧ x ≤ 19) && decide (s (mO x.toNatClampNeg 0) = 1)
def mEnt (s : Nat → Int32) (x e : Int32) : Bool := mObj s x && decide (0 ≤ e ∧ e ≤ s (mO x.toNatClampNeg 5) - 1)
theorem nle {a b : Nat} (c : nI a ≤ nI b) (ha : a < 2147483648) (hb : b < 2147483648) : a ≤ b := (nI_leI (by omega) (by omega)).mp c
theorem nlt {a b : Nat} (c : nI a < nI b) (ha : a < 2147483648) (hb : b < 2147483648) : a < b := (nI_ltI (by omega) (by omega)).mp c
theorem nnle {a b : Nat} (c : ¬ nI a ≤ nI b) (ha : a < 2147483648) (hb : b < 2147483648) : b < a := Nat.not_le.mp fun q => c ((nI_leI (by omega) (by omega)).mpr q)
theorem nnlt {a b : Nat} (c : ¬ nI a < nI b) (ha : a < 2147483648) (hb : b < 2147483648) : b ≤ a := Nat.not_lt.mp fun q => c ((nI_ltI (by omega) (by omega)).mpr q)
theorem nin {x : Int32} {n : Nat} (h0 : 0 ≤ x) (h1 : x ≤ nI n) (hn : n < 2147483648) : ∃ j : Nat, j ≤ n ∧ x = nI j := nI_of2 (nI_toInt (by omega)) (Int32.not_lt.mpr h0) h1
theorem mE_lt {o e w : Nat} (ho : o < 20) (he : e < 6) (hw : w < 5) : mE o e w < 765 := by unfold mE; omega
theorem mO_lt {o w : Nat} (ho : o < 20) (hw : w < 36) : mO o w < 765 := by unfold mO; omega
theorem mO_i (o w : Nat) : 18 + 36 * nI o + nI w = nI (mO o w) := by
  rw [show (18 : Int32) = nI 18 from rfl, show (36 : Int32) = nI 36 from rfl, pk_mul, nI_add, nI_add]; rfl
theorem mE_i (o e w : Nat) : 18 + 36 * nI o + 6 + 5 * nI e + nI w = nI (mE o e w) := by
  rw [show (18 : Int32) = nI 18 from rfl, show (36 : Int32) = nI 36 from rfl, show (6 : Int32) = nI 6 from rfl, show (5 : Int32) = nI 5 from rfl, pk_mul, pk_mul, nI_add, nI_add, nI_add, nI_add]; rfl
theorem cnt_t {f : Nat → Bool} {n : Nat} (h : f n = true) : nI (cnt f n) + 1 = nI (cnt f (n + 1)) := by rw [nI_1]; simp [cnt, h]
theorem cnt_f {f : Nat → Bool} {n : Nat} (h : f n = false) : nI (cnt f n) + 0 = nI (cnt f (n + 1)) := by simp [cnt, h]
theorem mOut_t {s : Nat → Int32} {set : Int32} {n : Nat} (h : mHas (mOut s set n) (nI n) = true) : mOut s set n ||| s (10 + n) = mOut s set (n + 1) := by simp [mOut, h]
theorem mOut_f {s : Nat → Int32} {set : Int32} {n : Nat} (h : mHas (mOut s set n) (nI n) = false) : mOut s set n ||| 0 = mOut s set (n + 1) := by simp [mOut, h]
theorem bI_n0 {b : Bool} (h : ¬ bI b = 0) : b = true := by cases b <;> first | rfl | exact absurd rfl h
theorem bI_0' {b : Bool} (h : bI b = 0) : b = false := (bI_0 b).mp h
theorem rv0 {b : Bool} (h : b = false) : some (Value.int 0) = some (Value.int (bI b)) := by rw [h]; rfl
theorem rv1 {b : Bool} (h : b = true) : some (Value.int 1) = some (Value.int (bI b)) := by rw [h]; rfl
theorem bI_t {b : Bool} (h : b = true) : bI b = 1 := by rw [h]; rfl
theorem bI_f {b : Bool} (h : b = false) : bI b = 0 := by rw [h]; rfl
theorem mObj_i {s : Nat → Int32} {o : Nat} (h : o < 20) : mObj s (nI o) = decide (s (mO o 0) = 1) := by
  unfold mObj
  rw [nI_clamp (by omega), decide_eq_true (show 0 ≤ nI o ∧ nI o ≤ 19 from ⟨nI_pos' (by omega), nI_le (b := 19) (by omega) (by omega)⟩), Bool.true_and]
theorem mObj_of {s : Nat → Int32} {x : Int32} (h : mObj s x = true) : ∃ o : Nat, o < 20 ∧ x = nI o ∧ s (mO o 0) = 1 := by
  unfold mObj at h
  rw [Bool.and_eq_true, decide_eq_true_eq, decide_eq_true_eq] at h
  obtain ⟨o, ho, rfl⟩ := nin (n := 19) h.1.1 h.1.2 (by decide)
  rw [nI_clamp (by omega)] at h
  exact ⟨o, by omega, rfl, h.2⟩
theorem mIsOf_1 {s : Nat → Int32} {u : Int32} {g n : Nat} (h : mIsOf s u g n = true) : 1 = bI (mIsOf s u g (n + 1)) := by
  rw [bI_t]
  unfold mIsOf at h ⊢
  simp only [anyB]
  rcases Bool.or_eq_true _ _ ▸ h with h | h <;> simp [h]
theorem mIsOf_2 {s : Nat → Int32} {u : Int32} {g n : Nat} (h1 : mHas (s (2 + n)) u = true) (h2 : mHas (mOuters s n) (nI g) = true) : 1 = bI (mIsOf s u g (n + 1)) := by
  rw [bI_t]
  unfold mIsOf
  simp [anyB, h1, h2]
theorem mIsOf_3 {s : Nat → Int32} {u : Int32} {g n : Nat} (h0 : mIsOf s u g n = false) (h1 : mHas (s (2 + n)) u = false) : 0 = bI (mIsOf s u g (n + 1)) := by
  rw [bI_f]
  unfold mIsOf at h0 ⊢
  simp [anyB, h1]
  simpa using h0
theorem mIsOf_4 {s : Nat → Int32} {u : Int32} {g n : Nat} (h0 : mIsOf s u g n = false) (h2 : mHas (mOuters s n) (nI g) = false) : 0 = bI (mIsOf s u g (n + 1)) := by
  rw [bI_f]
  unfold mIsOf at h0 ⊢
  simp [anyB, h2]
  simpa using h0
