/-! THE REFERENCE, printed by m5.py: objects -/
set_option maxHeartbeats 4000000 in
set_option maxRecDepth 100000 in
theorem c_X4_founds {D : Gd} {fr : Nat} {m : Nat} {ad : Nat → Nat} {S : Ms} {h : Hm} (hM : MW m ad S h) (hf : 1 ≤ fr) (o : Nat) (p w : Int32) (ho : o < 20) : MC D fr yX4_founds cX4_founds 5 none m ad h [.int (nI o), .int p, .int w] (none) (sA S 0 (mFounds (S.1 0) o p w)) := by
  refine AM.of (lv := [some (.ref m), some (.int (nI o)), some (.int p), some (.int w), none]) (by decide +kernel) (Nat.le_of_ble_eq_true rfl) rfl (fun z hX hq _ => ?_)
  have hM := hM.rf
  refine aw_iconst (v := 0) hX dX4_founds_0 (by decide) ?_
  refine aw_ist4 hX dX4_founds_1 (by decide) rfl ?_
  refine gdown (N := 36) (P := fun i => ∀ (h9 : Hm), MR m ad (sA S 0 (fill (fun _ => 0) (S.1 0) (mO o 0) i)) h h9 → gW z 3 [some (.ref m), some (.int (nI o)), some (.int p), some (.int w), some (.int (nI i))] [] h9 0 0) (fun i hi ih h9 hM => ?_) 0 (Nat.zero_le _) _ (hM.cg (by rw [fill_0]; exact (sA_self S 0).symm))
  refine aw_ild4 hX dX4_founds_3 ?_
  refine aw_bipush (v := 36) hX dX4_founds_5 (by decide) ?_
  refine aw_icmp_ge hX (tgt := 28) dX4_founds_7 (by decide) (fun c7 => ?_) (fun c7 => ?_)
  · have hi9 : i = 36 := Nat.le_antisymm hi (nle (a := 36) c7 (by omega) (by omega))
    subst hi9
    refine aw_ald0 hX dX4_founds_28 ?_
    refine mm_get hX hM fg_X4_7 rfl dX4_founds_29 ?_
    refine aw_ild1 hX dX4_founds_32 ?_
    refine aw_iconst (v := 0) hX dX4_founds_33 (by decide) ?_
    refine ss_call hX lk_X4_50 (c_X4_at (fr := fr - 1) (by omega) _ _) rfl rfl (Nat.le_of_ble_eq_true rfl) (by omega) (by decide) (Nat.le_refl _) (Nat.le_refl _) dX4_founds_34 ?_
    refine aw_iconst (v := 1) hX dX4_founds_37 (by decide) ?_
    refine mm_st hX hM (by decide) (mO o 0) (mO_i o 0) (mO_lt ho (by decide)) dX4_founds_38 (fun hp hM => ?_)
    refine aw_ald0 hX dX4_founds_39 ?_
    refine mm_get hX hM fg_X4_7 rfl dX4_founds_40 ?_
    refine aw_ild1 hX dX4_founds_43 ?_
    refine aw_iconst (v := 1) hX dX4_founds_44 (by decide) ?_
    refine ss_call hX lk_X4_50 (c_X4_at (fr := fr - 1) (by omega) _ _) rfl rfl (Nat.le_of_ble_eq_true rfl) (by omega) (by decide) (Nat.le_refl _) (Nat.le_refl _) dX4_founds_45 ?_
    refine aw_ild2 hX dX4_founds_48 ?_
    refine mm_st hX hM (by decide) (mO o 1) (mO_i o 1) (mO_lt ho (by decide)) dX4_founds_49 (fun hp hM => ?_)
    refine aw_ald0 hX dX4_founds_50 ?_
    refine mm_get hX hM fg_X4_7 rfl dX4_founds_51 ?_
    refine aw_ild1 hX dX4_founds_54 ?_
    refine aw_iconst (v := 2) hX dX4_founds_55 (by decide) ?_
    refine ss_call hX lk_X4_50 (c_X4_at (fr := fr - 1) (by omega) _ _) rfl rfl (Nat.le_of_ble_eq_true rfl) (by omega) (by decide) (Nat.le_refl _) (Nat.le_refl _) dX4_founds_56 ?_
    refine aw_ild3 hX dX4_founds_59 ?_
    refine mm_st hX hM (by decide) (mO o 2) (mO_i o 2) (mO_lt ho (by decide)) dX4_founds_60 (fun hp hM => ?_)
    refine aw_ald0 hX dX4_founds_61 ?_
    refine mm_get hX hM fg_X4_7 rfl dX4_founds_62 ?_
    refine aw_ild1 hX dX4_founds_65 ?_
    refine aw_iconst (v := 3) hX dX4_founds_66 (by decide) ?_
    refine ss_call hX lk_X4_50 (c_X4_at (fr := fr - 1) (by omega) _ _) rfl rfl (Nat.le_of_ble_eq_true rfl) (by omega) (by decide) (Nat.le_refl _) (Nat.le_refl _) dX4_founds_67 ?_
    refine aw_bipush (v := 15) hX dX4_founds_70 (by decide) ?_
    refine mm_st hX hM (by decide) (mO o 3) (mO_i o 3) (mO_lt ho (by decide)) dX4_founds_72 (fun hp hM => ?_)
    refine aw_ald0 hX dX4_founds_73 ?_
    refine mm_get hX hM fg_X4_7 rfl dX4_founds_74 ?_
    refine aw_ild1 hX dX4_founds_77 ?_
    refine aw_iconst (v := 4) hX dX4_founds_78 (by decide) ?_
    refine ss_call hX lk_X4_50 (c_X4_at (fr := fr - 1) (by omega) _ _) rfl rfl (Nat.le_of_ble_eq_true rfl) (by omega) (by decide) (Nat.le_refl _) (Nat.le_refl _) dX4_founds_79 ?_
    refine aw_iconst (v := 1) hX dX4_founds_82 (by decide) ?_
    refine mm_st hX hM (by decide) (mO o 4) (mO_i o 4) (mO_lt ho (by decide)) dX4_founds_83 (fun hp hM => ?_)
    refine aw_vret hX (Nat.le_refl _) (Nat.le_refl _) dX4_founds_84 (hq _ _ ?_)
    exact ⟨rfl, hM.cg (by simp only [sA_sA, sA_at]; rfl)⟩
  · have hlt := nnle (a := 36) c7 (by omega) (by omega)
    refine aw_ald0 hX dX4_founds_10 ?_
    refine mm_get hX hM fg_X4_7 rfl dX4_founds_11 ?_
    refine aw_ild1 hX dX4_founds_14 ?_
    refine aw_ild4 hX dX4_founds_15 ?_
    refine ss_call hX lk_X4_50 (c_X4_at (fr := fr - 1) (by omega) _ _) rfl rfl (Nat.le_of_ble_eq_true rfl) (by omega) (by decide) (Nat.le_refl _) (Nat.le_refl _) dX4_founds_17 ?_
    refine aw_iconst (v := 0) hX dX4_founds_20 (by decide) ?_
    refine mm_st hX hM (by decide) (mO o i) (mO_i o i) (mO_lt ho (by omega)) dX4_founds_21 (fun hp hM => ?_)
    refine aw_inc4 hX dX4_founds_22 (by decide) rfl ?_
    refine aw_goto hX (tgt := 3) dX4_founds_25 (by decide) ?_
    exact ih hlt _ (hM.cg (by rw [sA_sA, sA_at, show mO o i = mO o 0 + i from by unfold mO; omega]; exact congrArg (sA S 0) (fill_s (fun _ => 0) (S.1 0) (mO o 0) i)))
set_option maxHeartbeats 4000000 in
set_option maxRecDepth 100000 in
theorem c_X4_howManyObjects {D : Gd} {fr : Nat} {m : Nat} {ad : Nat → Nat} {S : Ms} {h : Hm} (hM : MW m ad S h) (hf : 2 ≤ fr) (hth : ∀ o, o < 20 → S.1 0 (mO o 0) = 0 ∨ S.1 0 (mO o 0) = 1) : MC D fr yX4_howManyObjects cX4_howManyObjects 3 (some .int) m ad h [] (some (.int (nI (mCount (S.1 0))))) (S) := by
  refine AM.of (lv := [some (.ref m), none, none]) (by decide +kernel) (Nat.le_of_ble_eq_true rfl) rfl (fun z hX hq _ => ?_)
  have hM := hM.rf
  refine aw_iconst (v := 0) hX dX4_howManyObjects_0 (by decide) ?_
  refine aw_ist1 hX dX4_howManyObjects_1 (by decide) rfl ?_
  refine aw_iconst (v := 0) hX dX4_howManyObjects_2 (by decide) ?_
  refine aw_ist2 hX dX4_howManyObjects_3 (by decide) rfl ?_
  refine gdown (N := 20) (P := fun i => ∀ (h9 : Hm), MR m ad S h h9 → gW z 4 [some (.ref m), some (.int (nI (cnt (fun k => decide (S.1 0 (mO k 0) = 1)) i))), some (.int (nI i))] [] h9 0 0) (fun i hi ih h9 hM => ?_) 0 (Nat.zero_le _) _ hM
  refine aw_ild2 hX dX4_howManyObjects_4 ?_
  refine aw_bipush (v := 20) hX dX4_howManyObjects_5 (by decide) ?_
  refine aw_icmp_ge hX (tgt := 25) dX4_howManyObjects_7 (by decide) (fun c7 => ?_) (fun c7 => ?_)
  · refine aw_ild1 hX dX4_howManyObjects_25 ?_
    refine aw_iret hX (Nat.le_refl _) (Nat.le_refl _) dX4_howManyObjects_26 (hq _ _ ?_)
    have hi9 : i = 20 := Nat.le_antisymm hi (nle (a := 20) c7 (by omega) (by omega))
    subst hi9
    exact ⟨rfl, hM⟩
  · have hlt := nnle (a := 20) c7 (by omega) (by omega)
    refine aw_ild1 hX dX4_howManyObjects_10 ?_
    refine aw_ald0 hX dX4_howManyObjects_11 ?_
    refine aw_ild2 hX dX4_howManyObjects_12 ?_
    refine aw_iconst (v := 0) hX dX4_howManyObjects_13 (by decide) ?_
    refine mm_call hX hM lk_X4_54 rfl (c_X4_of (fr := fr - 1) hM.1 (by omega) i 0 hlt (by decide)) rfl rfl (Nat.le_of_ble_eq_true rfl) (by omega) (by decide) (Nat.le_refl _) (Nat.le_refl _) dX4_howManyObjects_14 (fun hp hM => ?_)
    refine aw_iadd hX dX4_howManyObjects_17 ?_
    refine aw_ist1 hX dX4_howManyObjects_18 (by decide) rfl ?_
    refine aw_inc2 hX dX4_howManyObjects_19 (by decide) rfl ?_
    refine aw_goto hX (tgt := 4) dX4_howManyObjects_22 (by decide) ?_
    refine gW.to rfl ?_ rfl rfl (ih hlt _ hM)
    rcases hth i hlt with e | e
    · rw [e, ← cnt_f (f := fun k => decide (S.1 0 (mO k 0) = 1)) (by rw [e]; rfl)]
    · rw [e, ← cnt_t (f := fun k => decide (S.1 0 (mO k 0) = 1)) (by rw [e]; rfl)]
set_option maxHeartbeats 4000000 in
set_option maxRecDepth 100000 in
theorem c_X4_isBelow {D : Gd} {fr : Nat} {m : Nat} {ad : Nat → Nat} {S : Ms} {h : Hm} (hM : MW m ad S h) (hf : 2 ≤ fr) (rk : Nat → Nat) (hrk : ∀ o, rk o ≤ 20) (hob : ∀ o, o < 20 → S.1 0 (mO o 0) = 1 → mObW (S.1 0) rk o) (a b : Nat) (ha : a < 20) (ha1 : S.1 0 (mO a 0) = 1) (hb : b < 20) : MC D fr yX4_isBelow cX4_isBelow 4 (some .boolean) m ad h [.int (nI a), .int (nI b)] (some (.int (bI (mBelow (S.1 0) a b)))) (S) := by
  refine AM.of (lv := [some (.ref m), some (.int (nI a)), some (.int (nI b)), none]) (by decide +kernel) (Nat.le_of_ble_eq_true rfl) rfl (fun z hX hq _ => ?_)
  have hM := hM.rf
  refine aw_ald0 hX dX4_isBelow_0 ?_
  refine aw_ild1 hX dX4_isBelow_1 ?_
  refine aw_iconst (v := 1) hX dX4_isBelow_2 (by decide) ?_
  refine mm_call hX hM lk_X4_54 rfl (c_X4_of (fr := fr - 1) hM.1 (by omega) a 1 ha (by decide)) rfl rfl (Nat.le_of_ble_eq_true rfl) (by omega) (by decide) (Nat.le_refl _) (Nat.le_refl _) dX4_isBelow_3 (fun hp hM => ?_)
  refine aw_ist3 hX dX4_isBelow_6 (by decide) rfl ?_
  refine (Nat.strongRecOn (motive := fun f => ∀ (x : Int32) (h9 : Hm), (x = -1 ∨ ∃ q, q < 20 ∧ x = nI q ∧ S.1 0 (mO q 0) = 1 ∧ rk q < f) → mBelF (S.1 0) b (f + 1) x = mBelow (S.1 0) a b → MR m ad S h h9 → gW z 7 [some (.ref m), some (.int (nI a)), some (.int (nI b)), some (.int x)] [] h9 0 0) 21 (fun f ih x h9 hx he hM => ?_)) _ _ ?_ rfl hM
  rotate_left
  · rcases (hob a ha ha1).1 with ⟨-, e⟩ | ⟨-, q2, e1, e2, e3, e4⟩
    · exact Or.inl e
    · exact Or.inr ⟨q2, e1, e2, e3, by have := hrk a; omega⟩
  refine aw_ild3 hX dX4_isBelow_7 ?_
  refine aw_if_lt hX (tgt := 26) dX4_isBelow_8 (by decide) (fun c8 => ?_) (fun c8 => ?_)
  · refine aw_ild3 hX dX4_isBelow_26 ?_
    refine aw_ild2 hX dX4_isBelow_27 ?_
    refine aw_icmp_ne hX (tgt := 35) dX4_isBelow_28 (by decide) (fun c28 => ?_) (fun c28 => ?_)
    · refine aw_iconst (v := 0) hX dX4_isBelow_35 (by decide) ?_
      refine aw_zret hX (by first | rfl | exact bI_n _ | (split <;> rfl)) (Nat.le_refl _) (Nat.le_refl _) dX4_isBelow_36 (hq _ _ ?_)
      first
        | (rw [mBelF_1 c8] at he; exact ⟨rv0 he.symm, hM⟩)
        | (rw [mBelF_1 c8] at he; exact absurd c28 (fun e => by rw [e] at c8; exact nI_pos (by omega) c8))
        | (rw [mBelF_2 c8 c13] at he; exact ⟨rv1 he.symm, hM⟩)
        | exact absurd c13 c28
    · refine aw_iconst (v := 1) hX dX4_isBelow_31 (by decide) ?_
      refine aw_goto hX (tgt := 36) dX4_isBelow_32 (by decide) ?_
      refine aw_zret hX (by first | rfl | exact bI_n _ | (split <;> rfl)) (Nat.le_refl _) (Nat.le_refl _) dX4_isBelow_36 (hq _ _ ?_)
      first
        | (rw [mBelF_1 c8] at he; exact ⟨rv0 he.symm, hM⟩)
        | (rw [mBelF_1 c8] at he; exact absurd c28 (fun e => by rw [e] at c8; exact nI_pos (by omega) c8))
        | (rw [mBelF_2 c8 c13] at he; exact ⟨rv1 he.symm, hM⟩)
        | exact absurd c13 c28
  · obtain ⟨q, hq20, rfl, hq1, hq2⟩ : ∃ q, q < 20 ∧ x = nI q ∧ S.1 0 (mO q 0) = 1 ∧ rk q < f := hx.resolve_left (fun e => c8 (by rw [e]; exact neg1_lt))
    refine aw_ild3 hX dX4_isBelow_11 ?_
    refine aw_ild2 hX dX4_isBelow_12 ?_
    refine aw_icmp_eq hX (tgt := 26) dX4_isBelow_13 (by decide) (fun c13 => ?_) (fun c13 => ?_)
    · refine aw_ild3 hX dX4_isBelow_26 ?_
      refine aw_ild2 hX dX4_isBelow_27 ?_
      refine aw_icmp_ne hX (tgt := 35) dX4_isBelow_28 (by decide) (fun c28 => ?_) (fun c28 => ?_)
      · refine aw_iconst (v := 0) hX dX4_isBelow_35 (by decide) ?_
        refine aw_zret hX (by first | rfl | exact bI_n _ | (split <;> rfl)) (Nat.le_refl _) (Nat.le_refl _) dX4_isBelow_36 (hq _ _ ?_)
        first
          | (rw [mBelF_1 c8] at he; exact ⟨rv0 he.symm, hM⟩)
          | (rw [mBelF_1 c8] at he; exact absurd c28 (fun e => by rw [e] at c8; exact nI_pos (by omega) c8))
          | (rw [mBelF_2 c8 c13] at he; exact ⟨rv1 he.symm, hM⟩)
          | exact absurd c13 c28
      · refine aw_iconst (v := 1) hX dX4_isBelow_31 (by decide) ?_
        refine aw_goto hX (tgt := 36) dX4_isBelow_32 (by decide) ?_
        refine aw_zret hX (by first | rfl | exact bI_n _ | (split <;> rfl)) (Nat.le_refl _) (Nat.le_refl _) dX4_isBelow_36 (hq _ _ ?_)
        first
          | (rw [mBelF_1 c8] at he; exact ⟨rv0 he.symm, hM⟩)
          | (rw [mBelF_1 c8] at he; exact absurd c28 (fun e => by rw [e] at c8; exact nI_pos (by omega) c8))
          | (rw [mBelF_2 c8 c13] at he; exact ⟨rv1 he.symm, hM⟩)
          | exact absurd c13 c28
    · refine aw_ald0 hX dX4_isBelow_16 ?_
      refine aw_ild3 hX dX4_isBelow_17 ?_
      refine aw_iconst (v := 1) hX dX4_isBelow_18 (by decide) ?_
      refine mm_call hX hM lk_X4_54 rfl (c_X4_of (fr := fr - 1) hM.1 (by omega) q 1 hq20 (by decide)) rfl rfl (Nat.le_of_ble_eq_true rfl) (by omega) (by decide) (Nat.le_refl _) (Nat.le_refl _) dX4_isBelow_19 (fun hp hM => ?_)
      refine aw_ist3 hX dX4_isBelow_22 (by decide) rfl ?_
      refine aw_goto hX (tgt := 7) dX4_isBelow_23 (by decide) ?_
      obtain ⟨q', h6⟩ : ∃ f', f = f' + 1 := ⟨f - 1, by omega⟩
      subst h6
      rw [mBelF_3 hq20 c13] at he
      refine ih q' (by omega) _ _ ?_ he hM
      rcases (hob q hq20 hq1).1 with ⟨-, e⟩ | ⟨-, q2, e1, e2, e3, e4⟩
      · exact Or.inl e
      · exact Or.inr ⟨q2, e1, e2, e3, by omega⟩
set_option maxHeartbeats 4000000 in
set_option maxRecDepth 100000 in
theorem c_X4_belows {D : Gd} {fr : Nat} {m : Nat} {ad : Nat → Nat} {S : Ms} {h : Hm} (hM : MW m ad S h) (hf : 3 ≤ fr) (rk : Nat → Nat) (hrk : ∀ o, rk o ≤ 20) (hob : ∀ o, o < 20 → S.1 0 (mO o 0) = 1 → mObW (S.1 0) rk o) (b : Nat) (hb : b < 20) : MC D fr yX4_belows cX4_belows 4 (some .int) m ad h [.int (nI b)] (some (.int (nI (mBelows (S.1 0) b)))) (S) := by
  refine AM.of (lv := [some (.ref m), some (.int (nI b)), none, none]) (by decide +kernel) (Nat.le_of_ble_eq_true rfl) rfl (fun z hX hq _ => ?_)
  have hM := hM.rf
  refine aw_iconst (v := 0) hX dX4_belows_0 (by decide) ?_
  refine aw_ist2 hX dX4_belows_1 (by decide) rfl ?_
  refine aw_iconst (v := 0) hX dX4_belows_2 (by decide) ?_
  refine aw_ist3 hX dX4_belows_3 (by decide) rfl ?_
  refine gdown (N := 20) (P := fun i => ∀ (h9 : Hm), MR m ad S h h9 → gW z 4 [some (.ref m), some (.int (nI b)), some (.int (nI (cnt (fun k => mObj (S.1 0) (nI k) && mBelow (S.1 0) k b) i))), some (.int (nI i))] [] h9 0 0) (fun i hi ih h9 hM => ?_) 0 (Nat.zero_le _) _ hM
  refine aw_ild3 hX dX4_belows_4 ?_
  refine aw_bipush (v := 20) hX dX4_belows_5 (by decide) ?_
  refine aw_icmp_ge hX (tgt := 41) dX4_belows_7 (by decide) (fun c7 => ?_) (fun c7 => ?_)
  · refine aw_ild2 hX dX4_belows_41 ?_
    refine aw_iret hX (Nat.le_refl _) (Nat.le_refl _) dX4_belows_42 (hq _ _ ?_)
    have hi9 : i = 20 := Nat.le_antisymm hi (nle (a := 20) c7 (by omega) (by omega))
    subst hi9
    exact ⟨rfl, hM⟩
  · have hlt := nnle (a := 20) c7 (by omega) (by omega)
    refine aw_ild2 hX dX4_belows_10 ?_
    refine aw_ald0 hX dX4_belows_11 ?_
    refine aw_ild3 hX dX4_belows_12 ?_
    refine mm_call hX hM lk_X4_57 rfl (c_X4_isObject (fr := fr - 1) hM.1 (by omega) _) rfl rfl (Nat.le_of_ble_eq_true rfl) (by omega) (by decide) (Nat.le_refl _) (Nat.le_refl _) dX4_belows_13 (fun hp hM => ?_)
    refine aw_if_eq hX (tgt := 32) dX4_belows_16 (by decide) (fun c16 => ?_) (fun c16 => ?_)
    · have b16 := bI_0' c16
      refine aw_iconst (v := 0) hX dX4_belows_32 (by decide) ?_
      refine aw_iadd hX dX4_belows_33 ?_
      refine aw_ist2 hX dX4_belows_34 (by decide) rfl ?_
      refine aw_inc3 hX dX4_belows_35 (by decide) rfl ?_
      refine aw_goto hX (tgt := 4) dX4_belows_38 (by decide) ?_
      refine gW.to rfl ?_ rfl rfl (ih hlt _ hM)
      first | rw [← cnt_t (f := fun k => mObj (S.1 0) (nI k) && mBelow (S.1 0) k b) (show (mObj (S.1 0) (nI i) && mBelow (S.1 0) i b) = _ by rw [b16, b25]; rfl)] | rw [← cnt_f (f := fun k => mObj (S.1 0) (nI k) && mBelow (S.1 0) k b) (show (mObj (S.1 0) (nI i) && mBelow (S.1 0) i b) = _ by rw [b16, b25]; rfl)] | rw [← cnt_f (f := fun k => mObj (S.1 0) (nI k) && mBelow (S.1 0) k b) (show (mObj (S.1 0) (nI i) && mBelow (S.1 0) i b) = _ by rw [b16]; rfl)]
    · have b16 := bI_n0 c16
      refine aw_ald0 hX dX4_belows_19 ?_
      refine aw_ild3 hX dX4_belows_20 ?_
      refine aw_ild1 hX dX4_belows_21 ?_
      refine mm_call hX hM lk_X4_91 rfl (c_X4_isBelow (fr := fr - 1) hM.1 (by omega) rk hrk hob i b hlt (by rw [mObj_i hlt] at b16; exact of_decide_eq_true b16) hb) rfl rfl (Nat.le_of_ble_eq_true rfl) (by omega) (by decide) (Nat.le_refl _) (Nat.le_refl _) dX4_belows_22 (fun hp hM => ?_)
      refine aw_if_eq hX (tgt := 32) dX4_belows_25 (by decide) (fun c25 => ?_) (fun c25 => ?_)
      · have b25 := bI_0' c25
        refine aw_iconst (v := 0) hX dX4_belows_32 (by decide) ?_
        refine aw_iadd hX dX4_belows_33 ?_
        refine aw_ist2 hX dX4_belows_34 (by decide) rfl ?_
        refine aw_inc3 hX dX4_belows_35 (by decide) rfl ?_
        refine aw_goto hX (tgt := 4) dX4_belows_38 (by decide) ?_
        refine gW.to rfl ?_ rfl rfl (ih hlt _ hM)
        first | rw [← cnt_t (f := fun k => mObj (S.1 0) (nI k) && mBelow (S.1 0) k b) (show (mObj (S.1 0) (nI i) && mBelow (S.1 0) i b) = _ by rw [b16, b25]; rfl)] | rw [← cnt_f (f := fun k => mObj (S.1 0) (nI k) && mBelow (S.1 0) k b) (show (mObj (S.1 0) (nI i) && mBelow (S.1 0) i b) = _ by rw [b16, b25]; rfl)] | rw [← cnt_f (f := fun k => mObj (S.1 0) (nI k) && mBelow (S.1 0) k b) (show (mObj (S.1 0) (nI i) && mBelow (S.1 0) i b) = _ by rw [b16]; rfl)]
      · have b25 := bI_n0 c25
        refine aw_iconst (v := 1) hX dX4_belows_28 (by decide) ?_
        refine aw_goto hX (tgt := 33) dX4_belows_29 (by decide) ?_
        refine aw_iadd hX dX4_belows_33 ?_
        refine aw_ist2 hX dX4_belows_34 (by decide) rfl ?_
        refine aw_inc3 hX dX4_belows_35 (by decide) rfl ?_
        refine aw_goto hX (tgt := 4) dX4_belows_38 (by decide) ?_
        refine gW.to rfl ?_ rfl rfl (ih hlt _ hM)
        first | rw [← cnt_t (f := fun k => mObj (S.1 0) (nI k) && mBelow (S.1 0) k b) (show (mObj (S.1 0) (nI i) && mBelow (S.1 0) i b) = _ by rw [b16, b25]; rfl)] | rw [← cnt_f (f := fun k => mObj (S.1 0) (nI k) && mBelow (S.1 0) k b) (show (mObj (S.1 0) (nI i) && mBelow (S.1 0) i b) = _ by rw [b16, b25]; rfl)] | rw [← cnt_f (f := fun k => mObj (S.1 0) (nI k) && mBelow (S.1 0) k b) (show (mObj (S.1 0) (nI i) && mBelow (S.1 0) i b) = _ by rw [b16]; rfl)]
