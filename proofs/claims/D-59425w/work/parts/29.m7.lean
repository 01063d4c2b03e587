/-! THE REFERENCE, printed by m7.py: entries -/
set_option maxHeartbeats 4000000 in
set_option maxRecDepth 100000 in
theorem c_X4_takesOut {D : Gd} {fr : Nat} {m : Nat} {ad : Nat → Nat} {S : Ms} {h : Hm} (hM : MW m ad S h) (hf : 2 ≤ fr) (o e c : Nat) (ho : o < 20) (he : e < c) (hc : c ≤ 6) (ec : S.1 0 (mO o 5) = nI c) : MC D fr yX4_takesOut cX4_takesOut 4 none m ad h [.int (nI o), .int (nI e)] (none) (sA S 0 (mTake (S.1 0) o e c)) := by
  refine AM.of (lv := [some (.ref m), some (.int (nI o)), some (.int (nI e)), none]) (by decide +kernel) (Nat.le_of_ble_eq_true rfl) rfl (fun z hX hq _ => ?_)
  have hM := hM.rf
  refine aw_ald0 hX dX4_takesOut_0 ?_
  refine mm_get hX hM fg_X4_7 rfl dX4_takesOut_1 ?_
  refine aw_ild1 hX dX4_takesOut_4 ?_
  refine aw_iconst (v := 5) hX dX4_takesOut_5 (by decide) ?_
  refine ss_call hX lk_X4_50 (c_X4_at (fr := fr - 1) (by omega) _ _) rfl rfl (Nat.le_of_ble_eq_true rfl) (by omega) (by decide) (Nat.le_refl _) (Nat.le_refl _) dX4_takesOut_6 ?_
  refine aw_dup2 hX dX4_takesOut_9 rfl rfl ?_
  refine mm_ld hX hM (by decide) (mO o 5) (mO_i o 5) (mO_lt ho (by decide)) dX4_takesOut_10 ?_
  refine aw_iconst (v := 1) hX dX4_takesOut_11 (by decide) ?_
  refine aw_isub hX dX4_takesOut_12 ?_
  refine mm_st hX hM (by decide) (mO o 5) (mO_i o 5) (mO_lt ho (by decide)) dX4_takesOut_13 (fun hp hM => ?_)
  refine aw_ild1 hX dX4_takesOut_14 ?_
  refine aw_ild2 hX dX4_takesOut_15 ?_
  refine aw_iconst (v := 0) hX dX4_takesOut_16 (by decide) ?_
  refine ss_call hX lk_X4_61 (c_X4_entryAt (fr := fr - 1) (by omega) _ _ _) rfl rfl (Nat.le_of_ble_eq_true rfl) (by omega) (by decide) (Nat.le_refl _) (Nat.le_refl _) dX4_takesOut_17 ?_
  refine aw_ist3 hX dX4_takesOut_20 (by decide) rfl ?_
  rw [show 18 + 36 * nI o + 6 + 5 * nI e + 0 = nI (mE o e 0) from mE_i o e 0]
  refine gdown (N := 5 * (c - 1 - e)) (P := fun i => ∀ (h9 : Hm), MR m ad (sA S 0 (fill (fun i => S.1 0 (mE o e 0 + 5 + i)) (upd (S.1 0) (mO o 5) (S.1 0 (mO o 5) - 1)) (mE o e 0) i)) h h9 → gW z 21 [some (.ref m), some (.int (nI o)), some (.int (nI e)), some (.int (nI (mE o e 0 + i)))] [] h9 0 0) (fun i hi ih h9 hM => ?_) 0 (Nat.zero_le _) _ (hM.cg (by rw [fill_0]))
  refine aw_ild3 hX dX4_takesOut_21 ?_
  refine aw_ild1 hX dX4_takesOut_22 ?_
  refine aw_ald0 hX dX4_takesOut_23 ?_
  refine aw_ild1 hX dX4_takesOut_24 ?_
  refine aw_iconst (v := 5) hX dX4_takesOut_25 (by decide) ?_
  refine mm_call hX hM lk_X4_54 rfl (c_X4_of (fr := fr - 1) hM.1 (by omega) o 5 ho (by decide)) rfl rfl (Nat.le_of_ble_eq_true rfl) (by omega) (by decide) (Nat.le_refl _) (Nat.le_refl _) dX4_takesOut_26 (fun hp hM => ?_)
  refine aw_iconst (v := 0) hX dX4_takesOut_29 (by decide) ?_
  refine ss_call hX lk_X4_61 (c_X4_entryAt (fr := fr - 1) (by omega) _ _ _) rfl rfl (Nat.le_of_ble_eq_true rfl) (by omega) (by decide) (Nat.le_refl _) (Nat.le_refl _) dX4_takesOut_30 ?_
  have hcc : (sA S 0 (fill (fun i => S.1 0 (mE o e 0 + 5 + i)) (upd (S.1 0) (mO o 5) (S.1 0 (mO o 5) - 1)) (mE o e 0) i)).1 0 (mO o 5) = nI (c - 1) := by rw [sA_at, fill_out (by unfold mE mO; omega), pk_us, ec]; exact sub_1 (by omega)
  rw [hcc, show 18 + 36 * nI o + 6 + 5 * nI (c - 1) + 0 = nI (mE o (c - 1) 0) from mE_i o (c - 1) 0]
  refine aw_icmp_ge hX (tgt := 56) dX4_takesOut_33 (by decide) (fun c33 => ?_) (fun c33 => ?_)
  · refine aw_vret hX (Nat.le_refl _) (Nat.le_refl _) dX4_takesOut_56 (hq _ _ ?_)
    have hi9 : i = 5 * (c - 1 - e) := by
      have := nle c33 (by unfold mE; omega) (by unfold mE; omega)
      unfold mE at this; omega
    subst hi9
    exact ⟨rfl, hM⟩
  · have hlt : i < 5 * (c - 1 - e) := by
      have := nnle c33 (by unfold mE; omega) (by unfold mE; omega)
      unfold mE at this; omega
    refine aw_ald0 hX dX4_takesOut_36 ?_
    refine mm_get hX hM fg_X4_7 rfl dX4_takesOut_37 ?_
    refine aw_ild3 hX dX4_takesOut_40 ?_
    refine aw_ald0 hX dX4_takesOut_41 ?_
    refine mm_get hX hM fg_X4_7 rfl dX4_takesOut_42 ?_
    refine aw_ild3 hX dX4_takesOut_45 ?_
    refine aw_iconst (v := 5) hX dX4_takesOut_46 (by decide) ?_
    refine aw_iadd hX dX4_takesOut_47 ?_
    refine mm_ld hX hM (by decide) (mE o e 0 + i + 5) (nI_add _ 5) (by simp only [mLen]; unfold mE; omega) dX4_takesOut_48 ?_
    refine mm_st hX hM (by decide) (mE o e 0 + i) (rfl) (by simp only [mLen]; unfold mE; omega) dX4_takesOut_49 (fun hp hM => ?_)
    refine aw_inc3 hX dX4_takesOut_50 (by decide) rfl ?_
    refine aw_goto hX (tgt := 21) dX4_takesOut_53 (by decide) ?_
    exact ih hlt _ (hM.cg (mTake_st S o e c i _ rfl))
set_option maxHeartbeats 4000000 in
set_option maxRecDepth 100000 in
theorem c_X4_opens {D : Gd} {fr : Nat} {m : Nat} {ad : Nat → Nat} {S : Ms} {h : Hm} (hM : MW m ad S h) (hf : 2 ≤ fr) (o e c : Nat) (ho : o < 20) (he : e ≤ c) (hc : c ≤ 5) (ec : S.1 0 (mO o 5) = nI c) : MC D fr yX4_opens cX4_opens 4 none m ad h [.int (nI o), .int (nI e)] (none) (sA S 0 (mOpen (S.1 0) o e c)) := by
  refine AM.of (lv := [some (.ref m), some (.int (nI o)), some (.int (nI e)), none]) (by decide +kernel) (Nat.le_of_ble_eq_true rfl) rfl (fun z hX hq _ => ?_)
  have hM := hM.rf
  refine aw_ild1 hX dX4_opens_0 ?_
  refine aw_ald0 hX dX4_opens_1 ?_
  refine aw_ild1 hX dX4_opens_2 ?_
  refine aw_iconst (v := 5) hX dX4_opens_3 (by decide) ?_
  refine mm_call hX hM lk_X4_54 rfl (c_X4_of (fr := fr - 1) hM.1 (by omega) o 5 ho (by decide)) rfl rfl (Nat.le_of_ble_eq_true rfl) (by omega) (by decide) (Nat.le_refl _) (Nat.le_refl _) dX4_opens_4 (fun hp hM => ?_)
  refine aw_iconst (v := 4) hX dX4_opens_7 (by decide) ?_
  refine ss_call hX lk_X4_61 (c_X4_entryAt (fr := fr - 1) (by omega) _ _ _) rfl rfl (Nat.le_of_ble_eq_true rfl) (by omega) (by decide) (Nat.le_refl _) (Nat.le_refl _) dX4_opens_8 ?_
  refine aw_ist3 hX dX4_opens_11 (by decide) rfl ?_
  rw [show (18 : Int32) + 36 * nI o + 6 + 5 * (S.1 0 (mO o 5)) + 4 = nI (mE o e 0 + 4 + 5 * (c - e)) from by rw [ec, show (4 : Int32) = nI 4 from rfl, mE_i]; exact congrArg nI (by unfold mE; omega)]
  have key : ∀ (J : Nat), J ≤ 5 * (c - e) → ∀ (h9 : Hm), MR m ad (sA S 0 (fill (fun i => S.1 0 (mE o e 0 + J + i)) (S.1 0) (mE o e 0 + 5 + J) (5 * (c - e) - J))) h h9 → gW z 12 [some (.ref m), some (.int (nI o)), some (.int (nI e)), some (.int (nI (mE o e 0 + 4 + J)))] [] h9 0 0 := by
    intro J
    refine Nat.strongRecOn (motive := fun J => J ≤ 5 * (c - e) → ∀ (h9 : Hm), MR m ad (sA S 0 (fill (fun i => S.1 0 (mE o e 0 + J + i)) (S.1 0) (mE o e 0 + 5 + J) (5 * (c - e) - J))) h h9 → gW z 12 [some (.ref m), some (.int (nI o)), some (.int (nI e)), some (.int (nI (mE o e 0 + 4 + J)))] [] h9 0 0) J (fun J ih hJ h9 hM => ?_)
    refine aw_ild3 hX dX4_opens_12 ?_
    refine aw_ild1 hX dX4_opens_13 ?_
    refine aw_ild2 hX dX4_opens_14 ?_
    refine aw_iconst (v := 1) hX dX4_opens_15 (by decide) ?_
    refine aw_iadd hX dX4_opens_16 ?_
    refine aw_iconst (v := 0) hX dX4_opens_17 (by decide) ?_
    refine ss_call hX lk_X4_61 (c_X4_entryAt (fr := fr - 1) (by omega) _ _ _) rfl rfl (Nat.le_of_ble_eq_true rfl) (by omega) (by decide) (Nat.le_refl _) (Nat.le_refl _) dX4_opens_18 ?_
    rw [show (18 : Int32) + 36 * nI o + 6 + 5 * (nI e + 1) + 0 = nI (mE o e 0 + 5) from by rw [nI_1, show (0 : Int32) = nI 0 from rfl, mE_i]; exact congrArg nI (by unfold mE; omega)]
    refine aw_icmp_lt hX (tgt := 44) dX4_opens_21 (by decide) (fun c21 => ?_) (fun c21 => ?_)
    · have hj0 : J = 0 := by
        have := nlt c21 (by unfold mE; omega) (by unfold mE; omega)
        omega
      subst hj0
      refine aw_ald0 hX dX4_opens_44 ?_
      refine mm_get hX hM fg_X4_7 rfl dX4_opens_45 ?_
      refine aw_ild1 hX dX4_opens_48 ?_
      refine aw_iconst (v := 5) hX dX4_opens_49 (by decide) ?_
      refine ss_call hX lk_X4_50 (c_X4_at (fr := fr - 1) (by omega) _ _) rfl rfl (Nat.le_of_ble_eq_true rfl) (by omega) (by decide) (Nat.le_refl _) (Nat.le_refl _) dX4_opens_50 ?_
      refine aw_dup2 hX dX4_opens_53 rfl rfl ?_
      refine mm_ld hX hM (by decide) (mO o 5) (mO_i o 5) (mO_lt ho (by decide)) dX4_opens_54 ?_
      refine aw_iconst (v := 1) hX dX4_opens_55 (by decide) ?_
      refine aw_iadd hX dX4_opens_56 ?_
      refine mm_st hX hM (by decide) (mO o 5) (mO_i o 5) (mO_lt ho (by decide)) dX4_opens_57 (fun hp hM => ?_)
      refine aw_vret hX (Nat.le_refl _) (Nat.le_refl _) dX4_opens_58 (hq _ _ ?_)
      refine ⟨rfl, hM.cg ?_⟩
      rw [sA_sA, sA_at, fill_out (by unfold mE mO; omega)]
      rfl
    · have hj0 : 0 < J := by
        have := nnlt c21 (by unfold mE; omega) (by unfold mE; omega)
        omega
      obtain ⟨j, rfl⟩ : ∃ j, J = j + 1 := ⟨J - 1, by omega⟩
      rw [show mE o e 0 + 4 + (j + 1) = mE o e 0 + 5 + j by omega]
      refine aw_ald0 hX dX4_opens_24 ?_
      refine mm_get hX hM fg_X4_7 rfl dX4_opens_25 ?_
      refine aw_ild3 hX dX4_opens_28 ?_
      refine aw_ald0 hX dX4_opens_29 ?_
      refine mm_get hX hM fg_X4_7 rfl dX4_opens_30 ?_
      refine aw_ild3 hX dX4_opens_33 ?_
      refine aw_iconst (v := 5) hX dX4_opens_34 (by decide) ?_
      refine aw_isub hX dX4_opens_35 ?_
      refine mm_ld hX hM (by decide) (mE o e 0 + j) (by rw [sub_5 (by omega)]; exact congrArg nI (by omega)) (by simp only [mLen]; unfold mE; omega) dX4_opens_36 ?_
      refine mm_st hX hM (by decide) (mE o e 0 + 5 + j) (rfl) (by simp only [mLen]; unfold mE; omega) dX4_opens_37 (fun hp hM => ?_)
      refine aw_iinc3 hX dX4_opens_38 (by decide) rfl ?_
      refine aw_goto hX (tgt := 12) dX4_opens_41 (by decide) ?_
      refine gW.to rfl (by rw [show nI (mE o e 0 + 5 + j) + Int32.ofInt (-1) = nI (mE o e 0 + 4 + j) from by rw [show mE o e 0 + 5 + j = (mE o e 0 + 4 + j) + 1 by omega]; exact pk_m1 _]) rfl rfl (ih j (by omega) (by omega) _ (hM.cg (by rw [sA_sA, sA_at, fill_out (by omega), fill_down (S.1 0) (mE o e 0) j (5 * (c - e)) (by omega)])))
  exact key (5 * (c - e)) (Nat.le_refl _) _ (hM.cg (by rw [Nat.sub_self, fill_0]; exact (sA_self S 0).symm))
set_option maxHeartbeats 4000000 in
set_option maxRecDepth 100000 in
theorem c_X4_writes {D : Gd} {fr : Nat} {m : Nat} {ad : Nat → Nat} {S : Ms} {h : Hm} (hM : MW m ad S h) (hf : 2 ≤ fr) (o e : Nat) (kd w r : Int32) (a b : Bool) (ho : o < 20) (he : e < 6) : MC D fr yX4_writes cX4_writes 8 none m ad h [.int (nI o), .int (nI e), .int kd, .int w, .int r, .int (bI a), .int (bI b)] (none) (sA S 0 (mWr (S.1 0) o e kd w r a b)) := by
  refine AM.of (lv := [some (.ref m), some (.int (nI o)), some (.int (nI e)), some (.int kd), some (.int w), some (.int r), some (.int (bI a)), some (.int (bI b))]) (by decide +kernel) (Nat.le_of_ble_eq_true rfl) rfl (fun z hX hq _ => ?_)
  have hM := hM.rf
  refine aw_ald0 hX dX4_writes_0 ?_
  refine mm_get hX hM fg_X4_7 rfl dX4_writes_1 ?_
  refine aw_ild1 hX dX4_writes_4 ?_
  refine aw_ild2 hX dX4_writes_5 ?_
  refine aw_iconst (v := 0) hX dX4_writes_6 (by decide) ?_
  refine ss_call hX lk_X4_61 (c_X4_entryAt (fr := fr - 1) (by omega) _ _ _) rfl rfl (Nat.le_of_ble_eq_true rfl) (by omega) (by decide) (Nat.le_refl _) (Nat.le_refl _) dX4_writes_7 ?_
  refine aw_ild3 hX dX4_writes_10 ?_
  refine mm_st hX hM (by decide) (mE o e 0) (mE_i o e 0) (mE_lt ho he (by decide)) dX4_writes_11 (fun hp hM => ?_)
  refine aw_ald0 hX dX4_writes_12 ?_
  refine mm_get hX hM fg_X4_7 rfl dX4_writes_13 ?_
  refine aw_ild1 hX dX4_writes_16 ?_
  refine aw_ild2 hX dX4_writes_17 ?_
  refine aw_iconst (v := 1) hX dX4_writes_18 (by decide) ?_
  refine ss_call hX lk_X4_61 (c_X4_entryAt (fr := fr - 1) (by omega) _ _ _) rfl rfl (Nat.le_of_ble_eq_true rfl) (by omega) (by decide) (Nat.le_refl _) (Nat.le_refl _) dX4_writes_19 ?_
  refine aw_ild4 hX dX4_writes_22 ?_
  refine mm_st hX hM (by decide) (mE o e 1) (mE_i o e 1) (mE_lt ho he (by decide)) dX4_writes_24 (fun hp hM => ?_)
  refine aw_ald0 hX dX4_writes_25 ?_
  refine mm_get hX hM fg_X4_7 rfl dX4_writes_26 ?_
  refine aw_ild1 hX dX4_writes_29 ?_
  refine aw_ild2 hX dX4_writes_30 ?_
  refine aw_iconst (v := 2) hX dX4_writes_31 (by decide) ?_
  refine ss_call hX lk_X4_61 (c_X4_entryAt (fr := fr - 1) (by omega) _ _ _) rfl rfl (Nat.le_of_ble_eq_true rfl) (by omega) (by decide) (Nat.le_refl _) (Nat.le_refl _) dX4_writes_32 ?_
  refine aw_ild5 hX dX4_writes_35 ?_
  refine mm_st hX hM (by decide) (mE o e 2) (mE_i o e 2) (mE_lt ho he (by decide)) dX4_writes_37 (fun hp hM => ?_)
  refine aw_ald0 hX dX4_writes_38 ?_
  refine mm_get hX hM fg_X4_7 rfl dX4_writes_39 ?_
  refine aw_ild1 hX dX4_writes_42 ?_
  refine aw_ild2 hX dX4_writes_43 ?_
  refine aw_iconst (v := 3) hX dX4_writes_44 (by decide) ?_
  refine ss_call hX lk_X4_61 (c_X4_entryAt (fr := fr - 1) (by omega) _ _ _) rfl rfl (Nat.le_of_ble_eq_true rfl) (by omega) (by decide) (Nat.le_refl _) (Nat.le_refl _) dX4_writes_45 ?_
  refine aw_ild6 hX dX4_writes_48 ?_
  refine aw_if_eq hX (tgt := 57) dX4_writes_50 (by decide) (fun c50 => ?_) (fun c50 => ?_)
  · have b50 := bI_0' c50
    refine aw_iconst (v := 0) hX dX4_writes_57 (by decide) ?_
    refine mm_st hX hM (by decide) (mE o e 3) (mE_i o e 3) (mE_lt ho he (by decide)) dX4_writes_58 (fun hp hM => ?_)
    refine aw_ald0 hX dX4_writes_59 ?_
    refine mm_get hX hM fg_X4_7 rfl dX4_writes_60 ?_
    refine aw_ild1 hX dX4_writes_63 ?_
    refine aw_ild2 hX dX4_writes_64 ?_
    refine aw_iconst (v := 4) hX dX4_writes_65 (by decide) ?_
    refine ss_call hX lk_X4_61 (c_X4_entryAt (fr := fr - 1) (by omega) _ _ _) rfl rfl (Nat.le_of_ble_eq_true rfl) (by omega) (by decide) (Nat.le_refl _) (Nat.le_refl _) dX4_writes_66 ?_
    refine aw_ild7 hX dX4_writes_69 ?_
    refine aw_if_eq hX (tgt := 78) dX4_writes_71 (by decide) (fun c71 => ?_) (fun c71 => ?_)
    · have b71 := bI_0' c71
      refine aw_iconst (v := 0) hX dX4_writes_78 (by decide) ?_
      refine mm_st hX hM (by decide) (mE o e 4) (mE_i o e 4) (mE_lt ho he (by decide)) dX4_writes_79 (fun hp hM => ?_)
      refine aw_vret hX (Nat.le_refl _) (Nat.le_refl _) dX4_writes_80 (hq _ _ ?_)
      refine ⟨rfl, hM.cg ?_⟩
      subst b50 b71
      simp only [sA_sA, sA_at]
      rfl
    · have b71 := bI_n0 c71
      refine aw_iconst (v := 1) hX dX4_writes_74 (by decide) ?_
      refine aw_goto hX (tgt := 79) dX4_writes_75 (by decide) ?_
      refine mm_st hX hM (by decide) (mE o e 4) (mE_i o e 4) (mE_lt ho he (by decide)) dX4_writes_79 (fun hp hM => ?_)
      refine aw_vret hX (Nat.le_refl _) (Nat.le_refl _) dX4_writes_80 (hq _ _ ?_)
      refine ⟨rfl, hM.cg ?_⟩
      subst b50 b71
      simp only [sA_sA, sA_at]
      rfl
  · have b50 := bI_n0 c50
    refine aw_iconst (v := 1) hX dX4_writes_53 (by decide) ?_
    refine aw_goto hX (tgt := 58) dX4_writes_54 (by decide) ?_
    refine mm_st hX hM (by decide) (mE o e 3) (mE_i o e 3) (mE_lt ho he (by decide)) dX4_writes_58 (fun hp hM => ?_)
    refine aw_ald0 hX dX4_writes_59 ?_
    refine mm_get hX hM fg_X4_7 rfl dX4_writes_60 ?_
    refine aw_ild1 hX dX4_writes_63 ?_
    refine aw_ild2 hX dX4_writes_64 ?_
    refine aw_iconst (v := 4) hX dX4_writes_65 (by decide) ?_
    refine ss_call hX lk_X4_61 (c_X4_entryAt (fr := fr - 1) (by omega) _ _ _) rfl rfl (Nat.le_of_ble_eq_true rfl) (by omega) (by decide) (Nat.le_refl _) (Nat.le_refl _) dX4_writes_66 ?_
    refine aw_ild7 hX dX4_writes_69 ?_
    refine aw_if_eq hX (tgt := 78) dX4_writes_71 (by decide) (fun c71 => ?_) (fun c71 => ?_)
    · have b71 := bI_0' c71
      refine aw_iconst (v := 0) hX dX4_writes_78 (by decide) ?_
      refine mm_st hX hM (by decide) (mE o e 4) (mE_i o e 4) (mE_lt ho he (by decide)) dX4_writes_79 (fun hp hM => ?_)
      refine aw_vret hX (Nat.le_refl _) (Nat.le_refl _) dX4_writes_80 (hq _ _ ?_)
      refine ⟨rfl, hM.cg ?_⟩
      subst b50 b71
      simp only [sA_sA, sA_at]
      rfl
    · have b71 := bI_n0 c71
      refine aw_iconst (v := 1) hX dX4_writes_74 (by decide) ?_
      refine aw_goto hX (tgt := 79) dX4_writes_75 (by decide) ?_
      refine mm_st hX hM (by decide) (mE o e 4) (mE_i o e 4) (mE_lt ho he (by decide)) dX4_writes_79 (fun hp hM => ?_)
      refine aw_vret hX (Nat.le_refl _) (Nat.le_refl _) dX4_writes_80 (hq _ _ ?_)
      refine ⟨rfl, hM.cg ?_⟩
      subst b50 b71
      simp only [sA_sA, sA_at]
      rfl
