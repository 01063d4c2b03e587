/-! THE REFERENCE, printed by m13.py: questions; history; openness; the making -/
set_option maxHeartbeats 4000000 in
set_option maxRecDepth 100000 in
theorem c_X4_whomOf {D : Gd} {fr : Nat} {m : Nat} {ad : Nat → Nat} {S : Ms} {h : Hm} (hM : MW m ad S h) (hf : 5 ≤ fr) (ok : mWf (S.1 0)) (o e kd : Int32) : MC D fr yX4_whomOf cX4_whomOf 5 (some .int) m ad h [.int o, .int e, .int kd] (some (.int (mq_whomOf S o e kd).2.1)) ((mq_whomOf S o e kd).2.2) := by
  refine AM.of (lv := [some (.ref m), some (.int o), some (.int e), some (.int kd), none]) (by decide +kernel) (Nat.le_of_ble_eq_true rfl) rfl (fun z hX hq _ => ?_)
  have hM := hM.rf
  refine aw_ald0 hX dX4_whomOf_0 ?_
  refine aw_ild1 hX dX4_whomOf_1 ?_
  refine aw_ild2 hX dX4_whomOf_2 ?_
  refine aw_iconst (v := 0) hX dX4_whomOf_3 (by decide) ?_
  refine mm_call hX hM lk_X4_215 rfl (c_X4_ofTheEntry (fr := fr - 1) hM.1 (by omega) ok o e 0 (by decide)) rfl rfl (Nat.le_of_ble_eq_true rfl) (by omega) (by decide) (Nat.le_refl _) (Nat.le_refl _) dX4_whomOf_4 (fun hp hM => ?_)
  refine aw_ist4 hX dX4_whomOf_7 (by decide) rfl ?_
  refine aw_ald0 hX dX4_whomOf_9 ?_
  refine mm_get hX hM fg_X4_39 rfl dX4_whomOf_10 ?_
  refine aw_iconst (v := 1) hX dX4_whomOf_13 (by decide) ?_
  refine aw_icmp_ne hX (tgt := 21) dX4_whomOf_14 (by decide) (fun c14 => ?_) (fun c14 => ?_)
  · have b9 := mqE_m c14
    obtain ⟨o, e, ho, rfl, ho1, he, rfl, hec⟩ := mEnt_at ok b9
    have e8 := mqE_t (w := 0) b9 ho he
    have hM := hM.cg (S' := sV S 1 0) (by rw [e8]; rfl)
    rw [show (mq_ofTheEntry S (nI o) (nI e) 0).2.1 = S.1 0 (mE o e 0) from by rw [e8]; rfl]
    refine aw_ild4 hX dX4_whomOf_21 ?_
    refine aw_ild3 hX dX4_whomOf_23 ?_
    refine aw_icmp_ne hX (tgt := 37) dX4_whomOf_24 (by decide) (fun c24 => ?_) (fun c24 => ?_)
    · refine aw_iconst (v := -1) hX dX4_whomOf_37 (by decide) ?_
      refine aw_iret hX (Nat.le_refl _) (Nat.le_refl _) dX4_whomOf_38 (hq _ _ ?_)
      rw [show mq_whomOf S (nI o) (nI e) kd = mQ S 0 (-1) from by unfold mq_whomOf; rw [if_pos b9, mN_i (show o < 2147483648 by omega), mN_i (show e < 2147483648 by omega), if_neg c24]]
      exact ⟨rfl, hM⟩
    · refine aw_ald0 hX dX4_whomOf_27 ?_
      refine aw_ild1 hX dX4_whomOf_28 ?_
      refine aw_ild2 hX dX4_whomOf_29 ?_
      refine aw_iconst (v := 1) hX dX4_whomOf_30 (by decide) ?_
      refine mm_call hX hM lk_X4_122 rfl (c_X4_ofEntry (fr := fr - 1) hM.1 (by omega) o e 1 ho he (by decide)) rfl rfl (Nat.le_of_ble_eq_true rfl) (by omega) (by decide) (Nat.le_refl _) (Nat.le_refl _) dX4_whomOf_31 (fun hp hM => ?_)
      refine aw_goto hX (tgt := 38) dX4_whomOf_34 (by decide) ?_
      refine aw_iret hX (Nat.le_refl _) (Nat.le_refl _) dX4_whomOf_38 (hq _ _ ?_)
      rw [show mq_whomOf S (nI o) (nI e) kd = mQ S 0 (S.1 0 (mE o e 1)) from by unfold mq_whomOf; rw [if_pos b9, mN_i (show o < 2147483648 by omega), mN_i (show e < 2147483648 by omega), if_pos c24]]
      exact ⟨rfl, hM⟩
  · refine aw_iconst (v := 0) hX dX4_whomOf_17 (by decide) ?_
    refine aw_goto hX (tgt := 38) dX4_whomOf_18 (by decide) ?_
    refine aw_iret hX (Nat.le_refl _) (Nat.le_refl _) dX4_whomOf_38 (hq _ _ ?_)
    rw [show mq_whomOf S o e kd = mQ S 1 0 from by unfold mq_whomOf; rw [if_neg (by rw [mqE_l c14]; decide)]]
    exact ⟨rfl, hM.cg (by unfold mq_ofTheEntry; rw [if_neg (by rw [mqE_l c14]; decide)])⟩
set_option maxHeartbeats 4000000 in
set_option maxRecDepth 100000 in
theorem c_X4_userOfEntry {D : Gd} {fr : Nat} {m : Nat} {ad : Nat → Nat} {S : Ms} {h : Hm} (hM : MW m ad S h) (hf : 6 ≤ fr) (ok : mWf (S.1 0)) (o e : Int32) : MC D fr yX4_userOfEntry cX4_userOfEntry 3 (some .int) m ad h [.int o, .int e] (some (.int (mq_whomOf S o e 0).2.1)) ((mq_whomOf S o e 0).2.2) := by
  refine AM.of (lv := [some (.ref m), some (.int o), some (.int e)]) (by decide +kernel) (Nat.le_of_ble_eq_true rfl) rfl (fun z hX hq _ => ?_)
  have hM := hM.rf
  refine aw_ald0 hX dX4_userOfEntry_0 ?_
  refine aw_ild1 hX dX4_userOfEntry_1 ?_
  refine aw_ild2 hX dX4_userOfEntry_2 ?_
  refine aw_iconst (v := 0) hX dX4_userOfEntry_3 (by decide) ?_
  refine mm_call hX hM lk_X4_218 rfl (c_X4_whomOf (fr := fr - 1) hM.1 (by omega) ok o e 0) rfl rfl (Nat.le_of_ble_eq_true rfl) (by omega) (by decide) (Nat.le_refl _) (Nat.le_refl _) dX4_userOfEntry_4 (fun hp hM => ?_)
  refine aw_iret hX (Nat.le_refl _) (Nat.le_refl _) dX4_userOfEntry_7 (hq _ _ ?_)
  exact ⟨rfl, hM⟩
set_option maxHeartbeats 4000000 in
set_option maxRecDepth 100000 in
theorem c_X4_groupOfEntry {D : Gd} {fr : Nat} {m : Nat} {ad : Nat → Nat} {S : Ms} {h : Hm} (hM : MW m ad S h) (hf : 6 ≤ fr) (ok : mWf (S.1 0)) (o e : Int32) : MC D fr yX4_groupOfEntry cX4_groupOfEntry 3 (some .int) m ad h [.int o, .int e] (some (.int (mq_whomOf S o e 1).2.1)) ((mq_whomOf S o e 1).2.2) := by
  refine AM.of (lv := [some (.ref m), some (.int o), some (.int e)]) (by decide +kernel) (Nat.le_of_ble_eq_true rfl) rfl (fun z hX hq _ => ?_)
  have hM := hM.rf
  refine aw_ald0 hX dX4_groupOfEntry_0 ?_
  refine aw_ild1 hX dX4_groupOfEntry_1 ?_
  refine aw_ild2 hX dX4_groupOfEntry_2 ?_
  refine aw_iconst (v := 1) hX dX4_groupOfEntry_3 (by decide) ?_
  refine mm_call hX hM lk_X4_218 rfl (c_X4_whomOf (fr := fr - 1) hM.1 (by omega) ok o e 1) rfl rfl (Nat.le_of_ble_eq_true rfl) (by omega) (by decide) (Nat.le_refl _) (Nat.le_refl _) dX4_groupOfEntry_4 (fun hp hM => ?_)
  refine aw_iret hX (Nat.le_refl _) (Nat.le_refl _) dX4_groupOfEntry_7 (hq _ _ ?_)
  exact ⟨rfl, hM⟩
set_option maxHeartbeats 4000000 in
set_option maxRecDepth 100000 in
theorem c_X4_openness {D : Gd} {fr : Nat} {m : Nat} {ad : Nat → Nat} {S : Ms} {h : Hm} (hM : MW m ad S h) (hf : 9 ≤ fr) (ok : mWf (S.1 0)) : MC D fr yX4_openness cX4_openness 3 (some .double) m ad h [] (some (.double (FP.ddiv (FP.i2d (mEv (S.1 0) (mN (S.1 0 0)))) (FP.i2d (4 * S.1 0 0 * nI (mCount (S.1 0))))))) (sV S 1 0) := by
  refine AM.of (lv := [some (.ref m), none, none]) (by decide +kernel) (Nat.le_of_ble_eq_true rfl) rfl (fun z hX hq _ => ?_)
  have hM := hM.rf
  refine aw_ald0 hX dX4_openness_0 ?_
  refine aw_iconst (v := 0) hX dX4_openness_1 (by decide) ?_
  refine mm_put hX hM 1 fp_X4_39 (by decide) dX4_openness_2 (fun hp hM => ?_)
  refine aw_ald0 hX dX4_openness_5 ?_
  refine mm_call hX hM lk_X4_227 rfl (c_X4_everything (fr := fr - 1) hM.1 (by omega) ok) rfl rfl (Nat.le_of_ble_eq_true rfl) (by omega) (by decide) (Nat.le_refl _) (Nat.le_refl _) dX4_openness_6 (fun hp hM => ?_)
  refine aw_i2d hX dX4_openness_9 ?_
  refine aw_dst1 hX dX4_openness_10 (by decide) rfl ?_
  refine aw_dld1 hX dX4_openness_11 ?_
  refine aw_iconst (v := 4) hX dX4_openness_12 (by decide) ?_
  refine aw_ald0 hX dX4_openness_13 ?_
  refine mm_get hX hM fg_X4_7 rfl dX4_openness_14 ?_
  refine aw_iconst (v := 0) hX dX4_openness_17 (by decide) ?_
  refine mm_ld hX hM (by decide) (0) (rfl) (by decide) dX4_openness_18 ?_
  refine aw_imul hX dX4_openness_19 ?_
  refine aw_ald0 hX dX4_openness_20 ?_
  refine mm_call hX hM lk_X4_94 rfl (c_X4_howManyObjects (fr := fr - 1) hM.1 (by omega) ok.th) rfl rfl (Nat.le_of_ble_eq_true rfl) (by omega) (by decide) (Nat.le_refl _) (Nat.le_refl _) dX4_openness_21 (fun hp hM => ?_)
  refine aw_imul hX dX4_openness_24 ?_
  refine aw_i2d hX dX4_openness_25 ?_
  refine aw_ddiv hX dX4_openness_26 (mOpn_n64 ok) ?_
  refine aw_dret hX (Nat.le_refl _) (Nat.le_refl _) dX4_openness_27 (hq _ _ ?_)
  exact ⟨rfl, hM⟩
set_option maxHeartbeats 4000000 in
set_option maxRecDepth 100000 in
theorem c_X4_undo {D : Gd} {fr : Nat} {m : Nat} {ad : Nat → Nat} {S : Ms} {h : Hm} (hM : MW m ad S h) (hf : 1 ≤ fr) (ok : MOk S)  : MC D fr yX4_undo cX4_undo 2 (some .int) m ad h [] (some (.int (mop_undo S).2.1)) ((mop_undo S).2.2) := by
  refine AM.of (lv := [some (.ref m), none]) (by decide +kernel) (Nat.le_of_ble_eq_true rfl) rfl (fun z hX hq _ => ?_)
  have hM := hM.rf
  refine aw_ald0 hX dX4_undo_0 ?_
  refine aw_iconst (v := 0) hX dX4_undo_1 (by decide) ?_
  refine mm_put hX hM 1 fp_X4_39 (by decide) dX4_undo_2 (fun hp hM => ?_)
  refine aw_ald0 hX dX4_undo_5 ?_
  refine mm_get hX hM fg_X4_43 rfl dX4_undo_6 ?_
  refine aw_if_ne hX (tgt := 18) dX4_undo_9 (by decide) (fun c9 => ?_) (fun c9 => ?_)
  · refine aw_ald0 hX dX4_undo_18 ?_
    refine aw_dup hX dX4_undo_19 rfl ?_
    refine mm_get hX hM fg_X4_43 rfl dX4_undo_20 ?_
    refine aw_iconst (v := 1) hX dX4_undo_23 (by decide) ?_
    refine aw_isub hX dX4_undo_24 ?_
    refine mm_put hX hM 0 fp_X4_43 (by decide) dX4_undo_25 (fun hp hM => ?_)
    refine aw_iconst (v := 0) hX dX4_undo_28 (by decide) ?_
    refine aw_ist1 hX dX4_undo_29 (by decide) rfl ?_
    obtain ⟨p, hp5, ep⟩ := ok.p
    have hp1 : 1 ≤ p := by
      rcases Nat.eq_zero_or_pos p with q | q
      · subst q; exact absurd ep c9
      · exact q
    refine gdown (N := 765) (P := fun i => ∀ (h9 : Hm), MR m ad (sA (sV (sV S 1 0) 0 (S.2 0 - 1)) 0 (fill (fun i => S.1 1 (765 * (p - 1) + i)) (S.1 0) 0 i)) h h9 → gW z 30 [some (.ref m), some (.int (nI i))] [] h9 0 0) (fun i hi ih h9 hM => ?_) 0 (Nat.zero_le _) _ (hM.cg (by rw [fill_0]; exact (sA_self (sV (sV S 1 0) 0 (S.2 0 - 1)) 0).symm))
    refine aw_ild1 hX dX4_undo_30 ?_
    refine aw_sipush (v := 765) hX dX4_undo_31 (by decide) ?_
    refine aw_icmp_ge hX (tgt := 64) dX4_undo_34 (by decide) (fun c34 => ?_) (fun c34 => ?_)
    · refine aw_ald0 hX dX4_undo_64 ?_
      refine mm_get hX hM fg_X4_43 rfl dX4_undo_65 ?_
      refine aw_iret hX (Nat.le_refl _) (Nat.le_refl _) dX4_undo_68 (hq _ _ ?_)
      have hi9 : i = 765 := Nat.le_antisymm hi (nle (a := 765) c34 (by omega) (by omega))
      subst hi9
      rw [mop_undo_of ep hp5 c9]
      exact ⟨by show some (Value.int (S.2 0 - 1)) = _; rw [ep, sub_1 hp1], hM⟩
    · have hlt := nnle (a := 765) c34 (by omega) (by omega)
      refine aw_ald0 hX dX4_undo_37 ?_
      refine mm_get hX hM fg_X4_7 rfl dX4_undo_38 ?_
      refine aw_ild1 hX dX4_undo_41 ?_
      refine aw_ald0 hX dX4_undo_42 ?_
      refine mm_get hX hM fg_X4_13 rfl dX4_undo_43 ?_
      refine aw_sipush (v := 765) hX dX4_undo_46 (by decide) ?_
      refine aw_ald0 hX dX4_undo_49 ?_
      refine mm_get hX hM fg_X4_43 rfl dX4_undo_50 ?_
      refine aw_imul hX dX4_undo_53 ?_
      refine aw_ild1 hX dX4_undo_54 ?_
      refine aw_iadd hX dX4_undo_55 ?_
      refine mm_ld hX hM (by decide) (765 * (p - 1) + i) (by show 765 * (S.2 0 - 1) + nI i = _; rw [ep, sub_1 hp1, show (765 : Int32) = nI 765 from rfl, pk_mul, nI_add]) (by simp only [mLen]; omega) dX4_undo_56 ?_
      refine mm_st hX hM (by decide) (i) (rfl) (by simp only [mLen]; omega) dX4_undo_57 (fun hp hM => ?_)
      refine aw_inc1 hX dX4_undo_58 (by decide) rfl ?_
      refine aw_goto hX (tgt := 30) dX4_undo_61 (by decide) ?_
      exact ih hlt _ (hM.cg (by rw [sA_sA, sA_at]; have h9 := fill_s (fun i => S.1 1 (765 * (p - 1) + i)) (S.1 0) 0 i; rw [Nat.zero_add] at h9; rw [← h9]; rfl))
  · refine aw_ald0 hX dX4_undo_12 ?_
    refine aw_iconst (v := 1) hX dX4_undo_13 (by decide) ?_
    refine mm_call hX hM lk_X4_76 rfl (c_X4_fails (fr := fr - 1) hM.1 (by omega) 1) rfl rfl (Nat.le_of_ble_eq_true rfl) (by omega) (by decide) (Nat.le_refl _) (Nat.le_refl _) dX4_undo_14 (fun hp hM => ?_)
    refine aw_iret hX (Nat.le_refl _) (Nat.le_refl _) dX4_undo_17 (hq _ _ ?_)
    first
      | (have e9 : mop_undo S = mBad S 1 := by (unfold mop_undo; simp [show S.2 0 = 0 from c9])
         rw [e9]
         exact ⟨rfl, hM.cg (sV_sV S 1 0 1)⟩)
set_option maxHeartbeats 4000000 in
set_option maxRecDepth 100000 in
theorem c_X4_save {D : Gd} {fr : Nat} {m : Nat} {ad : Nat → Nat} {S : Ms} {h : Hm} (hM : MW m ad S h) (hf : 3 ≤ fr) (ok : MOk S) (x : Int32) : MC D fr yX4_save cX4_save 3 (some .int) m ad h [.int x] (some (.int (mop_save S x).2.1)) ((mop_save S x).2.2) := by
  refine AM.of (lv := [some (.ref m), some (.int x), none]) (by decide +kernel) (Nat.le_of_ble_eq_true rfl) rfl (fun z hX hq _ => ?_)
  have hM := hM.rf
  refine aw_ald0 hX dX4_save_0 ?_
  refine aw_iconst (v := 0) hX dX4_save_1 (by decide) ?_
  refine mm_put hX hM 1 fp_X4_39 (by decide) dX4_save_2 (fun hp hM => ?_)
  refine aw_ild1 hX dX4_save_5 ?_
  refine aw_iconst (v := 0) hX dX4_save_6 (by decide) ?_
  refine aw_iconst (v := 1) hX dX4_save_7 (by decide) ?_
  refine ss_call hX lk_X4_46 (c_X4_in (fr := fr - 1) (by omega) _ _ _) rfl rfl (Nat.le_of_ble_eq_true rfl) (by omega) (by decide) (Nat.le_refl _) (Nat.le_refl _) dX4_save_8 ?_
  refine aw_if_ne hX (tgt := 20) dX4_save_11 (by decide) (fun c11 => ?_) (fun c11 => ?_)
  · have b11 := bI_n0 c11
    obtain ⟨j, hj, rfl⟩ := nin (n := 1) (of_decide_eq_true b11).1 (of_decide_eq_true b11).2 (by decide)
    refine aw_ald0 hX dX4_save_20 ?_
    refine mm_get hX hM fg_X4_19 rfl dX4_save_21 ?_
    refine aw_ild1 hX dX4_save_24 ?_
    refine aw_iconst (v := 1) hX dX4_save_25 (by decide) ?_
    refine mm_zst hX hM (j) (rfl) (by omega) rfl dX4_save_26 (fun hp hM => ?_)
    refine aw_iconst (v := 0) hX dX4_save_27 (by decide) ?_
    refine aw_ist2 hX dX4_save_28 (by decide) rfl ?_
    refine gdown (N := 765) (P := fun i => ∀ (h9 : Hm), MR m ad (sA (sA (sV S 1 0) 3 (upd (S.1 3) j 1)) 2 (fill (fun i => S.1 0 i) (S.1 2) (765 * j) i)) h h9 → gW z 29 [some (.ref m), some (.int (nI j)), some (.int (nI i))] [] h9 0 0) (fun i hi ih h9 hM => ?_) 0 (Nat.zero_le _) _ (hM.cg (by rw [fill_0]; exact (sA_self (sA (sV S 1 0) 3 (upd (S.1 3) j 1)) 2).symm))
    refine aw_ild2 hX dX4_save_29 ?_
    refine aw_sipush (v := 765) hX dX4_save_30 (by decide) ?_
    refine aw_icmp_ge hX (tgt := 60) dX4_save_33 (by decide) (fun c33 => ?_) (fun c33 => ?_)
    · refine aw_ald0 hX dX4_save_60 ?_
      refine mm_call hX hM lk_X4_94 rfl (c_X4_howManyObjects (fr := fr - 1) hM.1 (by omega) ok.th) rfl rfl (Nat.le_of_ble_eq_true rfl) (by omega) (by decide) (Nat.le_refl _) (Nat.le_refl _) dX4_save_61 (fun hp hM => ?_)
      refine aw_iret hX (Nat.le_refl _) (Nat.le_refl _) dX4_save_64 (hq _ _ ?_)
      have hi9 : i = 765 := Nat.le_antisymm hi (nle (a := 765) c33 (by omega) (by omega))
      subst hi9
      rw [mop_save_of (S := S) hj]
      exact ⟨rfl, hM⟩
    · have hlt := nnle (a := 765) c33 (by omega) (by omega)
      refine aw_ald0 hX dX4_save_36 ?_
      refine mm_get hX hM fg_X4_16 rfl dX4_save_37 ?_
      refine aw_sipush (v := 765) hX dX4_save_40 (by decide) ?_
      refine aw_ild1 hX dX4_save_43 ?_
      refine aw_imul hX dX4_save_44 ?_
      refine aw_ild2 hX dX4_save_45 ?_
      refine aw_iadd hX dX4_save_46 ?_
      refine aw_ald0 hX dX4_save_47 ?_
      refine mm_get hX hM fg_X4_7 rfl dX4_save_48 ?_
      refine aw_ild2 hX dX4_save_51 ?_
      refine mm_ld hX hM (by decide) (i) (rfl) (by simp only [mLen]; omega) dX4_save_52 ?_
      refine mm_st hX hM (by decide) (765 * j + i) (by rw [show (765 : Int32) = nI 765 from rfl, pk_mul, nI_add]) (by simp only [mLen]; omega) dX4_save_53 (fun hp hM => ?_)
      refine aw_inc2 hX dX4_save_54 (by decide) rfl ?_
      refine aw_goto hX (tgt := 29) dX4_save_57 (by decide) ?_
      exact ih hlt _ (hM.cg (by rw [sA_sA, sA_at]; exact congrArg (sA (sA (sV S 1 0) 3 (upd (S.1 3) j 1)) 2) (fill_s (fun i => S.1 0 i) (S.1 2) (765 * j) i)))
  · have b11 := bI_0' c11
    refine aw_ald0 hX dX4_save_14 ?_
    refine aw_iconst (v := 1) hX dX4_save_15 (by decide) ?_
    refine mm_call hX hM lk_X4_76 rfl (c_X4_fails (fr := fr - 1) hM.1 (by omega) 1) rfl rfl (Nat.le_of_ble_eq_true rfl) (by omega) (by decide) (Nat.le_refl _) (Nat.le_refl _) dX4_save_16 (fun hp hM => ?_)
    refine aw_iret hX (Nat.le_refl _) (Nat.le_refl _) dX4_save_19 (hq _ _ ?_)
    first
      | (have e9 : mop_save S x = mBad S 1 := by (unfold mop_save; simp [of_decide_eq_false b11])
         rw [e9]
         exact ⟨rfl, hM.cg (sV_sV S 1 0 1)⟩)
set_option maxHeartbeats 4000000 in
set_option maxRecDepth 100000 in
theorem c_X4_restore {D : Gd} {fr : Nat} {m : Nat} {ad : Nat → Nat} {S : Ms} {h : Hm} (hM : MW m ad S h) (hf : 3 ≤ fr) (ok : MOk S) (x : Int32) : MC D fr yX4_restore cX4_restore 3 (some .int) m ad h [.int x] (some (.int (mop_restore S x).2.1)) ((mop_restore S x).2.2) := by
  refine AM.of (lv := [some (.ref m), some (.int x), none]) (by decide +kernel) (Nat.le_of_ble_eq_true rfl) rfl (fun z hX hq _ => ?_)
  have hM := hM.rf
  refine aw_ald0 hX dX4_restore_0 ?_
  refine aw_iconst (v := 0) hX dX4_restore_1 (by decide) ?_
  refine mm_put hX hM 1 fp_X4_39 (by decide) dX4_restore_2 (fun hp hM => ?_)
  refine aw_ild1 hX dX4_restore_5 ?_
  refine aw_iconst (v := 0) hX dX4_restore_6 (by decide) ?_
  refine aw_iconst (v := 1) hX dX4_restore_7 (by decide) ?_
  refine ss_call hX lk_X4_46 (c_X4_in (fr := fr - 1) (by omega) _ _ _) rfl rfl (Nat.le_of_ble_eq_true rfl) (by omega) (by decide) (Nat.le_refl _) (Nat.le_refl _) dX4_restore_8 ?_
  refine aw_if_ne hX (tgt := 20) dX4_restore_11 (by decide) (fun c11 => ?_) (fun c11 => ?_)
  · have b11 := bI_n0 c11
    obtain ⟨j, hj, rfl⟩ := nin (n := 1) (of_decide_eq_true b11).1 (of_decide_eq_true b11).2 (by decide)
    refine aw_ald0 hX dX4_restore_20 ?_
    refine mm_get hX hM fg_X4_19 rfl dX4_restore_21 ?_
    refine aw_ild1 hX dX4_restore_24 ?_
    refine mm_zld hX hM (j) (rfl) (by omega) dX4_restore_25 ?_
    refine aw_if_ne hX (tgt := 35) dX4_restore_26 (by decide) (fun c26 => ?_) (fun c26 => ?_)
    · refine aw_ald0 hX dX4_restore_35 ?_
      refine mm_call hX hM lk_X4_79 rfl (c_X4_changes (fr := fr - 1) hM.1 (by omega) ok.p) rfl rfl (Nat.le_of_ble_eq_true rfl) (by omega) (by decide) (Nat.le_refl _) (Nat.le_refl _) dX4_restore_36 (fun hp hM => ?_)
      refine aw_iconst (v := 0) hX dX4_restore_39 (by decide) ?_
      refine aw_ist2 hX dX4_restore_40 (by decide) rfl ?_
      refine gdown (N := 765) (P := fun i => ∀ (h9 : Hm), MR m ad (sA (mC S) 0 (fill (fun i => S.1 2 (765 * j + i)) (S.1 0) 0 i)) h h9 → gW z 41 [some (.ref m), some (.int (nI j)), some (.int (nI i))] [] h9 0 0) (fun i hi ih h9 hM => ?_) 0 (Nat.zero_le _) _ (hM.cg (by rw [fill_0, ← mC_0]; exact (sA_self (mC S) 0).symm))
      refine aw_ild2 hX dX4_restore_41 ?_
      refine aw_sipush (v := 765) hX dX4_restore_42 (by decide) ?_
      refine aw_icmp_ge hX (tgt := 72) dX4_restore_45 (by decide) (fun c45 => ?_) (fun c45 => ?_)
      · have hi9 : i = 765 := Nat.le_antisymm hi (nle (a := 765) c45 (by omega) (by omega))
        subst hi9
        refine aw_ald0 hX dX4_restore_72 ?_
        refine mm_call hX hM lk_X4_94 rfl (c_X4_howManyObjects (fr := fr - 1) hM.1 (by omega) (by rw [sA_at]; exact (mWf_fill (ok.sl (by omega) c26)).th)) rfl rfl (Nat.le_of_ble_eq_true rfl) (by omega) (by decide) (Nat.le_refl _) (Nat.le_refl _) dX4_restore_73 (fun hp hM => ?_)
        refine aw_iret hX (Nat.le_refl _) (Nat.le_refl _) dX4_restore_76 (hq _ _ ?_)
        rw [mop_restore_of (S := S) hj c26]
        exact ⟨by rw [sA_at], hM⟩
      · have hlt := nnle (a := 765) c45 (by omega) (by omega)
        refine aw_ald0 hX dX4_restore_48 ?_
        refine mm_get hX hM fg_X4_7 rfl dX4_restore_49 ?_
        refine aw_ild2 hX dX4_restore_52 ?_
        refine aw_ald0 hX dX4_restore_53 ?_
        refine mm_get hX hM fg_X4_16 rfl dX4_restore_54 ?_
        refine aw_sipush (v := 765) hX dX4_restore_57 (by decide) ?_
        refine aw_ild1 hX dX4_restore_60 ?_
        refine aw_imul hX dX4_restore_61 ?_
        refine aw_ild2 hX dX4_restore_62 ?_
        refine aw_iadd hX dX4_restore_63 ?_
        refine mm_ld hX hM (by decide) (765 * j + i) (by rw [show (765 : Int32) = nI 765 from rfl, pk_mul, nI_add]) (by simp only [mLen]; omega) dX4_restore_64 ?_
        refine mm_st hX hM (by decide) (i) (rfl) (by simp only [mLen]; omega) dX4_restore_65 (fun hp hM => ?_)
        refine aw_inc2 hX dX4_restore_66 (by decide) rfl ?_
        refine aw_goto hX (tgt := 41) dX4_restore_69 (by decide) ?_
        exact ih hlt _ (hM.cg (by rw [sA_sA, sA_at]; have h9 := fill_s (fun i => S.1 2 (765 * j + i)) (S.1 0) 0 i; rw [Nat.zero_add] at h9; rw [← h9]; rfl))
    · refine aw_ald0 hX dX4_restore_29 ?_
      refine aw_iconst (v := 2) hX dX4_restore_30 (by decide) ?_
      refine mm_call hX hM lk_X4_76 rfl (c_X4_fails (fr := fr - 1) hM.1 (by omega) 2) rfl rfl (Nat.le_of_ble_eq_true rfl) (by omega) (by decide) (Nat.le_refl _) (Nat.le_refl _) dX4_restore_31 (fun hp hM => ?_)
      refine aw_iret hX (Nat.le_refl _) (Nat.le_refl _) dX4_restore_34 (hq _ _ ?_)
      rw [mop_restore_2 (S := S) hj c26]
      exact ⟨rfl, hM.cg (sV_sV S 1 0 2)⟩
  · have b11 := bI_0' c11
    refine aw_ald0 hX dX4_restore_14 ?_
    refine aw_iconst (v := 1) hX dX4_restore_15 (by decide) ?_
    refine mm_call hX hM lk_X4_76 rfl (c_X4_fails (fr := fr - 1) hM.1 (by omega) 1) rfl rfl (Nat.le_of_ble_eq_true rfl) (by omega) (by decide) (Nat.le_refl _) (Nat.le_refl _) dX4_restore_16 (fun hp hM => ?_)
    refine aw_iret hX (Nat.le_refl _) (Nat.le_refl _) dX4_restore_19 (hq _ _ ?_)
    first
      | (have e9 : mop_restore S x = mBad S 1 := by (unfold mop_restore; simp [of_decide_eq_false b11])
         rw [e9]
         exact ⟨rfl, hM.cg (sV_sV S 1 0 1)⟩)
