/-! THE REFERENCE, printed by m6.py: objects and entries change -/
set_option maxHeartbeats 4000000 in
set_option maxRecDepth 100000 in
theorem c_X4_setInheriting {D : Gd} {fr : Nat} {m : Nat} {ad : Nat → Nat} {S : Ms} {h : Hm} (hM : MW m ad S h) (hf : 3 ≤ fr) (ok : MOk S) (o : Int32) (b : Bool) : MC D fr yX4_setInheriting cX4_setInheriting 4 (some .boolean) m ad h [.int o, .int (bI b)] (some (.int (mop_setInheriting S o b).2.1)) ((mop_setInheriting S o b).2.2) := by
  refine AM.of (lv := [some (.ref m), some (.int o), some (.int (bI b)), none]) (by decide +kernel) (Nat.le_of_ble_eq_true rfl) rfl (fun z hX hq _ => ?_)
  have hM := hM.rf
  refine aw_ald0 hX dX4_setInheriting_0 ?_
  refine aw_ald0 hX dX4_setInheriting_1 ?_
  refine aw_ild1 hX dX4_setInheriting_2 ?_
  refine mm_call hX hM lk_X4_57 rfl (c_X4_isObject (fr := fr - 1) hM.1 (by omega) _) rfl rfl (Nat.le_of_ble_eq_true rfl) (by omega) (by decide) (Nat.le_refl _) (Nat.le_refl _) dX4_setInheriting_3 (fun hp hM => ?_)
  refine aw_if_eq hX (tgt := 13) dX4_setInheriting_6 (by decide) (fun c6 => ?_) (fun c6 => ?_)
  · have b6 := bI_0' c6
    refine aw_iconst (v := 1) hX dX4_setInheriting_13 (by decide) ?_
    refine mm_put hX hM 1 fp_X4_39 (by decide) dX4_setInheriting_14 (fun hp hM => ?_)
    refine aw_ald0 hX dX4_setInheriting_17 ?_
    refine mm_get hX hM fg_X4_39 rfl dX4_setInheriting_18 ?_
    refine aw_iconst (v := 1) hX dX4_setInheriting_21 (by decide) ?_
    refine aw_icmp_ne hX (tgt := 27) dX4_setInheriting_22 (by decide) (fun c => absurd (sV_at S 1 1) c) (fun _ => ?_)
    refine aw_iconst (v := 0) hX dX4_setInheriting_25 (by decide) ?_
    refine aw_zret hX (by first | rfl | exact bI_n _ | (split <;> rfl)) (Nat.le_refl _) (Nat.le_refl _) dX4_setInheriting_26 (hq _ _ ?_)
    have e9 : mop_setInheriting S o b = mBad S 1 := by (unfold mop_setInheriting; simp [show mObj (S.1 0) o = false from b6])
    rw [e9]
    exact ⟨rfl, hM⟩
  · have b6 := bI_n0 c6
    refine aw_iconst (v := 0) hX dX4_setInheriting_9 (by decide) ?_
    refine aw_goto hX (tgt := 14) dX4_setInheriting_10 (by decide) ?_
    refine mm_put hX hM 1 fp_X4_39 (by decide) dX4_setInheriting_14 (fun hp hM => ?_)
    refine aw_ald0 hX dX4_setInheriting_17 ?_
    refine mm_get hX hM fg_X4_39 rfl dX4_setInheriting_18 ?_
    refine aw_iconst (v := 1) hX dX4_setInheriting_21 (by decide) ?_
    refine aw_icmp_ne hX (tgt := 27) dX4_setInheriting_22 (by decide) (fun _ => ?_) (fun c => absurd c (fun e => absurd ((sV_at S 1 0).symm.trans e) (by decide)))
    obtain ⟨o, ho, rfl, ho1⟩ := mObj_of b6
    refine aw_ald0 hX dX4_setInheriting_27 ?_
    refine mm_call hX hM lk_X4_79 rfl (c_X4_changes (fr := fr - 1) hM.1 (by omega) ok.p) rfl rfl (Nat.le_of_ble_eq_true rfl) (by omega) (by decide) (Nat.le_refl _) (Nat.le_refl _) dX4_setInheriting_28 (fun hp hM => ?_)
    refine aw_ald0 hX dX4_setInheriting_31 ?_
    refine aw_ild1 hX dX4_setInheriting_32 ?_
    refine aw_iconst (v := 4) hX dX4_setInheriting_33 (by decide) ?_
    refine mm_call hX hM lk_X4_54 rfl (c_X4_of (fr := fr - 1) hM.1 (by omega) o 4 ho (by decide)) rfl rfl (Nat.le_of_ble_eq_true rfl) (by omega) (by decide) (Nat.le_refl _) (Nat.le_refl _) dX4_setInheriting_34 (fun hp hM => ?_)
    refine aw_iconst (v := 1) hX dX4_setInheriting_37 (by decide) ?_
    refine aw_icmp_ne hX (tgt := 45) dX4_setInheriting_38 (by decide) (fun c38 => ?_) (fun c38 => ?_)
    · refine aw_iconst (v := 0) hX dX4_setInheriting_45 (by decide) ?_
      refine aw_ist3 hX dX4_setInheriting_46 (by decide) rfl ?_
      refine aw_ald0 hX dX4_setInheriting_47 ?_
      refine mm_get hX hM fg_X4_7 rfl dX4_setInheriting_48 ?_
      refine aw_ild1 hX dX4_setInheriting_51 ?_
      refine aw_iconst (v := 4) hX dX4_setInheriting_52 (by decide) ?_
      refine ss_call hX lk_X4_50 (c_X4_at (fr := fr - 1) (by omega) _ _) rfl rfl (Nat.le_of_ble_eq_true rfl) (by omega) (by decide) (Nat.le_refl _) (Nat.le_refl _) dX4_setInheriting_53 ?_
      refine aw_ild2 hX dX4_setInheriting_56 ?_
      refine aw_if_eq hX (tgt := 64) dX4_setInheriting_57 (by decide) (fun c57 => ?_) (fun c57 => ?_)
      · have b57 := bI_0' c57
        refine aw_iconst (v := 0) hX dX4_setInheriting_64 (by decide) ?_
        refine mm_st hX hM (by decide) (mO o 4) (mO_i o 4) (mO_lt ho (by decide)) dX4_setInheriting_65 (fun hp hM => ?_)
        refine aw_ild3 hX dX4_setInheriting_66 ?_
        refine aw_zret hX (by first | rfl | exact bI_n _ | (split <;> rfl)) (Nat.le_refl _) (Nat.le_refl _) dX4_setInheriting_67 (hq _ _ ?_)
        have e9 : mop_setInheriting S (nI o) b = (0, bI (decide (S.1 0 (mO o 4) = 1)), mSet S (mO o 4) (bI b)) := by (unfold mop_setInheriting; simp [show mObj (S.1 0) (nI o) = true from b6, nI_clamp (show o < 2 ^ 31 by omega)])
        rw [e9]
        refine ⟨?_, hM.cg ?_⟩
        · first | exact rv1 (decide_eq_true c38) | exact rv0 (decide_eq_false c38)
        · first | (rw [show bI b = 0 from c57]; rfl) | (rw [show bI b = 1 from bI_t b57]; rfl)
      · have b57 := bI_n0 c57
        refine aw_iconst (v := 1) hX dX4_setInheriting_60 (by decide) ?_
        refine aw_goto hX (tgt := 65) dX4_setInheriting_61 (by decide) ?_
        refine mm_st hX hM (by decide) (mO o 4) (mO_i o 4) (mO_lt ho (by decide)) dX4_setInheriting_65 (fun hp hM => ?_)
        refine aw_ild3 hX dX4_setInheriting_66 ?_
        refine aw_zret hX (by first | rfl | exact bI_n _ | (split <;> rfl)) (Nat.le_refl _) (Nat.le_refl _) dX4_setInheriting_67 (hq _ _ ?_)
        have e9 : mop_setInheriting S (nI o) b = (0, bI (decide (S.1 0 (mO o 4) = 1)), mSet S (mO o 4) (bI b)) := by (unfold mop_setInheriting; simp [show mObj (S.1 0) (nI o) = true from b6, nI_clamp (show o < 2 ^ 31 by omega)])
        rw [e9]
        refine ⟨?_, hM.cg ?_⟩
        · first | exact rv1 (decide_eq_true c38) | exact rv0 (decide_eq_false c38)
        · first | (rw [show bI b = 0 from c57]; rfl) | (rw [show bI b = 1 from bI_t b57]; rfl)
    · refine aw_iconst (v := 1) hX dX4_setInheriting_41 (by decide) ?_
      refine aw_goto hX (tgt := 46) dX4_setInheriting_42 (by decide) ?_
      refine aw_ist3 hX dX4_setInheriting_46 (by decide) rfl ?_
      refine aw_ald0 hX dX4_setInheriting_47 ?_
      refine mm_get hX hM fg_X4_7 rfl dX4_setInheriting_48 ?_
      refine aw_ild1 hX dX4_setInheriting_51 ?_
      refine aw_iconst (v := 4) hX dX4_setInheriting_52 (by decide) ?_
      refine ss_call hX lk_X4_50 (c_X4_at (fr := fr - 1) (by omega) _ _) rfl rfl (Nat.le_of_ble_eq_true rfl) (by omega) (by decide) (Nat.le_refl _) (Nat.le_refl _) dX4_setInheriting_53 ?_
      refine aw_ild2 hX dX4_setInheriting_56 ?_
      refine aw_if_eq hX (tgt := 64) dX4_setInheriting_57 (by decide) (fun c57 => ?_) (fun c57 => ?_)
      · have b57 := bI_0' c57
        refine aw_iconst (v := 0) hX dX4_setInheriting_64 (by decide) ?_
        refine mm_st hX hM (by decide) (mO o 4) (mO_i o 4) (mO_lt ho (by decide)) dX4_setInheriting_65 (fun hp hM => ?_)
        refine aw_ild3 hX dX4_setInheriting_66 ?_
        refine aw_zret hX (by first | rfl | exact bI_n _ | (split <;> rfl)) (Nat.le_refl _) (Nat.le_refl _) dX4_setInheriting_67 (hq _ _ ?_)
        have e9 : mop_setInheriting S (nI o) b = (0, bI (decide (S.1 0 (mO o 4) = 1)), mSet S (mO o 4) (bI b)) := by (unfold mop_setInheriting; simp [show mObj (S.1 0) (nI o) = true from b6, nI_clamp (show o < 2 ^ 31 by omega)])
        rw [e9]
        refine ⟨?_, hM.cg ?_⟩
        · first | exact rv1 (decide_eq_true c38) | exact rv0 (decide_eq_false c38)
        · first | (rw [show bI b = 0 from c57]; rfl) | (rw [show bI b = 1 from bI_t b57]; rfl)
      · have b57 := bI_n0 c57
        refine aw_iconst (v := 1) hX dX4_setInheriting_60 (by decide) ?_
        refine aw_goto hX (tgt := 65) dX4_setInheriting_61 (by decide) ?_
        refine mm_st hX hM (by decide) (mO o 4) (mO_i o 4) (mO_lt ho (by decide)) dX4_setInheriting_65 (fun hp hM => ?_)
        refine aw_ild3 hX dX4_setInheriting_66 ?_
        refine aw_zret hX (by first | rfl | exact bI_n _ | (split <;> rfl)) (Nat.le_refl _) (Nat.le_refl _) dX4_setInheriting_67 (hq _ _ ?_)
        have e9 : mop_setInheriting S (nI o) b = (0, bI (decide (S.1 0 (mO o 4) = 1)), mSet S (mO o 4) (bI b)) := by (unfold mop_setInheriting; simp [show mObj (S.1 0) (nI o) = true from b6, nI_clamp (show o < 2 ^ 31 by omega)])
        rw [e9]
        refine ⟨?_, hM.cg ?_⟩
        · first | exact rv1 (decide_eq_true c38) | exact rv0 (decide_eq_false c38)
        · first | (rw [show bI b = 0 from c57]; rfl) | (rw [show bI b = 1 from bI_t b57]; rfl)
set_option maxHeartbeats 4000000 in
set_option maxRecDepth 100000 in
theorem c_X4_make {D : Gd} {fr : Nat} {m : Nat} {ad : Nat → Nat} {S : Ms} {h : Hm} (hM : MW m ad S h) (hf : 4 ≤ fr) (ok : MOk S) (p w : Int32) : MC D fr yX4_make cX4_make 4 (some .int) m ad h [.int p, .int w] (some (.int (mop_make S p w).2.1)) ((mop_make S p w).2.2) := by
  refine AM.of (lv := [some (.ref m), some (.int p), some (.int w), none]) (by decide +kernel) (Nat.le_of_ble_eq_true rfl) rfl (fun z hX hq _ => ?_)
  have hM := hM.rf
  refine aw_ald0 hX dX4_make_0 ?_
  refine aw_iconst (v := 0) hX dX4_make_1 (by decide) ?_
  refine mm_put hX hM 1 fp_X4_39 (by decide) dX4_make_2 (fun hp hM => ?_)
  refine aw_ald0 hX dX4_make_5 ?_
  refine aw_ild1 hX dX4_make_6 ?_
  refine mm_call hX hM lk_X4_57 rfl (c_X4_isObject (fr := fr - 1) hM.1 (by omega) _) rfl rfl (Nat.le_of_ble_eq_true rfl) (by omega) (by decide) (Nat.le_refl _) (Nat.le_refl _) dX4_make_7 (fun hp hM => ?_)
  refine aw_if_eq hX (tgt := 21) dX4_make_10 (by decide) (fun c10 => ?_) (fun c10 => ?_)
  · have b10 := bI_0' c10
    refine aw_ald0 hX dX4_make_21 ?_
    refine aw_iconst (v := 1) hX dX4_make_22 (by decide) ?_
    refine mm_call hX hM lk_X4_76 rfl (c_X4_fails (fr := fr - 1) hM.1 (by omega) 1) rfl rfl (Nat.le_of_ble_eq_true rfl) (by omega) (by decide) (Nat.le_refl _) (Nat.le_refl _) dX4_make_23 (fun hp hM => ?_)
    refine aw_iret hX (Nat.le_refl _) (Nat.le_refl _) dX4_make_26 (hq _ _ ?_)
    first
      | (have e9 : mop_make S p w = mBad S 1 := by (unfold mop_make; simp [show mObj (S.1 0) p = false from b10])
         rw [e9]
         exact ⟨rfl, hM.cg (sV_sV S 1 0 1)⟩)
      | (have e9 : mop_make S p w = mBad S 1 := by (unfold mop_make; simp [show mObj (S.1 0) p = true from b10, show mUser (S.1 0) w = false from b18])
         rw [e9]
         exact ⟨rfl, hM.cg (sV_sV S 1 0 1)⟩)
  · have b10 := bI_n0 c10
    refine aw_ald0 hX dX4_make_13 ?_
    refine aw_ild2 hX dX4_make_14 ?_
    refine mm_call hX hM lk_X4_82 rfl (c_X4_isUser (fr := fr - 1) hM.1 (by omega) _) rfl rfl (Nat.le_of_ble_eq_true rfl) (by omega) (by decide) (Nat.le_refl _) (Nat.le_refl _) dX4_make_15 (fun hp hM => ?_)
    refine aw_if_ne hX (tgt := 27) dX4_make_18 (by decide) (fun c18 => ?_) (fun c18 => ?_)
    · have b18 := bI_n0 c18
      obtain ⟨p, hp20, rfl, hp1⟩ := mObj_of b10
      refine aw_ald0 hX dX4_make_27 ?_
      refine mm_call hX hM lk_X4_94 rfl (c_X4_howManyObjects (fr := fr - 1) hM.1 (by omega) ok.th) rfl rfl (Nat.le_of_ble_eq_true rfl) (by omega) (by decide) (Nat.le_refl _) (Nat.le_refl _) dX4_make_28 (fun hp hM => ?_)
      refine aw_bipush (v := 20) hX dX4_make_31 (by decide) ?_
      refine aw_icmp_ne hX (tgt := 42) dX4_make_33 (by decide) (fun c33 => ?_) (fun c33 => ?_)
      · refine aw_ald0 hX dX4_make_42 ?_
        refine mm_call hX hM lk_X4_79 rfl (c_X4_changes (fr := fr - 1) hM.1 (by omega) ok.p) rfl rfl (Nat.le_of_ble_eq_true rfl) (by omega) (by decide) (Nat.le_refl _) (Nat.le_refl _) dX4_make_43 (fun hp hM => ?_)
        have hc33 : mCount (S.1 0) ≠ 20 := fun e => c33 (by rw [show mCount ((sV S 1 0).1 0) = 20 from e]; rfl)
        obtain ⟨i0, hi0, h01, h02, h03⟩ := mFree_of ok.th hc33
        refine aw_iconst (v := 0) hX dX4_make_46 (by decide) ?_
        refine aw_ist3 hX dX4_make_47 (by decide) rfl ?_
        refine gdown (N := i0) (P := fun i => ∀ (h9 : Hm), MR m ad (mC S) h h9 → gW z 48 [some (.ref m), some (.int (nI p)), some (.int w), some (.int (nI i))] [] h9 0 0) (fun i hi ih h9 hM => ?_) 0 (Nat.zero_le _) _ hM
        refine aw_ald0 hX dX4_make_48 ?_
        refine aw_ild3 hX dX4_make_49 ?_
        refine mm_call hX hM lk_X4_57 rfl (c_X4_isObject (fr := fr - 1) hM.1 (by omega) (nI i)) rfl rfl (Nat.le_of_ble_eq_true rfl) (by omega) (by decide) (Nat.le_refl _) (Nat.le_refl _) dX4_make_50 (fun hp hM => ?_)
        refine aw_if_eq hX (tgt := 62) dX4_make_53 (by decide) (fun c53 => ?_) (fun c53 => ?_)
        · have b53 := bI_0' c53
          have hi9 : i = i0 := by
            rcases Nat.lt_or_ge i i0 with q | q
            · exfalso
              rw [mObj_i (by omega)] at b53
              exact absurd (h03 i q) (of_decide_eq_false b53)
            · omega
          subst hi9
          refine aw_ald0 hX dX4_make_62 ?_
          refine aw_ild3 hX dX4_make_63 ?_
          refine aw_ild1 hX dX4_make_64 ?_
          refine aw_ild2 hX dX4_make_65 ?_
          refine mm_call hX hM lk_X4_35 rfl (c_X4_founds (fr := fr - 1) hM.1 (by omega) i (nI p) w hi0) rfl rfl (Nat.le_of_ble_eq_true rfl) (by omega) (by decide) (Nat.le_refl _) (Nat.le_refl _) dX4_make_66 (fun hp hM => ?_)
          refine aw_ild3 hX dX4_make_69 ?_
          refine aw_iret hX (Nat.le_refl _) (Nat.le_refl _) dX4_make_70 (hq _ _ ?_)
          first
            | (have e9 : mop_make S (nI p) w = (0, nI (mFree (S.1 0)), sA (mC S) 0 (mFounds (S.1 0) (mFree (S.1 0)) (nI p) w)) := by (unfold mop_make; simp [show mObj (S.1 0) (nI p) = true from b10, show mUser (S.1 0) w = true from b18, hc33])
               rw [e9]
               exact ⟨by rw [h01], hM.cg (by rw [h01, mC_0])⟩)
        · have b53 := bI_n0 c53
          refine aw_inc3 hX dX4_make_56 (by decide) rfl ?_
          refine aw_goto hX (tgt := 48) dX4_make_59 (by decide) ?_
          have hlt : i < i0 := by
            rcases Nat.lt_or_ge i i0 with q | q
            · exact q
            · exfalso
              have : i = i0 := by omega
              subst this
              rw [mObj_i (by omega)] at b53
              have h9 : S.1 0 (mO i 0) = 1 := of_decide_eq_true b53
              rw [h02] at h9
              exact absurd h9 (by decide)
          exact ih hlt _ hM
      · refine aw_ald0 hX dX4_make_36 ?_
        refine aw_iconst (v := 2) hX dX4_make_37 (by decide) ?_
        refine mm_call hX hM lk_X4_76 rfl (c_X4_fails (fr := fr - 1) hM.1 (by omega) 2) rfl rfl (Nat.le_of_ble_eq_true rfl) (by omega) (by decide) (Nat.le_refl _) (Nat.le_refl _) dX4_make_38 (fun hp hM => ?_)
        refine aw_iret hX (Nat.le_refl _) (Nat.le_refl _) dX4_make_41 (hq _ _ ?_)
        have hc33 : mCount (S.1 0) = 20 := (nI_eq (b := 20) (by have := cnt_le (fun k => decide (S.1 0 (mO k 0) = 1)) 20; unfold mCount; omega) (by omega)).mp c33
        first
          | (have e9 : mop_make S (nI p) w = mBad S 2 := by (unfold mop_make; simp [show mObj (S.1 0) (nI p) = true from b10, show mUser (S.1 0) w = true from b18, hc33])
             rw [e9]
             exact ⟨rfl, hM.cg (sV_sV S 1 0 2)⟩)
    · have b18 := bI_0' c18
      refine aw_ald0 hX dX4_make_21 ?_
      refine aw_iconst (v := 1) hX dX4_make_22 (by decide) ?_
      refine mm_call hX hM lk_X4_76 rfl (c_X4_fails (fr := fr - 1) hM.1 (by omega) 1) rfl rfl (Nat.le_of_ble_eq_true rfl) (by omega) (by decide) (Nat.le_refl _) (Nat.le_refl _) dX4_make_23 (fun hp hM => ?_)
      refine aw_iret hX (Nat.le_refl _) (Nat.le_refl _) dX4_make_26 (hq _ _ ?_)
      first
        | (have e9 : mop_make S p w = mBad S 1 := by (unfold mop_make; simp [show mObj (S.1 0) p = false from b10])
           rw [e9]
           exact ⟨rfl, hM.cg (sV_sV S 1 0 1)⟩)
        | (have e9 : mop_make S p w = mBad S 1 := by (unfold mop_make; simp [show mObj (S.1 0) p = true from b10, show mUser (S.1 0) w = false from b18])
           rw [e9]
           exact ⟨rfl, hM.cg (sV_sV S 1 0 1)⟩)
set_option maxHeartbeats 4000000 in
set_option maxRecDepth 100000 in
theorem c_X4_remove {D : Gd} {fr : Nat} {m : Nat} {ad : Nat → Nat} {S : Ms} {h : Hm} (hM : MW m ad S h) (hf : 4 ≤ fr) (ok : MOk S) (o : Int32) : MC D fr yX4_remove cX4_remove 3 (some .int) m ad h [.int o] (some (.int (mop_remove S o).2.1)) ((mop_remove S o).2.2) := by
  refine AM.of (lv := [some (.ref m), some (.int o), none]) (by decide +kernel) (Nat.le_of_ble_eq_true rfl) rfl (fun z hX hq _ => ?_)
  have hM := hM.rf
  refine aw_ald0 hX dX4_remove_0 ?_
  refine aw_iconst (v := 0) hX dX4_remove_1 (by decide) ?_
  refine mm_put hX hM 1 fp_X4_39 (by decide) dX4_remove_2 (fun hp hM => ?_)
  refine aw_ald0 hX dX4_remove_5 ?_
  refine aw_ild1 hX dX4_remove_6 ?_
  refine mm_call hX hM lk_X4_57 rfl (c_X4_isObject (fr := fr - 1) hM.1 (by omega) _) rfl rfl (Nat.le_of_ble_eq_true rfl) (by omega) (by decide) (Nat.le_refl _) (Nat.le_refl _) dX4_remove_7 (fun hp hM => ?_)
  refine aw_if_ne hX (tgt := 19) dX4_remove_10 (by decide) (fun c10 => ?_) (fun c10 => ?_)
  · have b10 := bI_n0 c10
    obtain ⟨o, ho, rfl, ho1⟩ := mObj_of b10
    obtain ⟨rk, hrk, hob⟩ := ok.rk
    refine aw_ild1 hX dX4_remove_19 ?_
    refine aw_if_eq hX (tgt := 31) dX4_remove_20 (by decide) (fun c20 => ?_) (fun c20 => ?_)
    · refine aw_ald0 hX dX4_remove_31 ?_
      refine aw_iconst (v := 2) hX dX4_remove_32 (by decide) ?_
      refine mm_call hX hM lk_X4_76 rfl (c_X4_fails (fr := fr - 1) hM.1 (by omega) 2) rfl rfl (Nat.le_of_ble_eq_true rfl) (by omega) (by decide) (Nat.le_refl _) (Nat.le_refl _) dX4_remove_33 (fun hp hM => ?_)
      refine aw_iret hX (Nat.le_refl _) (Nat.le_refl _) dX4_remove_36 (hq _ _ ?_)
      first
        | (have e9 : mop_remove S (nI o) = mBad S 2 := by (unfold mop_remove; simp [show mObj (S.1 0) (nI o) = true from b10, eq_true c20])
           rw [e9]
           exact ⟨rfl, hM.cg (sV_sV S 1 0 2)⟩)
        | (have hpos : 0 < mBelows (S.1 0) o := Nat.pos_of_ne_zero (fun e => c28 (by rw [show mBelows ((sV S 1 0).1 0) o = 0 from e]; decide))
           have e9 : mop_remove S (nI o) = mBad S 2 := by (unfold mop_remove; simp [show mObj (S.1 0) (nI o) = true from b10, show ¬ nI o = 0 from c20, mN_i (show o < 2147483648 by omega), hpos])
           rw [e9]
           exact ⟨rfl, hM.cg (sV_sV S 1 0 2)⟩)
    · refine aw_ald0 hX dX4_remove_23 ?_
      refine aw_ild1 hX dX4_remove_24 ?_
      refine mm_call hX hM lk_X4_98 rfl (c_X4_belows (fr := fr - 1) hM.1 (by omega) rk hrk hob o ho) rfl rfl (Nat.le_of_ble_eq_true rfl) (by omega) (by decide) (Nat.le_refl _) (Nat.le_refl _) dX4_remove_25 (fun hp hM => ?_)
      refine aw_if_le hX (tgt := 37) dX4_remove_28 (by decide) (fun c28 => ?_) (fun c28 => ?_)
      · refine aw_ald0 hX dX4_remove_37 ?_
        refine mm_call hX hM lk_X4_79 rfl (c_X4_changes (fr := fr - 1) hM.1 (by omega) ok.p) rfl rfl (Nat.le_of_ble_eq_true rfl) (by omega) (by decide) (Nat.le_refl _) (Nat.le_refl _) dX4_remove_38 (fun hp hM => ?_)
        refine aw_iconst (v := 0) hX dX4_remove_41 (by decide) ?_
        refine aw_ist2 hX dX4_remove_42 (by decide) rfl ?_
        refine gdown (N := 36) (P := fun i => ∀ (h9 : Hm), MR m ad (sA (mC S) 0 (fill (fun _ => 0) (S.1 0) (mO o 0) i)) h h9 → gW z 43 [some (.ref m), some (.int (nI o)), some (.int (nI i))] [] h9 0 0) (fun i hi ih h9 hM => ?_) 0 (Nat.zero_le _) _ (hM.cg (by rw [fill_0, ← mC_0]; exact (sA_self (mC S) 0).symm))
        refine aw_ild2 hX dX4_remove_43 ?_
        refine aw_bipush (v := 36) hX dX4_remove_44 (by decide) ?_
        refine aw_icmp_ge hX (tgt := 66) dX4_remove_46 (by decide) (fun c46 => ?_) (fun c46 => ?_)
        · have hi9 : i = 36 := Nat.le_antisymm hi (nle (a := 36) c46 (by omega) (by omega))
          subst hi9
          refine aw_ald0 hX dX4_remove_66 ?_
          refine mm_call hX hM lk_X4_94 rfl (c_X4_howManyObjects (fr := fr - 1) hM.1 (by omega) (fun q hq => by
    rw [sA_at]
    by_cases e : mO o 0 ≤ mO q 0 ∧ mO q 0 < mO o 0 + 36
    · exact Or.inl (by unfold fill; rw [if_pos e])
    · rw [fill_out (by omega)]; exact ok.th q hq)) rfl rfl (Nat.le_of_ble_eq_true rfl) (by omega) (by decide) (Nat.le_refl _) (Nat.le_refl _) dX4_remove_67 (fun hp hM => ?_)
          refine aw_iret hX (Nat.le_refl _) (Nat.le_refl _) dX4_remove_70 (hq _ _ ?_)
          have hz0 : mBelows (S.1 0) o = 0 := by
            have hle : mBelows (S.1 0) o ≤ 20 := cnt_le _ _
            have := nle (b := 0) c28 (by show mBelows (S.1 0) o < _; omega) (by omega)
            have h8 : mBelows (S.1 0) o ≤ 0 := this
            omega
          have e9 : mop_remove S (nI o) = (0, nI (mCount (fill (fun _ => 0) (S.1 0) (mO o 0) 36)), sA (mC S) 0 (fill (fun _ => 0) (S.1 0) (mO o 0) 36)) := by (unfold mop_remove; simp [show mObj (S.1 0) (nI o) = true from b10, show ¬ nI o = 0 from c20, mN_i (show o < 2147483648 by omega), hz0])
          rw [e9]
          exact ⟨by rw [sA_at], hM⟩
        · have hlt := nnle (a := 36) c46 (by omega) (by omega)
          refine aw_ald0 hX dX4_remove_49 ?_
          refine mm_get hX hM fg_X4_7 rfl dX4_remove_50 ?_
          refine aw_ild1 hX dX4_remove_53 ?_
          refine aw_ild2 hX dX4_remove_54 ?_
          refine ss_call hX lk_X4_50 (c_X4_at (fr := fr - 1) (by omega) _ _) rfl rfl (Nat.le_of_ble_eq_true rfl) (by omega) (by decide) (Nat.le_refl _) (Nat.le_refl _) dX4_remove_55 ?_
          refine aw_iconst (v := 0) hX dX4_remove_58 (by decide) ?_
          refine mm_st hX hM (by decide) (mO o i) (mO_i o i) (mO_lt ho (by omega)) dX4_remove_59 (fun hp hM => ?_)
          refine aw_inc2 hX dX4_remove_60 (by decide) rfl ?_
          refine aw_goto hX (tgt := 43) dX4_remove_63 (by decide) ?_
          exact ih hlt _ (hM.cg (by rw [sA_sA, sA_at, show mO o i = mO o 0 + i from by unfold mO; omega]; exact congrArg (sA (mC S) 0) (fill_s (fun _ => 0) (S.1 0) (mO o 0) i)))
      · refine aw_ald0 hX dX4_remove_31 ?_
        refine aw_iconst (v := 2) hX dX4_remove_32 (by decide) ?_
        refine mm_call hX hM lk_X4_76 rfl (c_X4_fails (fr := fr - 1) hM.1 (by omega) 2) rfl rfl (Nat.le_of_ble_eq_true rfl) (by omega) (by decide) (Nat.le_refl _) (Nat.le_refl _) dX4_remove_33 (fun hp hM => ?_)
        refine aw_iret hX (Nat.le_refl _) (Nat.le_refl _) dX4_remove_36 (hq _ _ ?_)
        first
          | (have e9 : mop_remove S (nI o) = mBad S 2 := by (unfold mop_remove; simp [show mObj (S.1 0) (nI o) = true from b10, eq_true c20])
             rw [e9]
             exact ⟨rfl, hM.cg (sV_sV S 1 0 2)⟩)
          | (have hpos : 0 < mBelows (S.1 0) o := Nat.pos_of_ne_zero (fun e => c28 (by rw [show mBelows ((sV S 1 0).1 0) o = 0 from e]; decide))
             have e9 : mop_remove S (nI o) = mBad S 2 := by (unfold mop_remove; simp [show mObj (S.1 0) (nI o) = true from b10, show ¬ nI o = 0 from c20, mN_i (show o < 2147483648 by omega), hpos])
             rw [e9]
             exact ⟨rfl, hM.cg (sV_sV S 1 0 2)⟩)
  · have b10 := bI_0' c10
    refine aw_ald0 hX dX4_remove_13 ?_
    refine aw_iconst (v := 1) hX dX4_remove_14 (by decide) ?_
    refine mm_call hX hM lk_X4_76 rfl (c_X4_fails (fr := fr - 1) hM.1 (by omega) 1) rfl rfl (Nat.le_of_ble_eq_true rfl) (by omega) (by decide) (Nat.le_refl _) (Nat.le_refl _) dX4_remove_15 (fun hp hM => ?_)
    refine aw_iret hX (Nat.le_refl _) (Nat.le_refl _) dX4_remove_18 (hq _ _ ?_)
    first
      | (have e9 : mop_remove S o = mBad S 1 := by (unfold mop_remove; simp [show mObj (S.1 0) o = false from b10])
         rw [e9]
         exact ⟨rfl, hM.cg (sV_sV S 1 0 1)⟩)
set_option maxHeartbeats 4000000 in
set_option maxRecDepth 100000 in
theorem c_X4_move {D : Gd} {fr : Nat} {m : Nat} {ad : Nat → Nat} {S : Ms} {h : Hm} (hM : MW m ad S h) (hf : 4 ≤ fr) (ok : MOk S) (o p : Int32) : MC D fr yX4_move cX4_move 4 (some .int) m ad h [.int o, .int p] (some (.int (mop_move S o p).2.1)) ((mop_move S o p).2.2) := by
  refine AM.of (lv := [some (.ref m), some (.int o), some (.int p), none]) (by decide +kernel) (Nat.le_of_ble_eq_true rfl) rfl (fun z hX hq _ => ?_)
  have hM := hM.rf
  refine aw_ald0 hX dX4_move_0 ?_
  refine aw_iconst (v := 0) hX dX4_move_1 (by decide) ?_
  refine mm_put hX hM 1 fp_X4_39 (by decide) dX4_move_2 (fun hp hM => ?_)
  refine aw_ald0 hX dX4_move_5 ?_
  refine aw_ild1 hX dX4_move_6 ?_
  refine mm_call hX hM lk_X4_57 rfl (c_X4_isObject (fr := fr - 1) hM.1 (by omega) _) rfl rfl (Nat.le_of_ble_eq_true rfl) (by omega) (by decide) (Nat.le_refl _) (Nat.le_refl _) dX4_move_7 (fun hp hM => ?_)
  refine aw_if_eq hX (tgt := 21) dX4_move_10 (by decide) (fun c10 => ?_) (fun c10 => ?_)
  · have b10 := bI_0' c10
    refine aw_ald0 hX dX4_move_21 ?_
    refine aw_iconst (v := 1) hX dX4_move_22 (by decide) ?_
    refine mm_call hX hM lk_X4_76 rfl (c_X4_fails (fr := fr - 1) hM.1 (by omega) 1) rfl rfl (Nat.le_of_ble_eq_true rfl) (by omega) (by decide) (Nat.le_refl _) (Nat.le_refl _) dX4_move_23 (fun hp hM => ?_)
    refine aw_iret hX (Nat.le_refl _) (Nat.le_refl _) dX4_move_26 (hq _ _ ?_)
    first
      | (have e9 : mop_move S o p = mBad S 1 := by (unfold mop_move; simp [show mObj (S.1 0) o = false from b10])
         rw [e9]
         exact ⟨rfl, hM.cg (sV_sV S 1 0 1)⟩)
      | (have e9 : mop_move S o p = mBad S 1 := by (unfold mop_move; simp [show mObj (S.1 0) o = true from b10, show mObj (S.1 0) p = false from b18])
         rw [e9]
         exact ⟨rfl, hM.cg (sV_sV S 1 0 1)⟩)
  · have b10 := bI_n0 c10
    refine aw_ald0 hX dX4_move_13 ?_
    refine aw_ild2 hX dX4_move_14 ?_
    refine mm_call hX hM lk_X4_57 rfl (c_X4_isObject (fr := fr - 1) hM.1 (by omega) _) rfl rfl (Nat.le_of_ble_eq_true rfl) (by omega) (by decide) (Nat.le_refl _) (Nat.le_refl _) dX4_move_15 (fun hp hM => ?_)
    refine aw_if_ne hX (tgt := 27) dX4_move_18 (by decide) (fun c18 => ?_) (fun c18 => ?_)
    · have b18 := bI_n0 c18
      obtain ⟨o, ho, rfl, ho1⟩ := mObj_of b10
      obtain ⟨p, hp20, rfl, hp1⟩ := mObj_of b18
      obtain ⟨rk, hrk, hob⟩ := ok.rk
      refine aw_ild1 hX dX4_move_27 ?_
      refine aw_if_eq hX (tgt := 45) dX4_move_28 (by decide) (fun c28 => ?_) (fun c28 => ?_)
      · refine aw_ald0 hX dX4_move_45 ?_
        refine aw_iconst (v := 2) hX dX4_move_46 (by decide) ?_
        refine mm_call hX hM lk_X4_76 rfl (c_X4_fails (fr := fr - 1) hM.1 (by omega) 2) rfl rfl (Nat.le_of_ble_eq_true rfl) (by omega) (by decide) (Nat.le_refl _) (Nat.le_refl _) dX4_move_47 (fun hp hM => ?_)
        refine aw_iret hX (Nat.le_refl _) (Nat.le_refl _) dX4_move_50 (hq _ _ ?_)
        first
          | (have e9 : mop_move S (nI o) (nI p) = mBad S 2 := by (unfold mop_move; simp [show mObj (S.1 0) (nI o) = true from b10, show mObj (S.1 0) (nI p) = true from b18, eq_true c28])
             rw [e9]
             exact ⟨rfl, hM.cg (sV_sV S 1 0 2)⟩)
          | (have e9 : mop_move S (nI o) (nI p) = mBad S 2 := by (unfold mop_move; simp [show mObj (S.1 0) (nI o) = true from b10, show mObj (S.1 0) (nI p) = true from b18, show ¬ nI o = 0 from c28, eq_true (show nI p = nI o from c33)])
             rw [e9]
             exact ⟨rfl, hM.cg (sV_sV S 1 0 2)⟩)
          | (have e9 : mop_move S (nI o) (nI p) = mBad S 2 := by (unfold mop_move; simp [show mObj (S.1 0) (nI o) = true from b10, show mObj (S.1 0) (nI p) = true from b18, show ¬ nI o = 0 from c28, show ¬ nI p = nI o from c33, show mBelow (S.1 0) p o = true from b42, mN_i (show o < 2147483648 by omega), mN_i (show p < 2147483648 by omega)])
             rw [e9]
             exact ⟨rfl, hM.cg (sV_sV S 1 0 2)⟩)
      · refine aw_ild2 hX dX4_move_31 ?_
        refine aw_ild1 hX dX4_move_32 ?_
        refine aw_icmp_eq hX (tgt := 45) dX4_move_33 (by decide) (fun c33 => ?_) (fun c33 => ?_)
        · refine aw_ald0 hX dX4_move_45 ?_
          refine aw_iconst (v := 2) hX dX4_move_46 (by decide) ?_
          refine mm_call hX hM lk_X4_76 rfl (c_X4_fails (fr := fr - 1) hM.1 (by omega) 2) rfl rfl (Nat.le_of_ble_eq_true rfl) (by omega) (by decide) (Nat.le_refl _) (Nat.le_refl _) dX4_move_47 (fun hp hM => ?_)
          refine aw_iret hX (Nat.le_refl _) (Nat.le_refl _) dX4_move_50 (hq _ _ ?_)
          first
            | (have e9 : mop_move S (nI o) (nI p) = mBad S 2 := by (unfold mop_move; simp [show mObj (S.1 0) (nI o) = true from b10, show mObj (S.1 0) (nI p) = true from b18, eq_true c28])
               rw [e9]
               exact ⟨rfl, hM.cg (sV_sV S 1 0 2)⟩)
            | (have e9 : mop_move S (nI o) (nI p) = mBad S 2 := by (unfold mop_move; simp [show mObj (S.1 0) (nI o) = true from b10, show mObj (S.1 0) (nI p) = true from b18, show ¬ nI o = 0 from c28, eq_true (show nI p = nI o from c33)])
               rw [e9]
               exact ⟨rfl, hM.cg (sV_sV S 1 0 2)⟩)
            | (have e9 : mop_move S (nI o) (nI p) = mBad S 2 := by (unfold mop_move; simp [show mObj (S.1 0) (nI o) = true from b10, show mObj (S.1 0) (nI p) = true from b18, show ¬ nI o = 0 from c28, show ¬ nI p = nI o from c33, show mBelow (S.1 0) p o = true from b42, mN_i (show o < 2147483648 by omega), mN_i (show p < 2147483648 by omega)])
               rw [e9]
               exact ⟨rfl, hM.cg (sV_sV S 1 0 2)⟩)
        · refine aw_ald0 hX dX4_move_36 ?_
          refine aw_ild2 hX dX4_move_37 ?_
          refine aw_ild1 hX dX4_move_38 ?_
          refine mm_call hX hM lk_X4_91 rfl (c_X4_isBelow (fr := fr - 1) hM.1 (by omega) rk hrk hob p o hp20 hp1 ho) rfl rfl (Nat.le_of_ble_eq_true rfl) (by omega) (by decide) (Nat.le_refl _) (Nat.le_refl _) dX4_move_39 (fun hp hM => ?_)
          refine aw_if_eq hX (tgt := 51) dX4_move_42 (by decide) (fun c42 => ?_) (fun c42 => ?_)
          · have b42 := bI_0' c42
            refine aw_ald0 hX dX4_move_51 ?_
            refine mm_call hX hM lk_X4_79 rfl (c_X4_changes (fr := fr - 1) hM.1 (by omega) ok.p) rfl rfl (Nat.le_of_ble_eq_true rfl) (by omega) (by decide) (Nat.le_refl _) (Nat.le_refl _) dX4_move_52 (fun hp hM => ?_)
            refine aw_ald0 hX dX4_move_55 ?_
            refine aw_ild1 hX dX4_move_56 ?_
            refine aw_iconst (v := 1) hX dX4_move_57 (by decide) ?_
            refine mm_call hX hM lk_X4_54 rfl (c_X4_of (fr := fr - 1) hM.1 (by omega) o 1 ho (by decide)) rfl rfl (Nat.le_of_ble_eq_true rfl) (by omega) (by decide) (Nat.le_refl _) (Nat.le_refl _) dX4_move_58 (fun hp hM => ?_)
            refine aw_ist3 hX dX4_move_61 (by decide) rfl ?_
            refine aw_ald0 hX dX4_move_62 ?_
            refine mm_get hX hM fg_X4_7 rfl dX4_move_63 ?_
            refine aw_ild1 hX dX4_move_66 ?_
            refine aw_iconst (v := 1) hX dX4_move_67 (by decide) ?_
            refine ss_call hX lk_X4_50 (c_X4_at (fr := fr - 1) (by omega) _ _) rfl rfl (Nat.le_of_ble_eq_true rfl) (by omega) (by decide) (Nat.le_refl _) (Nat.le_refl _) dX4_move_68 ?_
            refine aw_ild2 hX dX4_move_71 ?_
            refine mm_st hX hM (by decide) (mO o 1) (mO_i o 1) (mO_lt ho (by decide)) dX4_move_72 (fun hp hM => ?_)
            refine aw_ild3 hX dX4_move_73 ?_
            refine aw_iret hX (Nat.le_refl _) (Nat.le_refl _) dX4_move_74 (hq _ _ ?_)
            first
              | (have e9 : mop_move S (nI o) (nI p) = (0, S.1 0 (mO o 1), mSet S (mO o 1) (nI p)) := by (unfold mop_move; simp [show mObj (S.1 0) (nI o) = true from b10, show mObj (S.1 0) (nI p) = true from b18, show ¬ nI o = 0 from c28, show ¬ nI p = nI o from c33, show mBelow (S.1 0) p o = false from b42, mN_i (show o < 2147483648 by omega), mN_i (show p < 2147483648 by omega)])
                 rw [e9]
                 exact ⟨rfl, hM.cg (rfl)⟩)
          · have b42 := bI_n0 c42
            refine aw_ald0 hX dX4_move_45 ?_
            refine aw_iconst (v := 2) hX dX4_move_46 (by decide) ?_
            refine mm_call hX hM lk_X4_76 rfl (c_X4_fails (fr := fr - 1) hM.1 (by omega) 2) rfl rfl (Nat.le_of_ble_eq_true rfl) (by omega) (by decide) (Nat.le_refl _) (Nat.le_refl _) dX4_move_47 (fun hp hM => ?_)
            refine aw_iret hX (Nat.le_refl _) (Nat.le_refl _) dX4_move_50 (hq _ _ ?_)
            first
              | (have e9 : mop_move S (nI o) (nI p) = mBad S 2 := by (unfold mop_move; simp [show mObj (S.1 0) (nI o) = true from b10, show mObj (S.1 0) (nI p) = true from b18, eq_true c28])
                 rw [e9]
                 exact ⟨rfl, hM.cg (sV_sV S 1 0 2)⟩)
              | (have e9 : mop_move S (nI o) (nI p) = mBad S 2 := by (unfold mop_move; simp [show mObj (S.1 0) (nI o) = true from b10, show mObj (S.1 0) (nI p) = true from b18, show ¬ nI o = 0 from c28, eq_true (show nI p = nI o from c33)])
                 rw [e9]
                 exact ⟨rfl, hM.cg (sV_sV S 1 0 2)⟩)
              | (have e9 : mop_move S (nI o) (nI p) = mBad S 2 := by (unfold mop_move; simp [show mObj (S.1 0) (nI o) = true from b10, show mObj (S.1 0) (nI p) = true from b18, show ¬ nI o = 0 from c28, show ¬ nI p = nI o from c33, show mBelow (S.1 0) p o = true from b42, mN_i (show o < 2147483648 by omega), mN_i (show p < 2147483648 by omega)])
                 rw [e9]
                 exact ⟨rfl, hM.cg (sV_sV S 1 0 2)⟩)
    · have b18 := bI_0' c18
      refine aw_ald0 hX dX4_move_21 ?_
      refine aw_iconst (v := 1) hX dX4_move_22 (by decide) ?_
      refine mm_call hX hM lk_X4_76 rfl (c_X4_fails (fr := fr - 1) hM.1 (by omega) 1) rfl rfl (Nat.le_of_ble_eq_true rfl) (by omega) (by decide) (Nat.le_refl _) (Nat.le_refl _) dX4_move_23 (fun hp hM => ?_)
      refine aw_iret hX (Nat.le_refl _) (Nat.le_refl _) dX4_move_26 (hq _ _ ?_)
      first
        | (have e9 : mop_move S o p = mBad S 1 := by (unfold mop_move; simp [show mObj (S.1 0) o = false from b10])
           rw [e9]
           exact ⟨rfl, hM.cg (sV_sV S 1 0 1)⟩)
        | (have e9 : mop_move S o p = mBad S 1 := by (unfold mop_move; simp [show mObj (S.1 0) o = true from b10, show mObj (S.1 0) p = false from b18])
           rw [e9]
           exact ⟨rfl, hM.cg (sV_sV S 1 0 1)⟩)
