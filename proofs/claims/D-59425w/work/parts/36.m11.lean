/-! THE REFERENCE, printed by m11.py: questions -/
set_option maxHeartbeats 4000000 in
set_option maxRecDepth 100000 in
theorem c_X4_users {D : Gd} {fr : Nat} {m : Nat} {ad : Nat → Nat} {S : Ms} {h : Hm} (hM : MW m ad S h) (hf : 0 ≤ fr) (ok : mWf (S.1 0))  : MC D fr yX4_users cX4_users 1 (some .int) m ad h [] (some (.int (mQ S 0 (S.1 0 0)).2.1)) ((mQ S 0 (S.1 0 0)).2.2) := by
  refine AM.of (lv := [some (.ref m)]) (by decide +kernel) (Nat.le_of_ble_eq_true rfl) rfl (fun z hX hq _ => ?_)
  have hM := hM.rf
  refine aw_ald0 hX dX4_users_0 ?_
  refine aw_iconst (v := 0) hX dX4_users_1 (by decide) ?_
  refine mm_put hX hM 1 fp_X4_39 (by decide) dX4_users_2 (fun hp hM => ?_)
  refine aw_ald0 hX dX4_users_5 ?_
  refine mm_get hX hM fg_X4_7 rfl dX4_users_6 ?_
  refine aw_iconst (v := 0) hX dX4_users_9 (by decide) ?_
  refine mm_ld hX hM (by decide) (0) (rfl) (by decide) dX4_users_10 ?_
  refine aw_iret hX (Nat.le_refl _) (Nat.le_refl _) dX4_users_11 (hq _ _ ?_)
  exact ⟨rfl, hM⟩
set_option maxHeartbeats 4000000 in
set_option maxRecDepth 100000 in
theorem c_X4_groups {D : Gd} {fr : Nat} {m : Nat} {ad : Nat → Nat} {S : Ms} {h : Hm} (hM : MW m ad S h) (hf : 0 ≤ fr) (ok : mWf (S.1 0))  : MC D fr yX4_groups cX4_groups 1 (some .int) m ad h [] (some (.int (mQ S 0 (S.1 0 1)).2.1)) ((mQ S 0 (S.1 0 1)).2.2) := by
  refine AM.of (lv := [some (.ref m)]) (by decide +kernel) (Nat.le_of_ble_eq_true rfl) rfl (fun z hX hq _ => ?_)
  have hM := hM.rf
  refine aw_ald0 hX dX4_groups_0 ?_
  refine aw_iconst (v := 0) hX dX4_groups_1 (by decide) ?_
  refine mm_put hX hM 1 fp_X4_39 (by decide) dX4_groups_2 (fun hp hM => ?_)
  refine aw_ald0 hX dX4_groups_5 ?_
  refine mm_get hX hM fg_X4_7 rfl dX4_groups_6 ?_
  refine aw_iconst (v := 1) hX dX4_groups_9 (by decide) ?_
  refine mm_ld hX hM (by decide) (1) (rfl) (by decide) dX4_groups_10 ?_
  refine aw_iret hX (Nat.le_refl _) (Nat.le_refl _) dX4_groups_11 (hq _ _ ?_)
  exact ⟨rfl, hM⟩
set_option maxHeartbeats 4000000 in
set_option maxRecDepth 100000 in
theorem c_X4_isMember {D : Gd} {fr : Nat} {m : Nat} {ad : Nat → Nat} {S : Ms} {h : Hm} (hM : MW m ad S h) (hf : 2 ≤ fr) (ok : mWf (S.1 0)) (u g : Int32) : MC D fr yX4_isMember cX4_isMember 3 (some .boolean) m ad h [.int u, .int g] (some (.int (mq_isMember S u g).2.1)) ((mq_isMember S u g).2.2) := by
  refine AM.of (lv := [some (.ref m), some (.int u), some (.int g)]) (by decide +kernel) (Nat.le_of_ble_eq_true rfl) rfl (fun z hX hq _ => ?_)
  have hM := hM.rf
  refine aw_ald0 hX dX4_isMember_0 ?_
  refine aw_ald0 hX dX4_isMember_1 ?_
  refine aw_ild1 hX dX4_isMember_2 ?_
  refine mm_call hX hM lk_X4_82 rfl (c_X4_isUser (fr := fr - 1) hM.1 (by omega) _) rfl rfl (Nat.le_of_ble_eq_true rfl) (by omega) (by decide) (Nat.le_refl _) (Nat.le_refl _) dX4_isMember_3 (fun hp hM => ?_)
  refine aw_if_eq hX (tgt := 21) dX4_isMember_6 (by decide) (fun c6 => ?_) (fun c6 => ?_)
  · have b6 := bI_0' c6
    refine aw_iconst (v := 1) hX dX4_isMember_21 (by decide) ?_
    refine mm_put hX hM 1 fp_X4_39 (by decide) dX4_isMember_22 (fun hp hM => ?_)
    refine aw_ald0 hX dX4_isMember_25 ?_
    refine mm_get hX hM fg_X4_39 rfl dX4_isMember_26 ?_
    refine aw_if_ne hX (tgt := 51) dX4_isMember_29 (by decide) (fun _ => ?_) (fun c => absurd c (by first | (rw [sV_at]; done) | (rw [sV_at]; decide)))
    refine aw_iconst (v := 0) hX dX4_isMember_51 (by decide) ?_
    refine aw_zret hX (by first | rfl | exact bI_n _ | (split <;> rfl)) (Nat.le_refl _) (Nat.le_refl _) dX4_isMember_52 (hq _ _ ?_)
    first
      | (have e9 : mq_isMember S u g = mQ S 1 (0) := by (unfold mq_isMember; simp [mUG, show mUser (S.1 0) u = false from b6])
         rw [e9]
         exact ⟨rfl, hM⟩)
      | (have e9 : mq_isMember S u g = mQ S 1 (0) := by (unfold mq_isMember; simp [mUG, show mUser (S.1 0) u = true from b6, show mGroup (S.1 0) g = false from b14])
         rw [e9]
         exact ⟨rfl, hM⟩)
      | (have e9 : mq_isMember S u (nI g) = mQ S 0 (bI (mHas (S.1 0 (2 + g)) u)) := by (unfold mq_isMember; simp [mUG, show mUser (S.1 0) u = true from b6, show mGroup (S.1 0) (nI g) = true from b14, mN_i (show g < 2147483648 by omega)])
         rw [e9]
         exact ⟨by first | exact rv1 b44 | exact rv0 b44, hM⟩)
  · have b6 := bI_n0 c6
    refine aw_ald0 hX dX4_isMember_9 ?_
    refine aw_ild2 hX dX4_isMember_10 ?_
    refine mm_call hX hM lk_X4_85 rfl (c_X4_isGroup (fr := fr - 1) hM.1 (by omega) _) rfl rfl (Nat.le_of_ble_eq_true rfl) (by omega) (by decide) (Nat.le_refl _) (Nat.le_refl _) dX4_isMember_11 (fun hp hM => ?_)
    refine aw_if_eq hX (tgt := 21) dX4_isMember_14 (by decide) (fun c14 => ?_) (fun c14 => ?_)
    · have b14 := bI_0' c14
      refine aw_iconst (v := 1) hX dX4_isMember_21 (by decide) ?_
      refine mm_put hX hM 1 fp_X4_39 (by decide) dX4_isMember_22 (fun hp hM => ?_)
      refine aw_ald0 hX dX4_isMember_25 ?_
      refine mm_get hX hM fg_X4_39 rfl dX4_isMember_26 ?_
      refine aw_if_ne hX (tgt := 51) dX4_isMember_29 (by decide) (fun _ => ?_) (fun c => absurd c (by first | (rw [sV_at]; done) | (rw [sV_at]; decide)))
      refine aw_iconst (v := 0) hX dX4_isMember_51 (by decide) ?_
      refine aw_zret hX (by first | rfl | exact bI_n _ | (split <;> rfl)) (Nat.le_refl _) (Nat.le_refl _) dX4_isMember_52 (hq _ _ ?_)
      first
        | (have e9 : mq_isMember S u g = mQ S 1 (0) := by (unfold mq_isMember; simp [mUG, show mUser (S.1 0) u = false from b6])
           rw [e9]
           exact ⟨rfl, hM⟩)
        | (have e9 : mq_isMember S u g = mQ S 1 (0) := by (unfold mq_isMember; simp [mUG, show mUser (S.1 0) u = true from b6, show mGroup (S.1 0) g = false from b14])
           rw [e9]
           exact ⟨rfl, hM⟩)
        | (have e9 : mq_isMember S u (nI g) = mQ S 0 (bI (mHas (S.1 0 (2 + g)) u)) := by (unfold mq_isMember; simp [mUG, show mUser (S.1 0) u = true from b6, show mGroup (S.1 0) (nI g) = true from b14, mN_i (show g < 2147483648 by omega)])
           rw [e9]
           exact ⟨by first | exact rv1 b44 | exact rv0 b44, hM⟩)
    · have b14 := bI_n0 c14
      refine aw_iconst (v := 0) hX dX4_isMember_17 (by decide) ?_
      refine aw_goto hX (tgt := 22) dX4_isMember_18 (by decide) ?_
      refine mm_put hX hM 1 fp_X4_39 (by decide) dX4_isMember_22 (fun hp hM => ?_)
      refine aw_ald0 hX dX4_isMember_25 ?_
      refine mm_get hX hM fg_X4_39 rfl dX4_isMember_26 ?_
      refine aw_if_ne hX (tgt := 51) dX4_isMember_29 (by decide) (fun c => absurd (by rw [sV_at]) c) (fun _ => ?_)
      obtain ⟨g, hg, rfl⟩ := mGroup_lt ok b14
      refine aw_ald0 hX dX4_isMember_32 ?_
      refine mm_get hX hM fg_X4_7 rfl dX4_isMember_33 ?_
      refine aw_iconst (v := 2) hX dX4_isMember_36 (by decide) ?_
      refine aw_ild2 hX dX4_isMember_37 ?_
      refine aw_iadd hX dX4_isMember_38 ?_
      refine mm_ld hX hM (by decide) (2 + g) (nI_add 2 g) (by simp only [mLen]; omega) dX4_isMember_39 ?_
      refine aw_ild1 hX dX4_isMember_40 ?_
      refine ss_call hX lk_X4_65 (c_X4_has (fr := fr - 1) (by omega) _ _) rfl rfl (Nat.le_of_ble_eq_true rfl) (by omega) (by decide) (Nat.le_refl _) (Nat.le_refl _) dX4_isMember_41 ?_
      refine aw_if_eq hX (tgt := 51) dX4_isMember_44 (by decide) (fun c44 => ?_) (fun c44 => ?_)
      · have b44 := bI_0' c44
        refine aw_iconst (v := 0) hX dX4_isMember_51 (by decide) ?_
        refine aw_zret hX (by first | rfl | exact bI_n _ | (split <;> rfl)) (Nat.le_refl _) (Nat.le_refl _) dX4_isMember_52 (hq _ _ ?_)
        first
          | (have e9 : mq_isMember S u g = mQ S 1 (0) := by (unfold mq_isMember; simp [mUG, show mUser (S.1 0) u = false from b6])
             rw [e9]
             exact ⟨rfl, hM⟩)
          | (have e9 : mq_isMember S u g = mQ S 1 (0) := by (unfold mq_isMember; simp [mUG, show mUser (S.1 0) u = true from b6, show mGroup (S.1 0) g = false from b14])
             rw [e9]
             exact ⟨rfl, hM⟩)
          | (have e9 : mq_isMember S u (nI g) = mQ S 0 (bI (mHas (S.1 0 (2 + g)) u)) := by (unfold mq_isMember; simp [mUG, show mUser (S.1 0) u = true from b6, show mGroup (S.1 0) (nI g) = true from b14, mN_i (show g < 2147483648 by omega)])
             rw [e9]
             exact ⟨by first | exact rv1 b44 | exact rv0 b44, hM⟩)
      · have b44 := bI_n0 c44
        refine aw_iconst (v := 1) hX dX4_isMember_47 (by decide) ?_
        refine aw_goto hX (tgt := 52) dX4_isMember_48 (by decide) ?_
        refine aw_zret hX (by first | rfl | exact bI_n _ | (split <;> rfl)) (Nat.le_refl _) (Nat.le_refl _) dX4_isMember_52 (hq _ _ ?_)
        first
          | (have e9 : mq_isMember S u g = mQ S 1 (0) := by (unfold mq_isMember; simp [mUG, show mUser (S.1 0) u = false from b6])
             rw [e9]
             exact ⟨rfl, hM⟩)
          | (have e9 : mq_isMember S u g = mQ S 1 (0) := by (unfold mq_isMember; simp [mUG, show mUser (S.1 0) u = true from b6, show mGroup (S.1 0) g = false from b14])
             rw [e9]
             exact ⟨rfl, hM⟩)
          | (have e9 : mq_isMember S u (nI g) = mQ S 0 (bI (mHas (S.1 0 (2 + g)) u)) := by (unfold mq_isMember; simp [mUG, show mUser (S.1 0) u = true from b6, show mGroup (S.1 0) (nI g) = true from b14, mN_i (show g < 2147483648 by omega)])
             rw [e9]
             exact ⟨by first | exact rv1 b44 | exact rv0 b44, hM⟩)
set_option maxHeartbeats 4000000 in
set_option maxRecDepth 100000 in
theorem c_X4_isNested {D : Gd} {fr : Nat} {m : Nat} {ad : Nat → Nat} {S : Ms} {h : Hm} (hM : MW m ad S h) (hf : 2 ≤ fr) (ok : mWf (S.1 0)) (i o : Int32) : MC D fr yX4_isNested cX4_isNested 3 (some .boolean) m ad h [.int i, .int o] (some (.int (mq_isNested S i o).2.1)) ((mq_isNested S i o).2.2) := by
  refine AM.of (lv := [some (.ref m), some (.int i), some (.int o)]) (by decide +kernel) (Nat.le_of_ble_eq_true rfl) rfl (fun z hX hq _ => ?_)
  have hM := hM.rf
  refine aw_ald0 hX dX4_isNested_0 ?_
  refine aw_ald0 hX dX4_isNested_1 ?_
  refine aw_ild1 hX dX4_isNested_2 ?_
  refine mm_call hX hM lk_X4_85 rfl (c_X4_isGroup (fr := fr - 1) hM.1 (by omega) _) rfl rfl (Nat.le_of_ble_eq_true rfl) (by omega) (by decide) (Nat.le_refl _) (Nat.le_refl _) dX4_isNested_3 (fun hp hM => ?_)
  refine aw_if_eq hX (tgt := 21) dX4_isNested_6 (by decide) (fun c6 => ?_) (fun c6 => ?_)
  · have b6 := bI_0' c6
    refine aw_iconst (v := 1) hX dX4_isNested_21 (by decide) ?_
    refine mm_put hX hM 1 fp_X4_39 (by decide) dX4_isNested_22 (fun hp hM => ?_)
    refine aw_ald0 hX dX4_isNested_25 ?_
    refine mm_get hX hM fg_X4_39 rfl dX4_isNested_26 ?_
    refine aw_if_ne hX (tgt := 52) dX4_isNested_29 (by decide) (fun _ => ?_) (fun c => absurd c (by first | (rw [sV_at]; done) | (rw [sV_at]; decide)))
    refine aw_iconst (v := 0) hX dX4_isNested_52 (by decide) ?_
    refine aw_zret hX (by first | rfl | exact bI_n _ | (split <;> rfl)) (Nat.le_refl _) (Nat.le_refl _) dX4_isNested_53 (hq _ _ ?_)
    first
      | (have e9 : mq_isNested S i o = mQ S 1 (0) := by (unfold mq_isNested; simp [show mGroup (S.1 0) i = false from b6])
         rw [e9]
         exact ⟨rfl, hM⟩)
      | (have e9 : mq_isNested S i o = mQ S 1 (0) := by (unfold mq_isNested; simp [show mGroup (S.1 0) i = true from b6, show mGroup (S.1 0) o = false from b14])
         rw [e9]
         exact ⟨rfl, hM⟩)
      | (have e9 : mq_isNested S (nI i) o = mQ S 0 (bI (mHas (S.1 0 (10 + i)) o)) := by (unfold mq_isNested; simp [show mGroup (S.1 0) (nI i) = true from b6, show mGroup (S.1 0) o = true from b14, mN_i (show i < 2147483648 by omega)])
         rw [e9]
         exact ⟨by first | exact rv1 b45 | exact rv0 b45, hM⟩)
  · have b6 := bI_n0 c6
    refine aw_ald0 hX dX4_isNested_9 ?_
    refine aw_ild2 hX dX4_isNested_10 ?_
    refine mm_call hX hM lk_X4_85 rfl (c_X4_isGroup (fr := fr - 1) hM.1 (by omega) _) rfl rfl (Nat.le_of_ble_eq_true rfl) (by omega) (by decide) (Nat.le_refl _) (Nat.le_refl _) dX4_isNested_11 (fun hp hM => ?_)
    refine aw_if_eq hX (tgt := 21) dX4_isNested_14 (by decide) (fun c14 => ?_) (fun c14 => ?_)
    · have b14 := bI_0' c14
      refine aw_iconst (v := 1) hX dX4_isNested_21 (by decide) ?_
      refine mm_put hX hM 1 fp_X4_39 (by decide) dX4_isNested_22 (fun hp hM => ?_)
      refine aw_ald0 hX dX4_isNested_25 ?_
      refine mm_get hX hM fg_X4_39 rfl dX4_isNested_26 ?_
      refine aw_if_ne hX (tgt := 52) dX4_isNested_29 (by decide) (fun _ => ?_) (fun c => absurd c (by first | (rw [sV_at]; done) | (rw [sV_at]; decide)))
      refine aw_iconst (v := 0) hX dX4_isNested_52 (by decide) ?_
      refine aw_zret hX (by first | rfl | exact bI_n _ | (split <;> rfl)) (Nat.le_refl _) (Nat.le_refl _) dX4_isNested_53 (hq _ _ ?_)
      first
        | (have e9 : mq_isNested S i o = mQ S 1 (0) := by (unfold mq_isNested; simp [show mGroup (S.1 0) i = false from b6])
           rw [e9]
           exact ⟨rfl, hM⟩)
        | (have e9 : mq_isNested S i o = mQ S 1 (0) := by (unfold mq_isNested; simp [show mGroup (S.1 0) i = true from b6, show mGroup (S.1 0) o = false from b14])
           rw [e9]
           exact ⟨rfl, hM⟩)
        | (have e9 : mq_isNested S (nI i) o = mQ S 0 (bI (mHas (S.1 0 (10 + i)) o)) := by (unfold mq_isNested; simp [show mGroup (S.1 0) (nI i) = true from b6, show mGroup (S.1 0) o = true from b14, mN_i (show i < 2147483648 by omega)])
           rw [e9]
           exact ⟨by first | exact rv1 b45 | exact rv0 b45, hM⟩)
    · have b14 := bI_n0 c14
      refine aw_iconst (v := 0) hX dX4_isNested_17 (by decide) ?_
      refine aw_goto hX (tgt := 22) dX4_isNested_18 (by decide) ?_
      refine mm_put hX hM 1 fp_X4_39 (by decide) dX4_isNested_22 (fun hp hM => ?_)
      refine aw_ald0 hX dX4_isNested_25 ?_
      refine mm_get hX hM fg_X4_39 rfl dX4_isNested_26 ?_
      refine aw_if_ne hX (tgt := 52) dX4_isNested_29 (by decide) (fun c => absurd (by rw [sV_at]) c) (fun _ => ?_)
      obtain ⟨i, hi, rfl⟩ := mGroup_lt ok b6
      refine aw_ald0 hX dX4_isNested_32 ?_
      refine mm_get hX hM fg_X4_7 rfl dX4_isNested_33 ?_
      refine aw_bipush (v := 10) hX dX4_isNested_36 (by decide) ?_
      refine aw_ild1 hX dX4_isNested_38 ?_
      refine aw_iadd hX dX4_isNested_39 ?_
      refine mm_ld hX hM (by decide) (10 + i) (nI_add 10 i) (by simp only [mLen]; omega) dX4_isNested_40 ?_
      refine aw_ild2 hX dX4_isNested_41 ?_
      refine ss_call hX lk_X4_65 (c_X4_has (fr := fr - 1) (by omega) _ _) rfl rfl (Nat.le_of_ble_eq_true rfl) (by omega) (by decide) (Nat.le_refl _) (Nat.le_refl _) dX4_isNested_42 ?_
      refine aw_if_eq hX (tgt := 52) dX4_isNested_45 (by decide) (fun c45 => ?_) (fun c45 => ?_)
      · have b45 := bI_0' c45
        refine aw_iconst (v := 0) hX dX4_isNested_52 (by decide) ?_
        refine aw_zret hX (by first | rfl | exact bI_n _ | (split <;> rfl)) (Nat.le_refl _) (Nat.le_refl _) dX4_isNested_53 (hq _ _ ?_)
        first
          | (have e9 : mq_isNested S i o = mQ S 1 (0) := by (unfold mq_isNested; simp [show mGroup (S.1 0) i = false from b6])
             rw [e9]
             exact ⟨rfl, hM⟩)
          | (have e9 : mq_isNested S i o = mQ S 1 (0) := by (unfold mq_isNested; simp [show mGroup (S.1 0) i = true from b6, show mGroup (S.1 0) o = false from b14])
             rw [e9]
             exact ⟨rfl, hM⟩)
          | (have e9 : mq_isNested S (nI i) o = mQ S 0 (bI (mHas (S.1 0 (10 + i)) o)) := by (unfold mq_isNested; simp [show mGroup (S.1 0) (nI i) = true from b6, show mGroup (S.1 0) o = true from b14, mN_i (show i < 2147483648 by omega)])
             rw [e9]
             exact ⟨by first | exact rv1 b45 | exact rv0 b45, hM⟩)
      · have b45 := bI_n0 c45
        refine aw_iconst (v := 1) hX dX4_isNested_48 (by decide) ?_
        refine aw_goto hX (tgt := 53) dX4_isNested_49 (by decide) ?_
        refine aw_zret hX (by first | rfl | exact bI_n _ | (split <;> rfl)) (Nat.le_refl _) (Nat.le_refl _) dX4_isNested_53 (hq _ _ ?_)
        first
          | (have e9 : mq_isNested S i o = mQ S 1 (0) := by (unfold mq_isNested; simp [show mGroup (S.1 0) i = false from b6])
             rw [e9]
             exact ⟨rfl, hM⟩)
          | (have e9 : mq_isNested S i o = mQ S 1 (0) := by (unfold mq_isNested; simp [show mGroup (S.1 0) i = true from b6, show mGroup (S.1 0) o = false from b14])
             rw [e9]
             exact ⟨rfl, hM⟩)
          | (have e9 : mq_isNested S (nI i) o = mQ S 0 (bI (mHas (S.1 0 (10 + i)) o)) := by (unfold mq_isNested; simp [show mGroup (S.1 0) (nI i) = true from b6, show mGroup (S.1 0) o = true from b14, mN_i (show i < 2147483648 by omega)])
             rw [e9]
             exact ⟨by first | exact rv1 b45 | exact rv0 b45, hM⟩)
set_option maxHeartbeats 4000000 in
set_option maxRecDepth 100000 in
theorem c_X4_isOfGroup {D : Gd} {fr : Nat} {m : Nat} {ad : Nat → Nat} {S : Ms} {h : Hm} (hM : MW m ad S h) (hf : 3 ≤ fr) (ok : mWf (S.1 0)) (u g : Int32) : MC D fr yX4_isOfGroup cX4_isOfGroup 3 (some .boolean) m ad h [.int u, .int g] (some (.int (mq_isOfGroup S u g).2.1)) ((mq_isOfGroup S u g).2.2) := by
  refine AM.of (lv := [some (.ref m), some (.int u), some (.int g)]) (by decide +kernel) (Nat.le_of_ble_eq_true rfl) rfl (fun z hX hq _ => ?_)
  have hM := hM.rf
  refine aw_ald0 hX dX4_isOfGroup_0 ?_
  refine aw_ald0 hX dX4_isOfGroup_1 ?_
  refine aw_ild1 hX dX4_isOfGroup_2 ?_
  refine mm_call hX hM lk_X4_82 rfl (c_X4_isUser (fr := fr - 1) hM.1 (by omega) _) rfl rfl (Nat.le_of_ble_eq_true rfl) (by omega) (by decide) (Nat.le_refl _) (Nat.le_refl _) dX4_isOfGroup_3 (fun hp hM => ?_)
  refine aw_if_eq hX (tgt := 21) dX4_isOfGroup_6 (by decide) (fun c6 => ?_) (fun c6 => ?_)
  · have b6 := bI_0' c6
    refine aw_iconst (v := 1) hX dX4_isOfGroup_21 (by decide) ?_
    refine mm_put hX hM 1 fp_X4_39 (by decide) dX4_isOfGroup_22 (fun hp hM => ?_)
    refine aw_ald0 hX dX4_isOfGroup_25 ?_
    refine mm_get hX hM fg_X4_39 rfl dX4_isOfGroup_26 ?_
    refine aw_if_ne hX (tgt := 45) dX4_isOfGroup_29 (by decide) (fun _ => ?_) (fun c => absurd c (by first | (rw [sV_at]; done) | (rw [sV_at]; decide)))
    refine aw_iconst (v := 0) hX dX4_isOfGroup_45 (by decide) ?_
    refine aw_zret hX (by first | rfl | exact bI_n _ | (split <;> rfl)) (Nat.le_refl _) (Nat.le_refl _) dX4_isOfGroup_46 (hq _ _ ?_)
    first
      | (have e9 : mq_isOfGroup S u g = mQ S 1 (0) := by (unfold mq_isOfGroup; simp [mUG, show mUser (S.1 0) u = false from b6])
         rw [e9]
         exact ⟨rfl, hM⟩)
      | (have e9 : mq_isOfGroup S u g = mQ S 1 (0) := by (unfold mq_isOfGroup; simp [mUG, show mUser (S.1 0) u = true from b6, show mGroup (S.1 0) g = false from b14])
         rw [e9]
         exact ⟨rfl, hM⟩)
      | (have e9 : mq_isOfGroup S u (nI g) = mQ S 0 (bI (mIsOf (S.1 0) u g ng)) := by (unfold mq_isOfGroup; simp [mUG, show mUser (S.1 0) u = true from b6, show mGroup (S.1 0) (nI g) = true from b14, mN_i (show g < 2147483648 by omega), show S.1 0 1 = nI ng from eg, mN_i (show ng < 2147483648 by omega)])
         rw [e9]
         exact ⟨by first | exact rv1 b38 | exact rv0 b38, hM⟩)
  · have b6 := bI_n0 c6
    refine aw_ald0 hX dX4_isOfGroup_9 ?_
    refine aw_ild2 hX dX4_isOfGroup_10 ?_
    refine mm_call hX hM lk_X4_85 rfl (c_X4_isGroup (fr := fr - 1) hM.1 (by omega) _) rfl rfl (Nat.le_of_ble_eq_true rfl) (by omega) (by decide) (Nat.le_refl _) (Nat.le_refl _) dX4_isOfGroup_11 (fun hp hM => ?_)
    refine aw_if_eq hX (tgt := 21) dX4_isOfGroup_14 (by decide) (fun c14 => ?_) (fun c14 => ?_)
    · have b14 := bI_0' c14
      refine aw_iconst (v := 1) hX dX4_isOfGroup_21 (by decide) ?_
      refine mm_put hX hM 1 fp_X4_39 (by decide) dX4_isOfGroup_22 (fun hp hM => ?_)
      refine aw_ald0 hX dX4_isOfGroup_25 ?_
      refine mm_get hX hM fg_X4_39 rfl dX4_isOfGroup_26 ?_
      refine aw_if_ne hX (tgt := 45) dX4_isOfGroup_29 (by decide) (fun _ => ?_) (fun c => absurd c (by first | (rw [sV_at]; done) | (rw [sV_at]; decide)))
      refine aw_iconst (v := 0) hX dX4_isOfGroup_45 (by decide) ?_
      refine aw_zret hX (by first | rfl | exact bI_n _ | (split <;> rfl)) (Nat.le_refl _) (Nat.le_refl _) dX4_isOfGroup_46 (hq _ _ ?_)
      first
        | (have e9 : mq_isOfGroup S u g = mQ S 1 (0) := by (unfold mq_isOfGroup; simp [mUG, show mUser (S.1 0) u = false from b6])
           rw [e9]
           exact ⟨rfl, hM⟩)
        | (have e9 : mq_isOfGroup S u g = mQ S 1 (0) := by (unfold mq_isOfGroup; simp [mUG, show mUser (S.1 0) u = true from b6, show mGroup (S.1 0) g = false from b14])
           rw [e9]
           exact ⟨rfl, hM⟩)
        | (have e9 : mq_isOfGroup S u (nI g) = mQ S 0 (bI (mIsOf (S.1 0) u g ng)) := by (unfold mq_isOfGroup; simp [mUG, show mUser (S.1 0) u = true from b6, show mGroup (S.1 0) (nI g) = true from b14, mN_i (show g < 2147483648 by omega), show S.1 0 1 = nI ng from eg, mN_i (show ng < 2147483648 by omega)])
           rw [e9]
           exact ⟨by first | exact rv1 b38 | exact rv0 b38, hM⟩)
    · have b14 := bI_n0 c14
      refine aw_iconst (v := 0) hX dX4_isOfGroup_17 (by decide) ?_
      refine aw_goto hX (tgt := 22) dX4_isOfGroup_18 (by decide) ?_
      refine mm_put hX hM 1 fp_X4_39 (by decide) dX4_isOfGroup_22 (fun hp hM => ?_)
      refine aw_ald0 hX dX4_isOfGroup_25 ?_
      refine mm_get hX hM fg_X4_39 rfl dX4_isOfGroup_26 ?_
      refine aw_if_ne hX (tgt := 45) dX4_isOfGroup_29 (by decide) (fun c => absurd (by rw [sV_at]) c) (fun _ => ?_)
      obtain ⟨g, hg, rfl⟩ := mGroup_lt ok b14
      obtain ⟨ng, hng, eg⟩ := ok.g
      refine aw_ald0 hX dX4_isOfGroup_32 ?_
      refine aw_ild1 hX dX4_isOfGroup_33 ?_
      refine aw_ild2 hX dX4_isOfGroup_34 ?_
      refine mm_call hX hM lk_X4_73 rfl (c_X4_isOf (fr := fr - 1) hM.1 (by omega) u g ng hg hng eg) rfl rfl (Nat.le_of_ble_eq_true rfl) (by omega) (by decide) (Nat.le_refl _) (Nat.le_refl _) dX4_isOfGroup_35 (fun hp hM => ?_)
      refine aw_if_eq hX (tgt := 45) dX4_isOfGroup_38 (by decide) (fun c38 => ?_) (fun c38 => ?_)
      · have b38 := bI_0' c38
        refine aw_iconst (v := 0) hX dX4_isOfGroup_45 (by decide) ?_
        refine aw_zret hX (by first | rfl | exact bI_n _ | (split <;> rfl)) (Nat.le_refl _) (Nat.le_refl _) dX4_isOfGroup_46 (hq _ _ ?_)
        first
          | (have e9 : mq_isOfGroup S u g = mQ S 1 (0) := by (unfold mq_isOfGroup; simp [mUG, show mUser (S.1 0) u = false from b6])
             rw [e9]
             exact ⟨rfl, hM⟩)
          | (have e9 : mq_isOfGroup S u g = mQ S 1 (0) := by (unfold mq_isOfGroup; simp [mUG, show mUser (S.1 0) u = true from b6, show mGroup (S.1 0) g = false from b14])
             rw [e9]
             exact ⟨rfl, hM⟩)
          | (have e9 : mq_isOfGroup S u (nI g) = mQ S 0 (bI (mIsOf (S.1 0) u g ng)) := by (unfold mq_isOfGroup; simp [mUG, show mUser (S.1 0) u = true from b6, show mGroup (S.1 0) (nI g) = true from b14, mN_i (show g < 2147483648 by omega), show S.1 0 1 = nI ng from eg, mN_i (show ng < 2147483648 by omega)])
             rw [e9]
             exact ⟨by first | exact rv1 b38 | exact rv0 b38, hM⟩)
      · have b38 := bI_n0 c38
        refine aw_iconst (v := 1) hX dX4_isOfGroup_41 (by decide) ?_
        refine aw_goto hX (tgt := 46) dX4_isOfGroup_42 (by decide) ?_
        refine aw_zret hX (by first | rfl | exact bI_n _ | (split <;> rfl)) (Nat.le_refl _) (Nat.le_refl _) dX4_isOfGroup_46 (hq _ _ ?_)
        first
          | (have e9 : mq_isOfGroup S u g = mQ S 1 (0) := by (unfold mq_isOfGroup; simp [mUG, show mUser (S.1 0) u = false from b6])
             rw [e9]
             exact ⟨rfl, hM⟩)
          | (have e9 : mq_isOfGroup S u g = mQ S 1 (0) := by (unfold mq_isOfGroup; simp [mUG, show mUser (S.1 0) u = true from b6, show mGroup (S.1 0) g = false from b14])
             rw [e9]
             exact ⟨rfl, hM⟩)
          | (have e9 : mq_isOfGroup S u (nI g) = mQ S 0 (bI (mIsOf (S.1 0) u g ng)) := by (unfold mq_isOfGroup; simp [mUG, show mUser (S.1 0) u = true from b6, show mGroup (S.1 0) (nI g) = true from b14, mN_i (show g < 2147483648 by omega), show S.1 0 1 = nI ng from eg, mN_i (show ng < 2147483648 by omega)])
             rw [e9]
             exact ⟨by first | exact rv1 b38 | exact rv0 b38, hM⟩)
set_option maxHeartbeats 4000000 in
set_option maxRecDepth 100000 in
theorem c_X4_belongs {D : Gd} {fr : Nat} {m : Nat} {ad : Nat → Nat} {S : Ms} {h : Hm} (hM : MW m ad S h) (hf : 4 ≤ fr) (ok : mWf (S.1 0)) (u g : Int32) : MC D fr yX4_belongs cX4_belongs 3 (some .boolean) m ad h [.int u, .int g] (some (.int (mq_isOfGroup S u g).2.1)) ((mq_isOfGroup S u g).2.2) := by
  refine AM.of (lv := [some (.ref m), some (.int u), some (.int g)]) (by decide +kernel) (Nat.le_of_ble_eq_true rfl) rfl (fun z hX hq _ => ?_)
  have hM := hM.rf
  refine aw_ald0 hX dX4_belongs_0 ?_
  refine aw_ild1 hX dX4_belongs_1 ?_
  refine aw_ild2 hX dX4_belongs_2 ?_
  refine mm_call hX hM lk_X4_209 rfl (c_X4_isOfGroup (fr := fr - 1) hM.1 (by omega) ok u g) rfl rfl (Nat.le_of_ble_eq_true rfl) (by omega) (by decide) (Nat.le_refl _) (Nat.le_refl _) dX4_belongs_3 (fun hp hM => ?_)
  refine aw_zret hX (by unfold mq_isOfGroup; split <;> first | exact bI_n _ | exact bI_n false) (Nat.le_refl _) (Nat.le_refl _) dX4_belongs_6 (hq _ _ ?_)
  exact ⟨rfl, hM⟩
set_option maxHeartbeats 4000000 in
set_option maxRecDepth 100000 in
theorem c_X4_belongsByMembers {D : Gd} {fr : Nat} {m : Nat} {ad : Nat → Nat} {S : Ms} {h : Hm} (hM : MW m ad S h) (hf : 4 ≤ fr) (ok : mWf (S.1 0)) (u g : Int32) : MC D fr yX4_belongsByMembers cX4_belongsByMembers 3 (some .boolean) m ad h [.int u, .int g] (some (.int (mq_isOfGroup S u g).2.1)) ((mq_isOfGroup S u g).2.2) := by
  refine AM.of (lv := [some (.ref m), some (.int u), some (.int g)]) (by decide +kernel) (Nat.le_of_ble_eq_true rfl) rfl (fun z hX hq _ => ?_)
  have hM := hM.rf
  refine aw_ald0 hX dX4_belongsByMembers_0 ?_
  refine aw_ild1 hX dX4_belongsByMembers_1 ?_
  refine aw_ild2 hX dX4_belongsByMembers_2 ?_
  refine mm_call hX hM lk_X4_209 rfl (c_X4_isOfGroup (fr := fr - 1) hM.1 (by omega) ok u g) rfl rfl (Nat.le_of_ble_eq_true rfl) (by omega) (by decide) (Nat.le_refl _) (Nat.le_refl _) dX4_belongsByMembers_3 (fun hp hM => ?_)
  refine aw_zret hX (by unfold mq_isOfGroup; split <;> first | exact bI_n _ | exact bI_n false) (Nat.le_refl _) (Nat.le_refl _) dX4_belongsByMembers_6 (hq _ _ ?_)
  exact ⟨rfl, hM⟩
set_option maxHeartbeats 4000000 in
set_option maxRecDepth 100000 in
theorem c_X4_objects {D : Gd} {fr : Nat} {m : Nat} {ad : Nat → Nat} {S : Ms} {h : Hm} (hM : MW m ad S h) (hf : 3 ≤ fr) (ok : mWf (S.1 0))  : MC D fr yX4_objects cX4_objects 1 (some .int) m ad h [] (some (.int (mQ S 0 (nI (mCount (S.1 0)))).2.1)) ((mQ S 0 (nI (mCount (S.1 0)))).2.2) := by
  refine AM.of (lv := [some (.ref m)]) (by decide +kernel) (Nat.le_of_ble_eq_true rfl) rfl (fun z hX hq _ => ?_)
  have hM := hM.rf
  refine aw_ald0 hX dX4_objects_0 ?_
  refine aw_iconst (v := 0) hX dX4_objects_1 (by decide) ?_
  refine mm_put hX hM 1 fp_X4_39 (by decide) dX4_objects_2 (fun hp hM => ?_)
  refine aw_ald0 hX dX4_objects_5 ?_
  refine mm_call hX hM lk_X4_94 rfl (c_X4_howManyObjects (fr := fr - 1) hM.1 (by omega) ok.th) rfl rfl (Nat.le_of_ble_eq_true rfl) (by omega) (by decide) (Nat.le_refl _) (Nat.le_refl _) dX4_objects_6 (fun hp hM => ?_)
  refine aw_iret hX (Nat.le_refl _) (Nat.le_refl _) dX4_objects_9 (hq _ _ ?_)
  exact ⟨rfl, hM⟩
set_option maxHeartbeats 4000000 in
set_option maxRecDepth 100000 in
theorem c_X4_isThere {D : Gd} {fr : Nat} {m : Nat} {ad : Nat → Nat} {S : Ms} {h : Hm} (hM : MW m ad S h) (hf : 3 ≤ fr) (ok : mWf (S.1 0)) (o : Int32) : MC D fr yX4_isThere cX4_isThere 2 (some .boolean) m ad h [.int o] (some (.int (mQ S 0 (bI (mObj (S.1 0) o))).2.1)) ((mQ S 0 (bI (mObj (S.1 0) o))).2.2) := by
  refine AM.of (lv := [some (.ref m), some (.int o)]) (by decide +kernel) (Nat.le_of_ble_eq_true rfl) rfl (fun z hX hq _ => ?_)
  have hM := hM.rf
  refine aw_ald0 hX dX4_isThere_0 ?_
  refine aw_iconst (v := 0) hX dX4_isThere_1 (by decide) ?_
  refine mm_put hX hM 1 fp_X4_39 (by decide) dX4_isThere_2 (fun hp hM => ?_)
  refine aw_ald0 hX dX4_isThere_5 ?_
  refine aw_ild1 hX dX4_isThere_6 ?_
  refine mm_call hX hM lk_X4_57 rfl (c_X4_isObject (fr := fr - 1) hM.1 (by omega) o) rfl rfl (Nat.le_of_ble_eq_true rfl) (by omega) (by decide) (Nat.le_refl _) (Nat.le_refl _) dX4_isThere_7 (fun hp hM => ?_)
  refine aw_zret hX (by first | rfl | exact bI_n _ | (split <;> rfl)) (Nat.le_refl _) (Nat.le_refl _) dX4_isThere_10 (hq _ _ ?_)
  exact ⟨rfl, hM⟩
set_option maxHeartbeats 4000000 in
set_option maxRecDepth 100000 in
theorem c_X4_ofObject {D : Gd} {fr : Nat} {m : Nat} {ad : Nat → Nat} {S : Ms} {h : Hm} (hM : MW m ad S h) (hf : 3 ≤ fr) (ok : mWf (S.1 0)) (o : Int32) (w : Nat) (hw : w < 36) : MC D fr yX4_ofObject cX4_ofObject 3 (some .int) m ad h [.int o, .int (nI w)] (some (.int (mq_ofObject S o w).2.1)) ((mq_ofObject S o w).2.2) := by
  refine AM.of (lv := [some (.ref m), some (.int o), some (.int (nI w))]) (by decide +kernel) (Nat.le_of_ble_eq_true rfl) rfl (fun z hX hq _ => ?_)
  have hM := hM.rf
  refine aw_ald0 hX dX4_ofObject_0 ?_
  refine aw_ald0 hX dX4_ofObject_1 ?_
  refine aw_ild1 hX dX4_ofObject_2 ?_
  refine mm_call hX hM lk_X4_57 rfl (c_X4_isObject (fr := fr - 1) hM.1 (by omega) _) rfl rfl (Nat.le_of_ble_eq_true rfl) (by omega) (by decide) (Nat.le_refl _) (Nat.le_refl _) dX4_ofObject_3 (fun hp hM => ?_)
  refine aw_if_eq hX (tgt := 13) dX4_ofObject_6 (by decide) (fun c6 => ?_) (fun c6 => ?_)
  · have b6 := bI_0' c6
    refine aw_iconst (v := 1) hX dX4_ofObject_13 (by decide) ?_
    refine mm_put hX hM 1 fp_X4_39 (by decide) dX4_ofObject_14 (fun hp hM => ?_)
    refine aw_ald0 hX dX4_ofObject_17 ?_
    refine mm_get hX hM fg_X4_39 rfl dX4_ofObject_18 ?_
    refine aw_if_ne hX (tgt := 33) dX4_ofObject_21 (by decide) (fun _ => ?_) (fun c => absurd c (by first | (rw [sV_at]; done) | (rw [sV_at]; decide)))
    refine aw_iconst (v := 0) hX dX4_ofObject_33 (by decide) ?_
    refine aw_iret hX (Nat.le_refl _) (Nat.le_refl _) dX4_ofObject_34 (hq _ _ ?_)
    first
      | (have e9 : mq_ofObject S o w = mQ S 1 (0) := by (unfold mq_ofObject; simp [show mObj (S.1 0) o = false from b6])
         rw [e9]
         exact ⟨rfl, hM⟩)
      | (have e9 : mq_ofObject S (nI o) w = mQ S 0 (S.1 0 (mO o w)) := by (unfold mq_ofObject; simp [show mObj (S.1 0) (nI o) = true from b6, mN_i (show o < 2147483648 by omega)])
         rw [e9]
         exact ⟨rfl, hM⟩)
  · have b6 := bI_n0 c6
    refine aw_iconst (v := 0) hX dX4_ofObject_9 (by decide) ?_
    refine aw_goto hX (tgt := 14) dX4_ofObject_10 (by decide) ?_
    refine mm_put hX hM 1 fp_X4_39 (by decide) dX4_ofObject_14 (fun hp hM => ?_)
    refine aw_ald0 hX dX4_ofObject_17 ?_
    refine mm_get hX hM fg_X4_39 rfl dX4_ofObject_18 ?_
    refine aw_if_ne hX (tgt := 33) dX4_ofObject_21 (by decide) (fun c => absurd (by rw [sV_at]) c) (fun _ => ?_)
    obtain ⟨o, ho, rfl, ho1⟩ := mObj_of b6
    refine aw_ald0 hX dX4_ofObject_24 ?_
    refine aw_ild1 hX dX4_ofObject_25 ?_
    refine aw_ild2 hX dX4_ofObject_26 ?_
    refine mm_call hX hM lk_X4_54 rfl (c_X4_of (fr := fr - 1) hM.1 (by omega) o w ho hw) rfl rfl (Nat.le_of_ble_eq_true rfl) (by omega) (by decide) (Nat.le_refl _) (Nat.le_refl _) dX4_ofObject_27 (fun hp hM => ?_)
    refine aw_goto hX (tgt := 34) dX4_ofObject_30 (by decide) ?_
    refine aw_iret hX (Nat.le_refl _) (Nat.le_refl _) dX4_ofObject_34 (hq _ _ ?_)
    first
      | (have e9 : mq_ofObject S o w = mQ S 1 (0) := by (unfold mq_ofObject; simp [show mObj (S.1 0) o = false from b6])
         rw [e9]
         exact ⟨rfl, hM⟩)
      | (have e9 : mq_ofObject S (nI o) w = mQ S 0 (S.1 0 (mO o w)) := by (unfold mq_ofObject; simp [show mObj (S.1 0) (nI o) = true from b6, mN_i (show o < 2147483648 by omega)])
         rw [e9]
         exact ⟨rfl, hM⟩)
set_option maxHeartbeats 4000000 in
set_option maxRecDepth 100000 in
theorem c_X4_parentOf {D : Gd} {fr : Nat} {m : Nat} {ad : Nat → Nat} {S : Ms} {h : Hm} (hM : MW m ad S h) (hf : 4 ≤ fr) (ok : mWf (S.1 0)) (o : Int32) : MC D fr yX4_parentOf cX4_parentOf 2 (some .int) m ad h [.int o] (some (.int (mq_ofObject S o 1).2.1)) ((mq_ofObject S o 1).2.2) := by
  refine AM.of (lv := [some (.ref m), some (.int o)]) (by decide +kernel) (Nat.le_of_ble_eq_true rfl) rfl (fun z hX hq _ => ?_)
  have hM := hM.rf
  refine aw_ald0 hX dX4_parentOf_0 ?_
  refine aw_ild1 hX dX4_parentOf_1 ?_
  refine aw_iconst (v := 1) hX dX4_parentOf_2 (by decide) ?_
  refine mm_call hX hM lk_X4_212 rfl (c_X4_ofObject (fr := fr - 1) hM.1 (by omega) ok o 1 (by decide)) rfl rfl (Nat.le_of_ble_eq_true rfl) (by omega) (by decide) (Nat.le_refl _) (Nat.le_refl _) dX4_parentOf_3 (fun hp hM => ?_)
  refine aw_iret hX (Nat.le_refl _) (Nat.le_refl _) dX4_parentOf_6 (hq _ _ ?_)
  exact ⟨rfl, hM⟩
set_option maxHeartbeats 4000000 in
set_option maxRecDepth 100000 in
theorem c_X4_ownerOf {D : Gd} {fr : Nat} {m : Nat} {ad : Nat → Nat} {S : Ms} {h : Hm} (hM : MW m ad S h) (hf : 4 ≤ fr) (ok : mWf (S.1 0)) (o : Int32) : MC D fr yX4_ownerOf cX4_ownerOf 2 (some .int) m ad h [.int o] (some (.int (mq_ofObject S o 2).2.1)) ((mq_ofObject S o 2).2.2) := by
  refine AM.of (lv := [some (.ref m), some (.int o)]) (by decide +kernel) (Nat.le_of_ble_eq_true rfl) rfl (fun z hX hq _ => ?_)
  have hM := hM.rf
  refine aw_ald0 hX dX4_ownerOf_0 ?_
  refine aw_ild1 hX dX4_ownerOf_1 ?_
  refine aw_iconst (v := 2) hX dX4_ownerOf_2 (by decide) ?_
  refine mm_call hX hM lk_X4_212 rfl (c_X4_ofObject (fr := fr - 1) hM.1 (by omega) ok o 2 (by decide)) rfl rfl (Nat.le_of_ble_eq_true rfl) (by omega) (by decide) (Nat.le_refl _) (Nat.le_refl _) dX4_ownerOf_3 (fun hp hM => ?_)
  refine aw_iret hX (Nat.le_refl _) (Nat.le_refl _) dX4_ownerOf_6 (hq _ _ ?_)
  exact ⟨rfl, hM⟩
set_option maxHeartbeats 4000000 in
set_option maxRecDepth 100000 in
theorem c_X4_maskOf {D : Gd} {fr : Nat} {m : Nat} {ad : Nat → Nat} {S : Ms} {h : Hm} (hM : MW m ad S h) (hf : 4 ≤ fr) (ok : mWf (S.1 0)) (o : Int32) : MC D fr yX4_maskOf cX4_maskOf 2 (some .int) m ad h [.int o] (some (.int (mq_ofObject S o 3).2.1)) ((mq_ofObject S o 3).2.2) := by
  refine AM.of (lv := [some (.ref m), some (.int o)]) (by decide +kernel) (Nat.le_of_ble_eq_true rfl) rfl (fun z hX hq _ => ?_)
  have hM := hM.rf
  refine aw_ald0 hX dX4_maskOf_0 ?_
  refine aw_ild1 hX dX4_maskOf_1 ?_
  refine aw_iconst (v := 3) hX dX4_maskOf_2 (by decide) ?_
  refine mm_call hX hM lk_X4_212 rfl (c_X4_ofObject (fr := fr - 1) hM.1 (by omega) ok o 3 (by decide)) rfl rfl (Nat.le_of_ble_eq_true rfl) (by omega) (by decide) (Nat.le_refl _) (Nat.le_refl _) dX4_maskOf_3 (fun hp hM => ?_)
  refine aw_iret hX (Nat.le_refl _) (Nat.le_refl _) dX4_maskOf_6 (hq _ _ ?_)
  exact ⟨rfl, hM⟩
set_option maxHeartbeats 4000000 in
set_option maxRecDepth 100000 in
theorem c_X4_entriesOf {D : Gd} {fr : Nat} {m : Nat} {ad : Nat → Nat} {S : Ms} {h : Hm} (hM : MW m ad S h) (hf : 4 ≤ fr) (ok : mWf (S.1 0)) (o : Int32) : MC D fr yX4_entriesOf cX4_entriesOf 2 (some .int) m ad h [.int o] (some (.int (mq_ofObject S o 5).2.1)) ((mq_ofObject S o 5).2.2) := by
  refine AM.of (lv := [some (.ref m), some (.int o)]) (by decide +kernel) (Nat.le_of_ble_eq_true rfl) rfl (fun z hX hq _ => ?_)
  have hM := hM.rf
  refine aw_ald0 hX dX4_entriesOf_0 ?_
  refine aw_ild1 hX dX4_entriesOf_1 ?_
  refine aw_iconst (v := 5) hX dX4_entriesOf_2 (by decide) ?_
  refine mm_call hX hM lk_X4_212 rfl (c_X4_ofObject (fr := fr - 1) hM.1 (by omega) ok o 5 (by decide)) rfl rfl (Nat.le_of_ble_eq_true rfl) (by omega) (by decide) (Nat.le_refl _) (Nat.le_refl _) dX4_entriesOf_3 (fun hp hM => ?_)
  refine aw_iret hX (Nat.le_refl _) (Nat.le_refl _) dX4_entriesOf_6 (hq _ _ ?_)
  exact ⟨rfl, hM⟩
set_option maxHeartbeats 4000000 in
set_option maxRecDepth 100000 in
theorem c_X4_isInheriting {D : Gd} {fr : Nat} {m : Nat} {ad : Nat → Nat} {S : Ms} {h : Hm} (hM : MW m ad S h) (hf : 4 ≤ fr) (ok : mWf (S.1 0)) (o : Int32) : MC D fr yX4_isInheriting cX4_isInheriting 2 (some .boolean) m ad h [.int o] (some (.int (mq_isInheriting S o).2.1)) ((mq_isInheriting S o).2.2) := by
  refine AM.of (lv := [some (.ref m), some (.int o)]) (by decide +kernel) (Nat.le_of_ble_eq_true rfl) rfl (fun z hX hq _ => ?_)
  have hM := hM.rf
  refine aw_ald0 hX dX4_isInheriting_0 ?_
  refine aw_ild1 hX dX4_isInheriting_1 ?_
  refine aw_iconst (v := 4) hX dX4_isInheriting_2 (by decide) ?_
  refine mm_call hX hM lk_X4_212 rfl (c_X4_ofObject (fr := fr - 1) hM.1 (by omega) ok o 4 (by decide)) rfl rfl (Nat.le_of_ble_eq_true rfl) (by omega) (by decide) (Nat.le_refl _) (Nat.le_refl _) dX4_isInheriting_3 (fun hp hM => ?_)
  refine aw_iconst (v := 1) hX dX4_isInheriting_6 (by decide) ?_
  refine aw_icmp_ne hX (tgt := 14) dX4_isInheriting_7 (by decide) (fun c7 => ?_) (fun c7 => ?_)
  · refine aw_iconst (v := 0) hX dX4_isInheriting_14 (by decide) ?_
    refine aw_zret hX (by first | rfl | exact bI_n _ | (split <;> rfl)) (Nat.le_refl _) (Nat.le_refl _) dX4_isInheriting_15 (hq _ _ ?_)
    refine ⟨?_, hM.cg ?_⟩
    · cases hb : mObj (S.1 0) o
      · simp_all [mq_isInheriting, mq_ofObject, mQ]
      · simp_all [mq_isInheriting, mq_ofObject, mQ, bI]
    · unfold mq_ofObject mq_isInheriting; split <;> rfl
  · refine aw_iconst (v := 1) hX dX4_isInheriting_10 (by decide) ?_
    refine aw_goto hX (tgt := 15) dX4_isInheriting_11 (by decide) ?_
    refine aw_zret hX (by first | rfl | exact bI_n _ | (split <;> rfl)) (Nat.le_refl _) (Nat.le_refl _) dX4_isInheriting_15 (hq _ _ ?_)
    refine ⟨?_, hM.cg ?_⟩
    · cases hb : mObj (S.1 0) o
      · simp_all [mq_isInheriting, mq_ofObject, mQ]
      · simp_all [mq_isInheriting, mq_ofObject, mQ, bI]
    · unfold mq_ofObject mq_isInheriting; split <;> rfl
set_option maxHeartbeats 4000000 in
set_option maxRecDepth 100000 in
theorem c_X4_below {D : Gd} {fr : Nat} {m : Nat} {ad : Nat → Nat} {S : Ms} {h : Hm} (hM : MW m ad S h) (hf : 4 ≤ fr) (ok : mWf (S.1 0)) (o : Int32) : MC D fr yX4_below cX4_below 2 (some .int) m ad h [.int o] (some (.int (mq_below S o).2.1)) ((mq_below S o).2.2) := by
  refine AM.of (lv := [some (.ref m), some (.int o)]) (by decide +kernel) (Nat.le_of_ble_eq_true rfl) rfl (fun z hX hq _ => ?_)
  have hM := hM.rf
  refine aw_ald0 hX dX4_below_0 ?_
  refine aw_ald0 hX dX4_below_1 ?_
  refine aw_ild1 hX dX4_below_2 ?_
  refine mm_call hX hM lk_X4_57 rfl (c_X4_isObject (fr := fr - 1) hM.1 (by omega) _) rfl rfl (Nat.le_of_ble_eq_true rfl) (by omega) (by decide) (Nat.le_refl _) (Nat.le_refl _) dX4_below_3 (fun hp hM => ?_)
  refine aw_if_eq hX (tgt := 13) dX4_below_6 (by decide) (fun c6 => ?_) (fun c6 => ?_)
  · have b6 := bI_0' c6
    refine aw_iconst (v := 1) hX dX4_below_13 (by decide) ?_
    refine mm_put hX hM 1 fp_X4_39 (by decide) dX4_below_14 (fun hp hM => ?_)
    refine aw_ald0 hX dX4_below_17 ?_
    refine mm_get hX hM fg_X4_39 rfl dX4_below_18 ?_
    refine aw_if_ne hX (tgt := 32) dX4_below_21 (by decide) (fun _ => ?_) (fun c => absurd c (by first | (rw [sV_at]; done) | (rw [sV_at]; decide)))
    refine aw_iconst (v := 0) hX dX4_below_32 (by decide) ?_
    refine aw_iret hX (Nat.le_refl _) (Nat.le_refl _) dX4_below_33 (hq _ _ ?_)
    first
      | (have e9 : mq_below S o = mQ S 1 (0) := by (unfold mq_below; simp [show mObj (S.1 0) o = false from b6])
         rw [e9]
         exact ⟨rfl, hM⟩)
      | (have e9 : mq_below S (nI o) = mQ S 0 (nI (mBelows (S.1 0) o)) := by (unfold mq_below; simp [show mObj (S.1 0) (nI o) = true from b6, mN_i (show o < 2147483648 by omega)])
         rw [e9]
         exact ⟨rfl, hM⟩)
  · have b6 := bI_n0 c6
    refine aw_iconst (v := 0) hX dX4_below_9 (by decide) ?_
    refine aw_goto hX (tgt := 14) dX4_below_10 (by decide) ?_
    refine mm_put hX hM 1 fp_X4_39 (by decide) dX4_below_14 (fun hp hM => ?_)
    refine aw_ald0 hX dX4_below_17 ?_
    refine mm_get hX hM fg_X4_39 rfl dX4_below_18 ?_
    refine aw_if_ne hX (tgt := 32) dX4_below_21 (by decide) (fun c => absurd (by rw [sV_at]) c) (fun _ => ?_)
    obtain ⟨o, ho, rfl, ho1⟩ := mObj_of b6
    obtain ⟨rk, hrk, hob⟩ := ok.rk
    refine aw_ald0 hX dX4_below_24 ?_
    refine aw_ild1 hX dX4_below_25 ?_
    refine mm_call hX hM lk_X4_98 rfl (c_X4_belows (fr := fr - 1) hM.1 (by omega) rk hrk hob o ho) rfl rfl (Nat.le_of_ble_eq_true rfl) (by omega) (by decide) (Nat.le_refl _) (Nat.le_refl _) dX4_below_26 (fun hp hM => ?_)
    refine aw_goto hX (tgt := 33) dX4_below_29 (by decide) ?_
    refine aw_iret hX (Nat.le_refl _) (Nat.le_refl _) dX4_below_33 (hq _ _ ?_)
    first
      | (have e9 : mq_below S o = mQ S 1 (0) := by (unfold mq_below; simp [show mObj (S.1 0) o = false from b6])
         rw [e9]
         exact ⟨rfl, hM⟩)
      | (have e9 : mq_below S (nI o) = mQ S 0 (nI (mBelows (S.1 0) o)) := by (unfold mq_below; simp [show mObj (S.1 0) (nI o) = true from b6, mN_i (show o < 2147483648 by omega)])
         rw [e9]
         exact ⟨rfl, hM⟩)
set_option maxHeartbeats 4000000 in
set_option maxRecDepth 100000 in
theorem c_X4_ofTheEntry {D : Gd} {fr : Nat} {m : Nat} {ad : Nat → Nat} {S : Ms} {h : Hm} (hM : MW m ad S h) (hf : 4 ≤ fr) (ok : mWf (S.1 0)) (o e : Int32) (w : Nat) (hw : w < 5) : MC D fr yX4_ofTheEntry cX4_ofTheEntry 4 (some .int) m ad h [.int o, .int e, .int (nI w)] (some (.int (mq_ofTheEntry S o e w).2.1)) ((mq_ofTheEntry S o e w).2.2) := by
  refine AM.of (lv := [some (.ref m), some (.int o), some (.int e), some (.int (nI w))]) (by decide +kernel) (Nat.le_of_ble_eq_true rfl) rfl (fun z hX hq _ => ?_)
  have hM := hM.rf
  refine aw_ald0 hX dX4_ofTheEntry_0 ?_
  refine aw_ald0 hX dX4_ofTheEntry_1 ?_
  refine aw_ild1 hX dX4_ofTheEntry_2 ?_
  refine aw_ild2 hX dX4_ofTheEntry_3 ?_
  refine mm_call hX hM lk_X4_112 rfl (c_X4_isEntry (fr := fr - 1) hM.1 (by omega) _ _) rfl rfl (Nat.le_of_ble_eq_true rfl) (by omega) (by decide) (Nat.le_refl _) (Nat.le_refl _) dX4_ofTheEntry_4 (fun hp hM => ?_)
  refine aw_if_eq hX (tgt := 14) dX4_ofTheEntry_7 (by decide) (fun c7 => ?_) (fun c7 => ?_)
  · have b7 := bI_0' c7
    refine aw_iconst (v := 1) hX dX4_ofTheEntry_14 (by decide) ?_
    refine mm_put hX hM 1 fp_X4_39 (by decide) dX4_ofTheEntry_15 (fun hp hM => ?_)
    refine aw_ald0 hX dX4_ofTheEntry_18 ?_
    refine mm_get hX hM fg_X4_39 rfl dX4_ofTheEntry_19 ?_
    refine aw_if_ne hX (tgt := 35) dX4_ofTheEntry_22 (by decide) (fun _ => ?_) (fun c => absurd c (by first | (rw [sV_at]; done) | (rw [sV_at]; decide)))
    refine aw_iconst (v := 0) hX dX4_ofTheEntry_35 (by decide) ?_
    refine aw_iret hX (Nat.le_refl _) (Nat.le_refl _) dX4_ofTheEntry_36 (hq _ _ ?_)
    first
      | (have e9 : mq_ofTheEntry S o e w = mQ S 1 (0) := by (unfold mq_ofTheEntry; simp [show mEnt (S.1 0) o e = false from b7])
         rw [e9]
         exact ⟨rfl, hM⟩)
      | (have e9 : mq_ofTheEntry S (nI o) (nI e) w = mQ S 0 (S.1 0 (mE o e w)) := by (unfold mq_ofTheEntry; simp [show mEnt (S.1 0) (nI o) (nI e) = true from b7, mN_i (show o < 2147483648 by omega), mN_i (show e < 2147483648 by omega)])
         rw [e9]
         exact ⟨rfl, hM⟩)
  · have b7 := bI_n0 c7
    refine aw_iconst (v := 0) hX dX4_ofTheEntry_10 (by decide) ?_
    refine aw_goto hX (tgt := 15) dX4_ofTheEntry_11 (by decide) ?_
    refine mm_put hX hM 1 fp_X4_39 (by decide) dX4_ofTheEntry_15 (fun hp hM => ?_)
    refine aw_ald0 hX dX4_ofTheEntry_18 ?_
    refine mm_get hX hM fg_X4_39 rfl dX4_ofTheEntry_19 ?_
    refine aw_if_ne hX (tgt := 35) dX4_ofTheEntry_22 (by decide) (fun c => absurd (by rw [sV_at]) c) (fun _ => ?_)
    obtain ⟨o, e, ho, rfl, ho1, he, rfl, hec⟩ := mEnt_at ok b7
    refine aw_ald0 hX dX4_ofTheEntry_25 ?_
    refine aw_ild1 hX dX4_ofTheEntry_26 ?_
    refine aw_ild2 hX dX4_ofTheEntry_27 ?_
    refine aw_ild3 hX dX4_ofTheEntry_28 ?_
    refine mm_call hX hM lk_X4_122 rfl (c_X4_ofEntry (fr := fr - 1) hM.1 (by omega) o e w ho he hw) rfl rfl (Nat.le_of_ble_eq_true rfl) (by omega) (by decide) (Nat.le_refl _) (Nat.le_refl _) dX4_ofTheEntry_29 (fun hp hM => ?_)
    refine aw_goto hX (tgt := 36) dX4_ofTheEntry_32 (by decide) ?_
    refine aw_iret hX (Nat.le_refl _) (Nat.le_refl _) dX4_ofTheEntry_36 (hq _ _ ?_)
    first
      | (have e9 : mq_ofTheEntry S o e w = mQ S 1 (0) := by (unfold mq_ofTheEntry; simp [show mEnt (S.1 0) o e = false from b7])
         rw [e9]
         exact ⟨rfl, hM⟩)
      | (have e9 : mq_ofTheEntry S (nI o) (nI e) w = mQ S 0 (S.1 0 (mE o e w)) := by (unfold mq_ofTheEntry; simp [show mEnt (S.1 0) (nI o) (nI e) = true from b7, mN_i (show o < 2147483648 by omega), mN_i (show e < 2147483648 by omega)])
         rw [e9]
         exact ⟨rfl, hM⟩)
set_option maxHeartbeats 4000000 in
set_option maxRecDepth 100000 in
theorem c_X4_rightsOfEntry {D : Gd} {fr : Nat} {m : Nat} {ad : Nat → Nat} {S : Ms} {h : Hm} (hM : MW m ad S h) (hf : 5 ≤ fr) (ok : mWf (S.1 0)) (o e : Int32) : MC D fr yX4_rightsOfEntry cX4_rightsOfEntry 3 (some .int) m ad h [.int o, .int e] (some (.int (mq_ofTheEntry S o e 2).2.1)) ((mq_ofTheEntry S o e 2).2.2) := by
  refine AM.of (lv := [some (.ref m), some (.int o), some (.int e)]) (by decide +kernel) (Nat.le_of_ble_eq_true rfl) rfl (fun z hX hq _ => ?_)
  have hM := hM.rf
  refine aw_ald0 hX dX4_rightsOfEntry_0 ?_
  refine aw_ild1 hX dX4_rightsOfEntry_1 ?_
  refine aw_ild2 hX dX4_rightsOfEntry_2 ?_
  refine aw_iconst (v := 2) hX dX4_rightsOfEntry_3 (by decide) ?_
  refine mm_call hX hM lk_X4_215 rfl (c_X4_ofTheEntry (fr := fr - 1) hM.1 (by omega) ok o e 2 (by decide)) rfl rfl (Nat.le_of_ble_eq_true rfl) (by omega) (by decide) (Nat.le_refl _) (Nat.le_refl _) dX4_rightsOfEntry_4 (fun hp hM => ?_)
  refine aw_iret hX (Nat.le_refl _) (Nat.le_refl _) dX4_rightsOfEntry_7 (hq _ _ ?_)
  exact ⟨rfl, hM⟩
set_option maxHeartbeats 4000000 in
set_option maxRecDepth 100000 in
theorem c_X4_isAllowing {D : Gd} {fr : Nat} {m : Nat} {ad : Nat → Nat} {S : Ms} {h : Hm} (hM : MW m ad S h) (hf : 5 ≤ fr) (ok : mWf (S.1 0)) (o e : Int32) : MC D fr yX4_isAllowing cX4_isAllowing 3 (some .boolean) m ad h [.int o, .int e] (some (.int (mq_isE S o e 3 1).2.1)) ((mq_isE S o e 3 1).2.2) := by
  refine AM.of (lv := [some (.ref m), some (.int o), some (.int e)]) (by decide +kernel) (Nat.le_of_ble_eq_true rfl) rfl (fun z hX hq _ => ?_)
  have hM := hM.rf
  refine aw_ald0 hX dX4_isAllowing_0 ?_
  refine aw_ild1 hX dX4_isAllowing_1 ?_
  refine aw_ild2 hX dX4_isAllowing_2 ?_
  refine aw_iconst (v := 3) hX dX4_isAllowing_3 (by decide) ?_
  refine mm_call hX hM lk_X4_215 rfl (c_X4_ofTheEntry (fr := fr - 1) hM.1 (by omega) ok o e 3 (by decide)) rfl rfl (Nat.le_of_ble_eq_true rfl) (by omega) (by decide) (Nat.le_refl _) (Nat.le_refl _) dX4_isAllowing_4 (fun hp hM => ?_)
  refine aw_iconst (v := 1) hX dX4_isAllowing_7 (by decide) ?_
  refine aw_icmp_ne hX (tgt := 15) dX4_isAllowing_8 (by decide) (fun c8 => ?_) (fun c8 => ?_)
  · refine aw_iconst (v := 0) hX dX4_isAllowing_15 (by decide) ?_
    refine aw_zret hX (by first | rfl | exact bI_n _ | (split <;> rfl)) (Nat.le_refl _) (Nat.le_refl _) dX4_isAllowing_16 (hq _ _ ?_)
    refine ⟨?_, hM.cg ?_⟩
    · cases hb : mEnt (S.1 0) o e
      · simp_all [mq_isE, mq_ofTheEntry, mQ]
      · simp_all [mq_isE, mq_ofTheEntry, mQ, bI]
    · unfold mq_ofTheEntry mq_isE; split <;> rfl
  · refine aw_iconst (v := 1) hX dX4_isAllowing_11 (by decide) ?_
    refine aw_goto hX (tgt := 16) dX4_isAllowing_12 (by decide) ?_
    refine aw_zret hX (by first | rfl | exact bI_n _ | (split <;> rfl)) (Nat.le_refl _) (Nat.le_refl _) dX4_isAllowing_16 (hq _ _ ?_)
    refine ⟨?_, hM.cg ?_⟩
    · cases hb : mEnt (S.1 0) o e
      · simp_all [mq_isE, mq_ofTheEntry, mQ]
      · simp_all [mq_isE, mq_ofTheEntry, mQ, bI]
    · unfold mq_ofTheEntry mq_isE; split <;> rfl
set_option maxHeartbeats 4000000 in
set_option maxRecDepth 100000 in
theorem c_X4_isForOwner {D : Gd} {fr : Nat} {m : Nat} {ad : Nat → Nat} {S : Ms} {h : Hm} (hM : MW m ad S h) (hf : 5 ≤ fr) (ok : mWf (S.1 0)) (o e : Int32) : MC D fr yX4_isForOwner cX4_isForOwner 3 (some .boolean) m ad h [.int o, .int e] (some (.int (mq_isE S o e 0 2).2.1)) ((mq_isE S o e 0 2).2.2) := by
  refine AM.of (lv := [some (.ref m), some (.int o), some (.int e)]) (by decide +kernel) (Nat.le_of_ble_eq_true rfl) rfl (fun z hX hq _ => ?_)
  have hM := hM.rf
  refine aw_ald0 hX dX4_isForOwner_0 ?_
  refine aw_ild1 hX dX4_isForOwner_1 ?_
  refine aw_ild2 hX dX4_isForOwner_2 ?_
  refine aw_iconst (v := 0) hX dX4_isForOwner_3 (by decide) ?_
  refine mm_call hX hM lk_X4_215 rfl (c_X4_ofTheEntry (fr := fr - 1) hM.1 (by omega) ok o e 0 (by decide)) rfl rfl (Nat.le_of_ble_eq_true rfl) (by omega) (by decide) (Nat.le_refl _) (Nat.le_refl _) dX4_isForOwner_4 (fun hp hM => ?_)
  refine aw_iconst (v := 2) hX dX4_isForOwner_7 (by decide) ?_
  refine aw_icmp_ne hX (tgt := 15) dX4_isForOwner_8 (by decide) (fun c8 => ?_) (fun c8 => ?_)
  · refine aw_iconst (v := 0) hX dX4_isForOwner_15 (by decide) ?_
    refine aw_zret hX (by first | rfl | exact bI_n _ | (split <;> rfl)) (Nat.le_refl _) (Nat.le_refl _) dX4_isForOwner_16 (hq _ _ ?_)
    refine ⟨?_, hM.cg ?_⟩
    · cases hb : mEnt (S.1 0) o e
      · simp_all [mq_isE, mq_ofTheEntry, mQ]
      · simp_all [mq_isE, mq_ofTheEntry, mQ, bI]
    · unfold mq_ofTheEntry mq_isE; split <;> rfl
  · refine aw_iconst (v := 1) hX dX4_isForOwner_11 (by decide) ?_
    refine aw_goto hX (tgt := 16) dX4_isForOwner_12 (by decide) ?_
    refine aw_zret hX (by first | rfl | exact bI_n _ | (split <;> rfl)) (Nat.le_refl _) (Nat.le_refl _) dX4_isForOwner_16 (hq _ _ ?_)
    refine ⟨?_, hM.cg ?_⟩
    · cases hb : mEnt (S.1 0) o e
      · simp_all [mq_isE, mq_ofTheEntry, mQ]
      · simp_all [mq_isE, mq_ofTheEntry, mQ, bI]
    · unfold mq_ofTheEntry mq_isE; split <;> rfl
set_option maxHeartbeats 4000000 in
set_option maxRecDepth 100000 in
theorem c_X4_isForBelow {D : Gd} {fr : Nat} {m : Nat} {ad : Nat → Nat} {S : Ms} {h : Hm} (hM : MW m ad S h) (hf : 5 ≤ fr) (ok : mWf (S.1 0)) (o e : Int32) : MC D fr yX4_isForBelow cX4_isForBelow 3 (some .boolean) m ad h [.int o, .int e] (some (.int (mq_isE S o e 4 1).2.1)) ((mq_isE S o e 4 1).2.2) := by
  refine AM.of (lv := [some (.ref m), some (.int o), some (.int e)]) (by decide +kernel) (Nat.le_of_ble_eq_true rfl) rfl (fun z hX hq _ => ?_)
  have hM := hM.rf
  refine aw_ald0 hX dX4_isForBelow_0 ?_
  refine aw_ild1 hX dX4_isForBelow_1 ?_
  refine aw_ild2 hX dX4_isForBelow_2 ?_
  refine aw_iconst (v := 4) hX dX4_isForBelow_3 (by decide) ?_
  refine mm_call hX hM lk_X4_215 rfl (c_X4_ofTheEntry (fr := fr - 1) hM.1 (by omega) ok o e 4 (by decide)) rfl rfl (Nat.le_of_ble_eq_true rfl) (by omega) (by decide) (Nat.le_refl _) (Nat.le_refl _) dX4_isForBelow_4 (fun hp hM => ?_)
  refine aw_iconst (v := 1) hX dX4_isForBelow_7 (by decide) ?_
  refine aw_icmp_ne hX (tgt := 15) dX4_isForBelow_8 (by decide) (fun c8 => ?_) (fun c8 => ?_)
  · refine aw_iconst (v := 0) hX dX4_isForBelow_15 (by decide) ?_
    refine aw_zret hX (by first | rfl | exact bI_n _ | (split <;> rfl)) (Nat.le_refl _) (Nat.le_refl _) dX4_isForBelow_16 (hq _ _ ?_)
    refine ⟨?_, hM.cg ?_⟩
    · cases hb : mEnt (S.1 0) o e
      · simp_all [mq_isE, mq_ofTheEntry, mQ]
      · simp_all [mq_isE, mq_ofTheEntry, mQ, bI]
    · unfold mq_ofTheEntry mq_isE; split <;> rfl
  · refine aw_iconst (v := 1) hX dX4_isForBelow_11 (by decide) ?_
    refine aw_goto hX (tgt := 16) dX4_isForBelow_12 (by decide) ?_
    refine aw_zret hX (by first | rfl | exact bI_n _ | (split <;> rfl)) (Nat.le_refl _) (Nat.le_refl _) dX4_isForBelow_16 (hq _ _ ?_)
    refine ⟨?_, hM.cg ?_⟩
    · cases hb : mEnt (S.1 0) o e
      · simp_all [mq_isE, mq_ofTheEntry, mQ]
      · simp_all [mq_isE, mq_ofTheEntry, mQ, bI]
    · unfold mq_ofTheEntry mq_isE; split <;> rfl
set_option maxHeartbeats 4000000 in
set_option maxRecDepth 100000 in
theorem c_X4_isQuestion {D : Gd} {fr : Nat} {m : Nat} {ad : Nat → Nat} {S : Ms} {h : Hm} (hM : MW m ad S h) (hf : 3 ≤ fr) (ok : mWf (S.1 0))(u o r : Int32) : MC D fr yX4_isQuestion cX4_isQuestion 4 (some .boolean) m ad h [.int u, .int o, .int r] (some (.int (bI (decide (mQc (S.1 0) u o r = 0))))) (sV S 1 (mQc (S.1 0) u o r)) := by
  refine AM.of (lv := [some (.ref m), some (.int u), some (.int o), some (.int r)]) (by decide +kernel) (Nat.le_of_ble_eq_true rfl) rfl (fun z hX hq _ => ?_)
  have hM := hM.rf
  refine aw_ald0 hX dX4_isQuestion_0 ?_
  refine aw_ald0 hX dX4_isQuestion_1 ?_
  refine aw_ild1 hX dX4_isQuestion_2 ?_
  refine mm_call hX hM lk_X4_82 rfl (c_X4_isUser (fr := fr - 1) hM.1 (by omega) _) rfl rfl (Nat.le_of_ble_eq_true rfl) (by omega) (by decide) (Nat.le_refl _) (Nat.le_refl _) dX4_isQuestion_3 (fun hp hM => ?_)
  refine aw_if_eq hX (tgt := 17) dX4_isQuestion_6 (by decide) (fun c6 => ?_) (fun c6 => ?_)
  · have b6 := bI_0' c6
    refine aw_iconst (v := 1) hX dX4_isQuestion_17 (by decide) ?_
    refine aw_goto hX (tgt := 33) dX4_isQuestion_18 (by decide) ?_
    refine mm_put hX hM 1 fp_X4_39 (by decide) dX4_isQuestion_33 (fun hp hM => ?_)
    refine aw_ald0 hX dX4_isQuestion_36 ?_
    refine mm_get hX hM fg_X4_39 rfl dX4_isQuestion_37 ?_
    refine aw_if_ne hX (tgt := 47) dX4_isQuestion_40 (by decide) (fun _ => ?_) (fun c => absurd c (by first | (rw [sV_at]; done) | (rw [sV_at]; decide)))
    refine aw_iconst (v := 0) hX dX4_isQuestion_47 (by decide) ?_
    refine aw_zret hX (by first | rfl | exact bI_n _ | (split <;> rfl)) (Nat.le_refl _) (Nat.le_refl _) dX4_isQuestion_48 (hq _ _ ?_)
    first
      | (have e9 : mQc (S.1 0) u o r = 1 := by (simp [mQc, show mUser (S.1 0) u = false from b6])
         rw [e9]
         exact ⟨rfl, hM⟩)
      | (have e9 : mQc (S.1 0) u o r = 1 := by (simp [mQc, show mUser (S.1 0) u = true from b6, show mObj (S.1 0) o = false from b14])
         rw [e9]
         exact ⟨rfl, hM⟩)
      | (have e9 : mQc (S.1 0) u o r = 2 := by (simp [mQc, show mUser (S.1 0) u = true from b6, show mObj (S.1 0) o = true from b14, of_decide_eq_false b25])
         rw [e9]
         exact ⟨rfl, hM⟩)
      | (have e9 : mQc (S.1 0) u o r = 0 := by (simp [mQc, show mUser (S.1 0) u = true from b6, show mObj (S.1 0) o = true from b14, of_decide_eq_true b25])
         rw [e9]
         exact ⟨rfl, hM⟩)
  · have b6 := bI_n0 c6
    refine aw_ald0 hX dX4_isQuestion_9 ?_
    refine aw_ild2 hX dX4_isQuestion_10 ?_
    refine mm_call hX hM lk_X4_57 rfl (c_X4_isObject (fr := fr - 1) hM.1 (by omega) _) rfl rfl (Nat.le_of_ble_eq_true rfl) (by omega) (by decide) (Nat.le_refl _) (Nat.le_refl _) dX4_isQuestion_11 (fun hp hM => ?_)
    refine aw_if_ne hX (tgt := 21) dX4_isQuestion_14 (by decide) (fun c14 => ?_) (fun c14 => ?_)
    · have b14 := bI_n0 c14
      refine aw_ild3 hX dX4_isQuestion_21 ?_
      refine ss_call hX lk_X4_156 (c_X4_isRight (fr := fr - 1) (by omega) _) rfl rfl (Nat.le_of_ble_eq_true rfl) (by omega) (by decide) (Nat.le_refl _) (Nat.le_refl _) dX4_isQuestion_22 ?_
      refine aw_if_eq hX (tgt := 32) dX4_isQuestion_25 (by decide) (fun c25 => ?_) (fun c25 => ?_)
      · have b25 := bI_0' c25
        refine aw_iconst (v := 2) hX dX4_isQuestion_32 (by decide) ?_
        refine mm_put hX hM 1 fp_X4_39 (by decide) dX4_isQuestion_33 (fun hp hM => ?_)
        refine aw_ald0 hX dX4_isQuestion_36 ?_
        refine mm_get hX hM fg_X4_39 rfl dX4_isQuestion_37 ?_
        refine aw_if_ne hX (tgt := 47) dX4_isQuestion_40 (by decide) (fun _ => ?_) (fun c => absurd c (by first | (rw [sV_at]; done) | (rw [sV_at]; decide)))
        refine aw_iconst (v := 0) hX dX4_isQuestion_47 (by decide) ?_
        refine aw_zret hX (by first | rfl | exact bI_n _ | (split <;> rfl)) (Nat.le_refl _) (Nat.le_refl _) dX4_isQuestion_48 (hq _ _ ?_)
        first
          | (have e9 : mQc (S.1 0) u o r = 1 := by (simp [mQc, show mUser (S.1 0) u = false from b6])
             rw [e9]
             exact ⟨rfl, hM⟩)
          | (have e9 : mQc (S.1 0) u o r = 1 := by (simp [mQc, show mUser (S.1 0) u = true from b6, show mObj (S.1 0) o = false from b14])
             rw [e9]
             exact ⟨rfl, hM⟩)
          | (have e9 : mQc (S.1 0) u o r = 2 := by (simp [mQc, show mUser (S.1 0) u = true from b6, show mObj (S.1 0) o = true from b14, of_decide_eq_false b25])
             rw [e9]
             exact ⟨rfl, hM⟩)
          | (have e9 : mQc (S.1 0) u o r = 0 := by (simp [mQc, show mUser (S.1 0) u = true from b6, show mObj (S.1 0) o = true from b14, of_decide_eq_true b25])
             rw [e9]
             exact ⟨rfl, hM⟩)
      · have b25 := bI_n0 c25
        refine aw_iconst (v := 0) hX dX4_isQuestion_28 (by decide) ?_
        refine aw_goto hX (tgt := 33) dX4_isQuestion_29 (by decide) ?_
        refine mm_put hX hM 1 fp_X4_39 (by decide) dX4_isQuestion_33 (fun hp hM => ?_)
        refine aw_ald0 hX dX4_isQuestion_36 ?_
        refine mm_get hX hM fg_X4_39 rfl dX4_isQuestion_37 ?_
        refine aw_if_ne hX (tgt := 47) dX4_isQuestion_40 (by decide) (fun c => absurd (by rw [sV_at]) c) (fun _ => ?_)
        refine aw_iconst (v := 1) hX dX4_isQuestion_43 (by decide) ?_
        refine aw_goto hX (tgt := 48) dX4_isQuestion_44 (by decide) ?_
        refine aw_zret hX (by first | rfl | exact bI_n _ | (split <;> rfl)) (Nat.le_refl _) (Nat.le_refl _) dX4_isQuestion_48 (hq _ _ ?_)
        first
          | (have e9 : mQc (S.1 0) u o r = 1 := by (simp [mQc, show mUser (S.1 0) u = false from b6])
             rw [e9]
             exact ⟨rfl, hM⟩)
          | (have e9 : mQc (S.1 0) u o r = 1 := by (simp [mQc, show mUser (S.1 0) u = true from b6, show mObj (S.1 0) o = false from b14])
             rw [e9]
             exact ⟨rfl, hM⟩)
          | (have e9 : mQc (S.1 0) u o r = 2 := by (simp [mQc, show mUser (S.1 0) u = true from b6, show mObj (S.1 0) o = true from b14, of_decide_eq_false b25])
             rw [e9]
             exact ⟨rfl, hM⟩)
          | (have e9 : mQc (S.1 0) u o r = 0 := by (simp [mQc, show mUser (S.1 0) u = true from b6, show mObj (S.1 0) o = true from b14, of_decide_eq_true b25])
             rw [e9]
             exact ⟨rfl, hM⟩)
    · have b14 := bI_0' c14
      refine aw_iconst (v := 1) hX dX4_isQuestion_17 (by decide) ?_
      refine aw_goto hX (tgt := 33) dX4_isQuestion_18 (by decide) ?_
      refine mm_put hX hM 1 fp_X4_39 (by decide) dX4_isQuestion_33 (fun hp hM => ?_)
      refine aw_ald0 hX dX4_isQuestion_36 ?_
      refine mm_get hX hM fg_X4_39 rfl dX4_isQuestion_37 ?_
      refine aw_if_ne hX (tgt := 47) dX4_isQuestion_40 (by decide) (fun _ => ?_) (fun c => absurd c (by first | (rw [sV_at]; done) | (rw [sV_at]; decide)))
      refine aw_iconst (v := 0) hX dX4_isQuestion_47 (by decide) ?_
      refine aw_zret hX (by first | rfl | exact bI_n _ | (split <;> rfl)) (Nat.le_refl _) (Nat.le_refl _) dX4_isQuestion_48 (hq _ _ ?_)
      first
        | (have e9 : mQc (S.1 0) u o r = 1 := by (simp [mQc, show mUser (S.1 0) u = false from b6])
           rw [e9]
           exact ⟨rfl, hM⟩)
        | (have e9 : mQc (S.1 0) u o r = 1 := by (simp [mQc, show mUser (S.1 0) u = true from b6, show mObj (S.1 0) o = false from b14])
           rw [e9]
           exact ⟨rfl, hM⟩)
        | (have e9 : mQc (S.1 0) u o r = 2 := by (simp [mQc, show mUser (S.1 0) u = true from b6, show mObj (S.1 0) o = true from b14, of_decide_eq_false b25])
           rw [e9]
           exact ⟨rfl, hM⟩)
        | (have e9 : mQc (S.1 0) u o r = 0 := by (simp [mQc, show mUser (S.1 0) u = true from b6, show mObj (S.1 0) o = true from b14, of_decide_eq_true b25])
           rw [e9]
           exact ⟨rfl, hM⟩)
