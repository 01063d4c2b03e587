/-! THE REFERENCE, printed by m4.py: its changing operations -/
set_option maxHeartbeats 4000000 in
set_option maxRecDepth 100000 in
theorem c_X4_addUser {D : Gd} {fr : Nat} {m : Nat} {ad : Nat → Nat} {S : Ms} {h : Hm} (hM : MW m ad S h) (hf : 2 ≤ fr) (ok : MOk S)  : MC D fr yX4_addUser cX4_addUser 1 (some .int) m ad h [] (some (.int (mop_addUser S).2.1)) ((mop_addUser S).2.2) := by
  refine AM.of (lv := [some (.ref m)]) (by decide +kernel) (Nat.le_of_ble_eq_true rfl) rfl (fun z hX hq _ => ?_)
  have hM := hM.rf
  refine aw_ald0 hX dX4_addUser_0 ?_
  refine aw_iconst (v := 0) hX dX4_addUser_1 (by decide) ?_
  refine mm_put hX hM 1 fp_X4_39 (by decide) dX4_addUser_2 (fun hp hM => ?_)
  refine aw_ald0 hX dX4_addUser_5 ?_
  refine mm_get hX hM fg_X4_7 rfl dX4_addUser_6 ?_
  refine aw_iconst (v := 0) hX dX4_addUser_9 (by decide) ?_
  refine mm_ld hX hM (by decide) (_) (rfl) (by first | decide | (simp only [mLen]; omega)) dX4_addUser_10 ?_
  refine aw_bipush (v := 12) hX dX4_addUser_11 (by decide) ?_
  refine aw_icmp_ne hX (tgt := 22) dX4_addUser_13 (by decide) (fun c13 => ?_) (fun c13 => ?_)
  · refine aw_ald0 hX dX4_addUser_22 ?_
    refine mm_call hX hM lk_X4_79 rfl (c_X4_changes (fr := fr - 1) hM.1 (by omega) ok.p) rfl rfl (Nat.le_of_ble_eq_true rfl) (by omega) (by decide) (Nat.le_refl _) (Nat.le_refl _) dX4_addUser_23 (fun hp hM => ?_)
    refine aw_ald0 hX dX4_addUser_26 ?_
    refine mm_get hX hM fg_X4_7 rfl dX4_addUser_27 ?_
    refine aw_iconst (v := 0) hX dX4_addUser_30 (by decide) ?_
    refine aw_dup2 hX dX4_addUser_31 rfl rfl ?_
    refine mm_ld hX hM (by decide) (_) (rfl) (by first | decide | (simp only [mLen]; omega)) dX4_addUser_32 ?_
    refine aw_iconst (v := 1) hX dX4_addUser_33 (by decide) ?_
    refine aw_iadd hX dX4_addUser_34 ?_
    refine mm_st hX hM (by decide) (0) (rfl) (by first | decide | (simp only [mLen]; omega)) dX4_addUser_35 (fun hp hM => ?_)
    refine aw_ald0 hX dX4_addUser_36 ?_
    refine mm_get hX hM fg_X4_7 rfl dX4_addUser_37 ?_
    refine aw_iconst (v := 0) hX dX4_addUser_40 (by decide) ?_
    refine mm_ld hX hM (by decide) (_) (rfl) (by first | decide | (simp only [mLen]; omega)) dX4_addUser_41 ?_
    refine aw_iconst (v := 1) hX dX4_addUser_42 (by decide) ?_
    refine aw_isub hX dX4_addUser_43 ?_
    refine aw_iret hX (Nat.le_refl _) (Nat.le_refl _) dX4_addUser_44 (hq _ _ ?_)
    first
      | (have e9 : mop_addUser S = (0, S.1 0 0 + 1 - 1, mSet S 0 (S.1 0 0 + 1)) := by (unfold mop_addUser; simp [show ¬ S.1 0 0 = 12 from c13])
         rw [e9]
         exact ⟨rfl, hM.cg (rfl)⟩)
  · refine aw_ald0 hX dX4_addUser_16 ?_
    refine aw_iconst (v := 1) hX dX4_addUser_17 (by decide) ?_
    refine mm_call hX hM lk_X4_76 rfl (c_X4_fails (fr := fr - 1) hM.1 (by omega) 1) rfl rfl (Nat.le_of_ble_eq_true rfl) (by omega) (by decide) (Nat.le_refl _) (Nat.le_refl _) dX4_addUser_18 (fun hp hM => ?_)
    refine aw_iret hX (Nat.le_refl _) (Nat.le_refl _) dX4_addUser_21 (hq _ _ ?_)
    first
      | (have e9 : mop_addUser S = mBad S 1 := by (unfold mop_addUser; simp [show S.1 0 0 = 12 from c13])
         rw [e9]
         exact ⟨rfl, hM.cg (sV_sV S 1 0 1)⟩)
set_option maxHeartbeats 4000000 in
set_option maxRecDepth 100000 in
theorem c_X4_addGroup {D : Gd} {fr : Nat} {m : Nat} {ad : Nat → Nat} {S : Ms} {h : Hm} (hM : MW m ad S h) (hf : 2 ≤ fr) (ok : MOk S)  : MC D fr yX4_addGroup cX4_addGroup 1 (some .int) m ad h [] (some (.int (mop_addGroup S).2.1)) ((mop_addGroup S).2.2) := by
  refine AM.of (lv := [some (.ref m)]) (by decide +kernel) (Nat.le_of_ble_eq_true rfl) rfl (fun z hX hq _ => ?_)
  have hM := hM.rf
  refine aw_ald0 hX dX4_addGroup_0 ?_
  refine aw_iconst (v := 0) hX dX4_addGroup_1 (by decide) ?_
  refine mm_put hX hM 1 fp_X4_39 (by decide) dX4_addGroup_2 (fun hp hM => ?_)
  refine aw_ald0 hX dX4_addGroup_5 ?_
  refine mm_get hX hM fg_X4_7 rfl dX4_addGroup_6 ?_
  refine aw_iconst (v := 1) hX dX4_addGroup_9 (by decide) ?_
  refine mm_ld hX hM (by decide) (_) (rfl) (by first | decide | (simp only [mLen]; omega)) dX4_addGroup_10 ?_
  refine aw_bipush (v := 8) hX dX4_addGroup_11 (by decide) ?_
  refine aw_icmp_ne hX (tgt := 22) dX4_addGroup_13 (by decide) (fun c13 => ?_) (fun c13 => ?_)
  · refine aw_ald0 hX dX4_addGroup_22 ?_
    refine mm_call hX hM lk_X4_79 rfl (c_X4_changes (fr := fr - 1) hM.1 (by omega) ok.p) rfl rfl (Nat.le_of_ble_eq_true rfl) (by omega) (by decide) (Nat.le_refl _) (Nat.le_refl _) dX4_addGroup_23 (fun hp hM => ?_)
    refine aw_ald0 hX dX4_addGroup_26 ?_
    refine mm_get hX hM fg_X4_7 rfl dX4_addGroup_27 ?_
    refine aw_iconst (v := 1) hX dX4_addGroup_30 (by decide) ?_
    refine aw_dup2 hX dX4_addGroup_31 rfl rfl ?_
    refine mm_ld hX hM (by decide) (_) (rfl) (by first | decide | (simp only [mLen]; omega)) dX4_addGroup_32 ?_
    refine aw_iconst (v := 1) hX dX4_addGroup_33 (by decide) ?_
    refine aw_iadd hX dX4_addGroup_34 ?_
    refine mm_st hX hM (by decide) (1) (rfl) (by first | decide | (simp only [mLen]; omega)) dX4_addGroup_35 (fun hp hM => ?_)
    refine aw_ald0 hX dX4_addGroup_36 ?_
    refine mm_get hX hM fg_X4_7 rfl dX4_addGroup_37 ?_
    refine aw_iconst (v := 1) hX dX4_addGroup_40 (by decide) ?_
    refine mm_ld hX hM (by decide) (_) (rfl) (by first | decide | (simp only [mLen]; omega)) dX4_addGroup_41 ?_
    refine aw_iconst (v := 1) hX dX4_addGroup_42 (by decide) ?_
    refine aw_isub hX dX4_addGroup_43 ?_
    refine aw_iret hX (Nat.le_refl _) (Nat.le_refl _) dX4_addGroup_44 (hq _ _ ?_)
    first
      | (have e9 : mop_addGroup S = (0, S.1 0 1 + 1 - 1, mSet S 1 (S.1 0 1 + 1)) := by (unfold mop_addGroup; simp [show ¬ S.1 0 1 = 8 from c13])
         rw [e9]
         exact ⟨rfl, hM.cg (rfl)⟩)
  · refine aw_ald0 hX dX4_addGroup_16 ?_
    refine aw_iconst (v := 1) hX dX4_addGroup_17 (by decide) ?_
    refine mm_call hX hM lk_X4_76 rfl (c_X4_fails (fr := fr - 1) hM.1 (by omega) 1) rfl rfl (Nat.le_of_ble_eq_true rfl) (by omega) (by decide) (Nat.le_refl _) (Nat.le_refl _) dX4_addGroup_18 (fun hp hM => ?_)
    refine aw_iret hX (Nat.le_refl _) (Nat.le_refl _) dX4_addGroup_21 (hq _ _ ?_)
    first
      | (have e9 : mop_addGroup S = mBad S 1 := by (unfold mop_addGroup; simp [show S.1 0 1 = 8 from c13])
         rw [e9]
         exact ⟨rfl, hM.cg (sV_sV S 1 0 1)⟩)
set_option maxHeartbeats 4000000 in
set_option maxRecDepth 100000 in
theorem c_X4_join {D : Gd} {fr : Nat} {m : Nat} {ad : Nat → Nat} {S : Ms} {h : Hm} (hM : MW m ad S h) (hf : 4 ≤ fr) (ok : MOk S) (u g : Int32) : MC D fr yX4_join cX4_join 3 (some .int) m ad h [.int u, .int g] (some (.int (mop_join S u g).2.1)) ((mop_join S u g).2.2) := by
  refine AM.of (lv := [some (.ref m), some (.int u), some (.int g)]) (by decide +kernel) (Nat.le_of_ble_eq_true rfl) rfl (fun z hX hq _ => ?_)
  have hM := hM.rf
  obtain ⟨nu, hu1, hu2, eu⟩ := ok.u
  obtain ⟨ng, hg2, eg⟩ := ok.g
  refine aw_ald0 hX dX4_join_0 ?_
  refine aw_iconst (v := 0) hX dX4_join_1 (by decide) ?_
  refine mm_put hX hM 1 fp_X4_39 (by decide) dX4_join_2 (fun hp hM => ?_)
  refine aw_ald0 hX dX4_join_5 ?_
  refine aw_ild1 hX dX4_join_6 ?_
  refine mm_call hX hM lk_X4_82 rfl (c_X4_isUser (fr := fr - 1) hM.1 (by omega) _) rfl rfl (Nat.le_of_ble_eq_true rfl) (by omega) (by decide) (Nat.le_refl _) (Nat.le_refl _) dX4_join_7 (fun hp hM => ?_)
  refine aw_if_eq hX (tgt := 21) dX4_join_10 (by decide) (fun c10 => ?_) (fun c10 => ?_)
  · have b10 := bI_0' c10
    refine aw_ald0 hX dX4_join_21 ?_
    refine aw_iconst (v := 1) hX dX4_join_22 (by decide) ?_
    refine mm_call hX hM lk_X4_76 rfl (c_X4_fails (fr := fr - 1) hM.1 (by omega) 1) rfl rfl (Nat.le_of_ble_eq_true rfl) (by omega) (by decide) (Nat.le_refl _) (Nat.le_refl _) dX4_join_23 (fun hp hM => ?_)
    refine aw_iret hX (Nat.le_refl _) (Nat.le_refl _) dX4_join_26 (hq _ _ ?_)
    first
      | (have e9 : mop_join S u g = mBad S 1 := by (unfold mop_join; simp [show mUser (S.1 0) u = false from b10])
         rw [e9]
         exact ⟨rfl, hM.cg (sV_sV S 1 0 1)⟩)
      | (have e9 : mop_join S u g = mBad S 1 := by (unfold mop_join; simp [show mUser (S.1 0) u = true from b10, show mGroup (S.1 0) g = false from b18])
         rw [e9]
         exact ⟨rfl, hM.cg (sV_sV S 1 0 1)⟩)
  · have b10 := bI_n0 c10
    refine aw_ald0 hX dX4_join_13 ?_
    refine aw_ild2 hX dX4_join_14 ?_
    refine mm_call hX hM lk_X4_85 rfl (c_X4_isGroup (fr := fr - 1) hM.1 (by omega) _) rfl rfl (Nat.le_of_ble_eq_true rfl) (by omega) (by decide) (Nat.le_refl _) (Nat.le_refl _) dX4_join_15 (fun hp hM => ?_)
    refine aw_if_ne hX (tgt := 27) dX4_join_18 (by decide) (fun c18 => ?_) (fun c18 => ?_)
    · have b18 := bI_n0 c18
      obtain ⟨u, hu, rfl⟩ := mUser_of eu hu2 hu1 b10
      obtain ⟨g, hg, rfl⟩ := mGroup_of eg hg2 b18
      refine aw_ald0 hX dX4_join_27 ?_
      refine mm_get hX hM fg_X4_7 rfl dX4_join_28 ?_
      refine aw_iconst (v := 2) hX dX4_join_31 (by decide) ?_
      refine aw_ild2 hX dX4_join_32 ?_
      refine aw_iadd hX dX4_join_33 ?_
      refine mm_ld hX hM (by decide) (2 + g) (nI_add 2 g) (by simp only [mLen]; omega) dX4_join_34 ?_
      refine aw_ild1 hX dX4_join_35 ?_
      refine ss_call hX lk_X4_65 (c_X4_has (fr := fr - 1) (by omega) _ _) rfl rfl (Nat.le_of_ble_eq_true rfl) (by omega) (by decide) (Nat.le_refl _) (Nat.le_refl _) dX4_join_36 ?_
      refine aw_if_eq hX (tgt := 48) dX4_join_39 (by decide) (fun c39 => ?_) (fun c39 => ?_)
      · have b39 := bI_0' c39
        refine aw_ald0 hX dX4_join_48 ?_
        refine mm_call hX hM lk_X4_79 rfl (c_X4_changes (fr := fr - 1) hM.1 (by omega) ok.p) rfl rfl (Nat.le_of_ble_eq_true rfl) (by omega) (by decide) (Nat.le_refl _) (Nat.le_refl _) dX4_join_49 (fun hp hM => ?_)
        refine aw_ald0 hX dX4_join_52 ?_
        refine mm_get hX hM fg_X4_7 rfl dX4_join_53 ?_
        refine aw_iconst (v := 2) hX dX4_join_56 (by decide) ?_
        refine aw_ild2 hX dX4_join_57 ?_
        refine aw_iadd hX dX4_join_58 ?_
        refine aw_dup2 hX dX4_join_59 rfl rfl ?_
        refine mm_ld hX hM (by decide) (2 + g) (nI_add 2 g) (by simp only [mLen]; omega) dX4_join_60 ?_
        refine aw_iconst (v := 1) hX dX4_join_61 (by decide) ?_
        refine aw_ild1 hX dX4_join_62 ?_
        refine aw_ishl hX dX4_join_63 ?_
        refine aw_ior hX dX4_join_64 ?_
        refine mm_st hX hM (by decide) (2 + g) (nI_add 2 g) (by simp only [mLen]; omega) dX4_join_65 (fun hp hM => ?_)
        refine aw_ald0 hX dX4_join_66 ?_
        refine aw_ild2 hX dX4_join_67 ?_
        refine mm_call hX hM lk_X4_88 rfl (c_X4_howMany (fr := fr - 1) hM.1 (by omega) g ng nu (by omega) hg2 hu2 (by rw [sA_at, pk_un (by omega)]; exact eg) (by rw [sA_at, pk_un (by omega)]; exact eu)) rfl rfl (Nat.le_of_ble_eq_true rfl) (by omega) (by decide) (Nat.le_refl _) (Nat.le_refl _) dX4_join_68 (fun hp hM => ?_)
        refine aw_iret hX (Nat.le_refl _) (Nat.le_refl _) dX4_join_71 (hq _ _ ?_)
        first
          | (have e9 : mop_join S (nI u) (nI g) = (0, nI (mHowMany (upd (S.1 0) (2 + g) (S.1 0 (2 + g) ||| mBit (nI u))) g ng nu), mSet S (2 + g) (S.1 0 (2 + g) ||| mBit (nI u))) := by (unfold mop_join; simp [show mUser (S.1 0) (nI u) = true from b10, show mGroup (S.1 0) (nI g) = true from b18, show mHas (S.1 0 (2 + g)) (nI u) = _ from b39, nI_clamp (show g < 2 ^ 31 by omega), mHm_i (k := 2 + g) (by omega) hg2 hu2 eg eu])
             rw [e9]
             exact ⟨rfl, hM.cg (rfl)⟩)
      · have b39 := bI_n0 c39
        refine aw_ald0 hX dX4_join_42 ?_
        refine aw_iconst (v := 2) hX dX4_join_43 (by decide) ?_
        refine mm_call hX hM lk_X4_76 rfl (c_X4_fails (fr := fr - 1) hM.1 (by omega) 2) rfl rfl (Nat.le_of_ble_eq_true rfl) (by omega) (by decide) (Nat.le_refl _) (Nat.le_refl _) dX4_join_44 (fun hp hM => ?_)
        refine aw_iret hX (Nat.le_refl _) (Nat.le_refl _) dX4_join_47 (hq _ _ ?_)
        first
          | (have e9 : mop_join S (nI u) (nI g) = mBad S 2 := by (unfold mop_join; simp [show mUser (S.1 0) (nI u) = true from b10, show mGroup (S.1 0) (nI g) = true from b18, show mHas (S.1 0 (2 + g)) (nI u) = _ from b39, nI_clamp (show g < 2 ^ 31 by omega)])
             rw [e9]
             exact ⟨rfl, hM.cg (sV_sV S 1 0 2)⟩)
    · have b18 := bI_0' c18
      refine aw_ald0 hX dX4_join_21 ?_
      refine aw_iconst (v := 1) hX dX4_join_22 (by decide) ?_
      refine mm_call hX hM lk_X4_76 rfl (c_X4_fails (fr := fr - 1) hM.1 (by omega) 1) rfl rfl (Nat.le_of_ble_eq_true rfl) (by omega) (by decide) (Nat.le_refl _) (Nat.le_refl _) dX4_join_23 (fun hp hM => ?_)
      refine aw_iret hX (Nat.le_refl _) (Nat.le_refl _) dX4_join_26 (hq _ _ ?_)
      first
        | (have e9 : mop_join S u g = mBad S 1 := by (unfold mop_join; simp [show mUser (S.1 0) u = false from b10])
           rw [e9]
           exact ⟨rfl, hM.cg (sV_sV S 1 0 1)⟩)
        | (have e9 : mop_join S u g = mBad S 1 := by (unfold mop_join; simp [show mUser (S.1 0) u = true from b10, show mGroup (S.1 0) g = false from b18])
           rw [e9]
           exact ⟨rfl, hM.cg (sV_sV S 1 0 1)⟩)
set_option maxHeartbeats 4000000 in
set_option maxRecDepth 100000 in
theorem c_X4_leave {D : Gd} {fr : Nat} {m : Nat} {ad : Nat → Nat} {S : Ms} {h : Hm} (hM : MW m ad S h) (hf : 4 ≤ fr) (ok : MOk S) (u g : Int32) : MC D fr yX4_leave cX4_leave 3 (some .int) m ad h [.int u, .int g] (some (.int (mop_leave S u g).2.1)) ((mop_leave S u g).2.2) := by
  refine AM.of (lv := [some (.ref m), some (.int u), some (.int g)]) (by decide +kernel) (Nat.le_of_ble_eq_true rfl) rfl (fun z hX hq _ => ?_)
  have hM := hM.rf
  obtain ⟨nu, hu1, hu2, eu⟩ := ok.u
  obtain ⟨ng, hg2, eg⟩ := ok.g
  refine aw_ald0 hX dX4_leave_0 ?_
  refine aw_iconst (v := 0) hX dX4_leave_1 (by decide) ?_
  refine mm_put hX hM 1 fp_X4_39 (by decide) dX4_leave_2 (fun hp hM => ?_)
  refine aw_ald0 hX dX4_leave_5 ?_
  refine aw_ild1 hX dX4_leave_6 ?_
  refine mm_call hX hM lk_X4_82 rfl (c_X4_isUser (fr := fr - 1) hM.1 (by omega) _) rfl rfl (Nat.le_of_ble_eq_true rfl) (by omega) (by decide) (Nat.le_refl _) (Nat.le_refl _) dX4_leave_7 (fun hp hM => ?_)
  refine aw_if_eq hX (tgt := 21) dX4_leave_10 (by decide) (fun c10 => ?_) (fun c10 => ?_)
  · have b10 := bI_0' c10
    refine aw_ald0 hX dX4_leave_21 ?_
    refine aw_iconst (v := 1) hX dX4_leave_22 (by decide) ?_
    refine mm_call hX hM lk_X4_76 rfl (c_X4_fails (fr := fr - 1) hM.1 (by omega) 1) rfl rfl (Nat.le_of_ble_eq_true rfl) (by omega) (by decide) (Nat.le_refl _) (Nat.le_refl _) dX4_leave_23 (fun hp hM => ?_)
    refine aw_iret hX (Nat.le_refl _) (Nat.le_refl _) dX4_leave_26 (hq _ _ ?_)
    first
      | (have e9 : mop_leave S u g = mBad S 1 := by (unfold mop_leave; simp [show mUser (S.1 0) u = false from b10])
         rw [e9]
         exact ⟨rfl, hM.cg (sV_sV S 1 0 1)⟩)
      | (have e9 : mop_leave S u g = mBad S 1 := by (unfold mop_leave; simp [show mUser (S.1 0) u = true from b10, show mGroup (S.1 0) g = false from b18])
         rw [e9]
         exact ⟨rfl, hM.cg (sV_sV S 1 0 1)⟩)
  · have b10 := bI_n0 c10
    refine aw_ald0 hX dX4_leave_13 ?_
    refine aw_ild2 hX dX4_leave_14 ?_
    refine mm_call hX hM lk_X4_85 rfl (c_X4_isGroup (fr := fr - 1) hM.1 (by omega) _) rfl rfl (Nat.le_of_ble_eq_true rfl) (by omega) (by decide) (Nat.le_refl _) (Nat.le_refl _) dX4_leave_15 (fun hp hM => ?_)
    refine aw_if_ne hX (tgt := 27) dX4_leave_18 (by decide) (fun c18 => ?_) (fun c18 => ?_)
    · have b18 := bI_n0 c18
      obtain ⟨u, hu, rfl⟩ := mUser_of eu hu2 hu1 b10
      obtain ⟨g, hg, rfl⟩ := mGroup_of eg hg2 b18
      refine aw_ald0 hX dX4_leave_27 ?_
      refine mm_get hX hM fg_X4_7 rfl dX4_leave_28 ?_
      refine aw_iconst (v := 2) hX dX4_leave_31 (by decide) ?_
      refine aw_ild2 hX dX4_leave_32 ?_
      refine aw_iadd hX dX4_leave_33 ?_
      refine mm_ld hX hM (by decide) (2 + g) (nI_add 2 g) (by simp only [mLen]; omega) dX4_leave_34 ?_
      refine aw_ild1 hX dX4_leave_35 ?_
      refine ss_call hX lk_X4_65 (c_X4_has (fr := fr - 1) (by omega) _ _) rfl rfl (Nat.le_of_ble_eq_true rfl) (by omega) (by decide) (Nat.le_refl _) (Nat.le_refl _) dX4_leave_36 ?_
      refine aw_if_ne hX (tgt := 48) dX4_leave_39 (by decide) (fun c39 => ?_) (fun c39 => ?_)
      · have b39 := bI_n0 c39
        refine aw_ald0 hX dX4_leave_48 ?_
        refine mm_call hX hM lk_X4_79 rfl (c_X4_changes (fr := fr - 1) hM.1 (by omega) ok.p) rfl rfl (Nat.le_of_ble_eq_true rfl) (by omega) (by decide) (Nat.le_refl _) (Nat.le_refl _) dX4_leave_49 (fun hp hM => ?_)
        refine aw_ald0 hX dX4_leave_52 ?_
        refine mm_get hX hM fg_X4_7 rfl dX4_leave_53 ?_
        refine aw_iconst (v := 2) hX dX4_leave_56 (by decide) ?_
        refine aw_ild2 hX dX4_leave_57 ?_
        refine aw_iadd hX dX4_leave_58 ?_
        refine aw_dup2 hX dX4_leave_59 rfl rfl ?_
        refine mm_ld hX hM (by decide) (2 + g) (nI_add 2 g) (by simp only [mLen]; omega) dX4_leave_60 ?_
        refine aw_iconst (v := 1) hX dX4_leave_61 (by decide) ?_
        refine aw_ild1 hX dX4_leave_62 ?_
        refine aw_ishl hX dX4_leave_63 ?_
        refine aw_isub hX dX4_leave_64 ?_
        refine mm_st hX hM (by decide) (2 + g) (nI_add 2 g) (by simp only [mLen]; omega) dX4_leave_65 (fun hp hM => ?_)
        refine aw_ald0 hX dX4_leave_66 ?_
        refine aw_ild2 hX dX4_leave_67 ?_
        refine mm_call hX hM lk_X4_88 rfl (c_X4_howMany (fr := fr - 1) hM.1 (by omega) g ng nu (by omega) hg2 hu2 (by rw [sA_at, pk_un (by omega)]; exact eg) (by rw [sA_at, pk_un (by omega)]; exact eu)) rfl rfl (Nat.le_of_ble_eq_true rfl) (by omega) (by decide) (Nat.le_refl _) (Nat.le_refl _) dX4_leave_68 (fun hp hM => ?_)
        refine aw_iret hX (Nat.le_refl _) (Nat.le_refl _) dX4_leave_71 (hq _ _ ?_)
        first
          | (have e9 : mop_leave S (nI u) (nI g) = (0, nI (mHowMany (upd (S.1 0) (2 + g) (S.1 0 (2 + g) - mBit (nI u))) g ng nu), mSet S (2 + g) (S.1 0 (2 + g) - mBit (nI u))) := by (unfold mop_leave; simp [show mUser (S.1 0) (nI u) = true from b10, show mGroup (S.1 0) (nI g) = true from b18, show mHas (S.1 0 (2 + g)) (nI u) = _ from b39, nI_clamp (show g < 2 ^ 31 by omega), mHm_i (k := 2 + g) (by omega) hg2 hu2 eg eu])
             rw [e9]
             exact ⟨rfl, hM.cg (rfl)⟩)
      · have b39 := bI_0' c39
        refine aw_ald0 hX dX4_leave_42 ?_
        refine aw_iconst (v := 2) hX dX4_leave_43 (by decide) ?_
        refine mm_call hX hM lk_X4_76 rfl (c_X4_fails (fr := fr - 1) hM.1 (by omega) 2) rfl rfl (Nat.le_of_ble_eq_true rfl) (by omega) (by decide) (Nat.le_refl _) (Nat.le_refl _) dX4_leave_44 (fun hp hM => ?_)
        refine aw_iret hX (Nat.le_refl _) (Nat.le_refl _) dX4_leave_47 (hq _ _ ?_)
        first
          | (have e9 : mop_leave S (nI u) (nI g) = mBad S 2 := by (unfold mop_leave; simp [show mUser (S.1 0) (nI u) = true from b10, show mGroup (S.1 0) (nI g) = true from b18, show mHas (S.1 0 (2 + g)) (nI u) = _ from b39, nI_clamp (show g < 2 ^ 31 by omega)])
             rw [e9]
             exact ⟨rfl, hM.cg (sV_sV S 1 0 2)⟩)
    · have b18 := bI_0' c18
      refine aw_ald0 hX dX4_leave_21 ?_
      refine aw_iconst (v := 1) hX dX4_leave_22 (by decide) ?_
      refine mm_call hX hM lk_X4_76 rfl (c_X4_fails (fr := fr - 1) hM.1 (by omega) 1) rfl rfl (Nat.le_of_ble_eq_true rfl) (by omega) (by decide) (Nat.le_refl _) (Nat.le_refl _) dX4_leave_23 (fun hp hM => ?_)
      refine aw_iret hX (Nat.le_refl _) (Nat.le_refl _) dX4_leave_26 (hq _ _ ?_)
      first
        | (have e9 : mop_leave S u g = mBad S 1 := by (unfold mop_leave; simp [show mUser (S.1 0) u = false from b10])
           rw [e9]
           exact ⟨rfl, hM.cg (sV_sV S 1 0 1)⟩)
        | (have e9 : mop_leave S u g = mBad S 1 := by (unfold mop_leave; simp [show mUser (S.1 0) u = true from b10, show mGroup (S.1 0) g = false from b18])
           rw [e9]
           exact ⟨rfl, hM.cg (sV_sV S 1 0 1)⟩)
set_option maxHeartbeats 4000000 in
set_option maxRecDepth 100000 in
theorem c_X4_nest {D : Gd} {fr : Nat} {m : Nat} {ad : Nat → Nat} {S : Ms} {h : Hm} (hM : MW m ad S h) (hf : 4 ≤ fr) (ok : MOk S) (i o : Int32) : MC D fr yX4_nest cX4_nest 3 (some .int) m ad h [.int i, .int o] (some (.int (mop_nest S i o).2.1)) ((mop_nest S i o).2.2) := by
  refine AM.of (lv := [some (.ref m), some (.int i), some (.int o)]) (by decide +kernel) (Nat.le_of_ble_eq_true rfl) rfl (fun z hX hq _ => ?_)
  have hM := hM.rf
  obtain ⟨nu, hu1, hu2, eu⟩ := ok.u
  obtain ⟨ng, hg2, eg⟩ := ok.g
  refine aw_ald0 hX dX4_nest_0 ?_
  refine aw_iconst (v := 0) hX dX4_nest_1 (by decide) ?_
  refine mm_put hX hM 1 fp_X4_39 (by decide) dX4_nest_2 (fun hp hM => ?_)
  refine aw_ald0 hX dX4_nest_5 ?_
  refine aw_ild1 hX dX4_nest_6 ?_
  refine mm_call hX hM lk_X4_85 rfl (c_X4_isGroup (fr := fr - 1) hM.1 (by omega) _) rfl rfl (Nat.le_of_ble_eq_true rfl) (by omega) (by decide) (Nat.le_refl _) (Nat.le_refl _) dX4_nest_7 (fun hp hM => ?_)
  refine aw_if_eq hX (tgt := 21) dX4_nest_10 (by decide) (fun c10 => ?_) (fun c10 => ?_)
  · have b10 := bI_0' c10
    refine aw_ald0 hX dX4_nest_21 ?_
    refine aw_iconst (v := 1) hX dX4_nest_22 (by decide) ?_
    refine mm_call hX hM lk_X4_76 rfl (c_X4_fails (fr := fr - 1) hM.1 (by omega) 1) rfl rfl (Nat.le_of_ble_eq_true rfl) (by omega) (by decide) (Nat.le_refl _) (Nat.le_refl _) dX4_nest_23 (fun hp hM => ?_)
    refine aw_iret hX (Nat.le_refl _) (Nat.le_refl _) dX4_nest_26 (hq _ _ ?_)
    first
      | (have e9 : mop_nest S i o = mBad S 1 := by (unfold mop_nest; simp [show mGroup (S.1 0) i = false from b10])
         rw [e9]
         exact ⟨rfl, hM.cg (sV_sV S 1 0 1)⟩)
      | (have e9 : mop_nest S i o = mBad S 1 := by (unfold mop_nest; simp [show mGroup (S.1 0) i = true from b10, show mGroup (S.1 0) o = false from b18])
         rw [e9]
         exact ⟨rfl, hM.cg (sV_sV S 1 0 1)⟩)
  · have b10 := bI_n0 c10
    refine aw_ald0 hX dX4_nest_13 ?_
    refine aw_ild2 hX dX4_nest_14 ?_
    refine mm_call hX hM lk_X4_85 rfl (c_X4_isGroup (fr := fr - 1) hM.1 (by omega) _) rfl rfl (Nat.le_of_ble_eq_true rfl) (by omega) (by decide) (Nat.le_refl _) (Nat.le_refl _) dX4_nest_15 (fun hp hM => ?_)
    refine aw_if_ne hX (tgt := 27) dX4_nest_18 (by decide) (fun c18 => ?_) (fun c18 => ?_)
    · have b18 := bI_n0 c18
      obtain ⟨i, hi, rfl⟩ := mGroup_of eg hg2 b10
      obtain ⟨g, hg, rfl⟩ := mGroup_of eg hg2 b18
      refine aw_ild1 hX dX4_nest_27 ?_
      refine aw_ild2 hX dX4_nest_28 ?_
      refine aw_icmp_eq hX (tgt := 60) dX4_nest_29 (by decide) (fun c29 => ?_) (fun c29 => ?_)
      · refine aw_ald0 hX dX4_nest_60 ?_
        refine aw_iconst (v := 2) hX dX4_nest_61 (by decide) ?_
        refine mm_call hX hM lk_X4_76 rfl (c_X4_fails (fr := fr - 1) hM.1 (by omega) 2) rfl rfl (Nat.le_of_ble_eq_true rfl) (by omega) (by decide) (Nat.le_refl _) (Nat.le_refl _) dX4_nest_62 (fun hp hM => ?_)
        refine aw_iret hX (Nat.le_refl _) (Nat.le_refl _) dX4_nest_65 (hq _ _ ?_)
        first
          | (have e9 : mop_nest S (nI i) (nI g) = mBad S 2 := by (unfold mop_nest; simp [show mGroup (S.1 0) (nI i) = true from b10, show mGroup (S.1 0) (nI g) = true from b18, show nI i = nI g from c29])
             rw [e9]
             exact ⟨rfl, hM.cg (sV_sV S 1 0 2)⟩)
          | (have e9 : mop_nest S (nI i) (nI g) = mBad S 2 := by (unfold mop_nest; simp [show mGroup (S.1 0) (nI i) = true from b10, show mGroup (S.1 0) (nI g) = true from b18, show ¬ nI i = nI g from c29, show mHas (S.1 0 (10 + i)) (nI g) = true from b45, nI_clamp (show g < 2 ^ 31 by omega), nI_clamp (show i < 2 ^ 31 by omega)])
             rw [e9]
             exact ⟨rfl, hM.cg (sV_sV S 1 0 2)⟩)
          | (have e9 : mop_nest S (nI i) (nI g) = mBad S 2 := by (unfold mop_nest; simp [show mGroup (S.1 0) (nI i) = true from b10, show mGroup (S.1 0) (nI g) = true from b18, show ¬ nI i = nI g from c29, show mHas (S.1 0 (10 + i)) (nI g) = false from b45, show mHas (mOuters (S.1 0) g) (nI i) = true from b57, nI_clamp (show g < 2 ^ 31 by omega), nI_clamp (show i < 2 ^ 31 by omega)])
             rw [e9]
             exact ⟨rfl, hM.cg (sV_sV S 1 0 2)⟩)
      · refine aw_ald0 hX dX4_nest_32 ?_
        refine mm_get hX hM fg_X4_7 rfl dX4_nest_33 ?_
        refine aw_bipush (v := 10) hX dX4_nest_36 (by decide) ?_
        refine aw_ild1 hX dX4_nest_38 ?_
        refine aw_iadd hX dX4_nest_39 ?_
        refine mm_ld hX hM (by decide) (10 + i) (nI_add 10 i) (by simp only [mLen]; omega) dX4_nest_40 ?_
        refine aw_ild2 hX dX4_nest_41 ?_
        refine ss_call hX lk_X4_65 (c_X4_has (fr := fr - 1) (by omega) _ _) rfl rfl (Nat.le_of_ble_eq_true rfl) (by omega) (by decide) (Nat.le_refl _) (Nat.le_refl _) dX4_nest_42 ?_
        refine aw_if_ne hX (tgt := 60) dX4_nest_45 (by decide) (fun c45 => ?_) (fun c45 => ?_)
        · have b45 := bI_n0 c45
          refine aw_ald0 hX dX4_nest_60 ?_
          refine aw_iconst (v := 2) hX dX4_nest_61 (by decide) ?_
          refine mm_call hX hM lk_X4_76 rfl (c_X4_fails (fr := fr - 1) hM.1 (by omega) 2) rfl rfl (Nat.le_of_ble_eq_true rfl) (by omega) (by decide) (Nat.le_refl _) (Nat.le_refl _) dX4_nest_62 (fun hp hM => ?_)
          refine aw_iret hX (Nat.le_refl _) (Nat.le_refl _) dX4_nest_65 (hq _ _ ?_)
          first
            | (have e9 : mop_nest S (nI i) (nI g) = mBad S 2 := by (unfold mop_nest; simp [show mGroup (S.1 0) (nI i) = true from b10, show mGroup (S.1 0) (nI g) = true from b18, show nI i = nI g from c29])
               rw [e9]
               exact ⟨rfl, hM.cg (sV_sV S 1 0 2)⟩)
            | (have e9 : mop_nest S (nI i) (nI g) = mBad S 2 := by (unfold mop_nest; simp [show mGroup (S.1 0) (nI i) = true from b10, show mGroup (S.1 0) (nI g) = true from b18, show ¬ nI i = nI g from c29, show mHas (S.1 0 (10 + i)) (nI g) = true from b45, nI_clamp (show g < 2 ^ 31 by omega), nI_clamp (show i < 2 ^ 31 by omega)])
               rw [e9]
               exact ⟨rfl, hM.cg (sV_sV S 1 0 2)⟩)
            | (have e9 : mop_nest S (nI i) (nI g) = mBad S 2 := by (unfold mop_nest; simp [show mGroup (S.1 0) (nI i) = true from b10, show mGroup (S.1 0) (nI g) = true from b18, show ¬ nI i = nI g from c29, show mHas (S.1 0 (10 + i)) (nI g) = false from b45, show mHas (mOuters (S.1 0) g) (nI i) = true from b57, nI_clamp (show g < 2 ^ 31 by omega), nI_clamp (show i < 2 ^ 31 by omega)])
               rw [e9]
               exact ⟨rfl, hM.cg (sV_sV S 1 0 2)⟩)
        · have b45 := bI_0' c45
          refine aw_ald0 hX dX4_nest_48 ?_
          refine aw_ild2 hX dX4_nest_49 ?_
          refine mm_call hX hM lk_X4_69 rfl (c_X4_outers (fr := fr - 1) hM.1 (by omega) g (by omega)) rfl rfl (Nat.le_of_ble_eq_true rfl) (by omega) (by decide) (Nat.le_refl _) (Nat.le_refl _) dX4_nest_50 (fun hp hM => ?_)
          refine aw_ild1 hX dX4_nest_53 ?_
          refine ss_call hX lk_X4_65 (c_X4_has (fr := fr - 1) (by omega) _ _) rfl rfl (Nat.le_of_ble_eq_true rfl) (by omega) (by decide) (Nat.le_refl _) (Nat.le_refl _) dX4_nest_54 ?_
          refine aw_if_eq hX (tgt := 66) dX4_nest_57 (by decide) (fun c57 => ?_) (fun c57 => ?_)
          · have b57 := bI_0' c57
            refine aw_ald0 hX dX4_nest_66 ?_
            refine mm_call hX hM lk_X4_79 rfl (c_X4_changes (fr := fr - 1) hM.1 (by omega) ok.p) rfl rfl (Nat.le_of_ble_eq_true rfl) (by omega) (by decide) (Nat.le_refl _) (Nat.le_refl _) dX4_nest_67 (fun hp hM => ?_)
            refine aw_ald0 hX dX4_nest_70 ?_
            refine mm_get hX hM fg_X4_7 rfl dX4_nest_71 ?_
            refine aw_bipush (v := 10) hX dX4_nest_74 (by decide) ?_
            refine aw_ild1 hX dX4_nest_76 ?_
            refine aw_iadd hX dX4_nest_77 ?_
            refine aw_dup2 hX dX4_nest_78 rfl rfl ?_
            refine mm_ld hX hM (by decide) (10 + i) (nI_add 10 i) (by simp only [mLen]; omega) dX4_nest_79 ?_
            refine aw_iconst (v := 1) hX dX4_nest_80 (by decide) ?_
            refine aw_ild2 hX dX4_nest_81 ?_
            refine aw_ishl hX dX4_nest_82 ?_
            refine aw_ior hX dX4_nest_83 ?_
            refine mm_st hX hM (by decide) (10 + i) (nI_add 10 i) (by simp only [mLen]; omega) dX4_nest_84 (fun hp hM => ?_)
            refine aw_ald0 hX dX4_nest_85 ?_
            refine aw_ild2 hX dX4_nest_86 ?_
            refine mm_call hX hM lk_X4_88 rfl (c_X4_howMany (fr := fr - 1) hM.1 (by omega) g ng nu (by omega) hg2 hu2 (by rw [sA_at, pk_un (by omega)]; exact eg) (by rw [sA_at, pk_un (by omega)]; exact eu)) rfl rfl (Nat.le_of_ble_eq_true rfl) (by omega) (by decide) (Nat.le_refl _) (Nat.le_refl _) dX4_nest_87 (fun hp hM => ?_)
            refine aw_iret hX (Nat.le_refl _) (Nat.le_refl _) dX4_nest_90 (hq _ _ ?_)
            first
              | (have e9 : mop_nest S (nI i) (nI g) = (0, nI (mHowMany (upd (S.1 0) (10 + i) (S.1 0 (10 + i) ||| mBit (nI g))) g ng nu), mSet S (10 + i) (S.1 0 (10 + i) ||| mBit (nI g))) := by (unfold mop_nest; simp [show mGroup (S.1 0) (nI i) = true from b10, show mGroup (S.1 0) (nI g) = true from b18, show ¬ nI i = nI g from c29, show mHas (S.1 0 (10 + i)) (nI g) = false from b45, show mHas (mOuters (S.1 0) g) (nI i) = false from b57, nI_clamp (show g < 2 ^ 31 by omega), nI_clamp (show i < 2 ^ 31 by omega), mHm_i (k := 10 + i) (by omega) hg2 hu2 eg eu])
                 rw [e9]
                 exact ⟨rfl, hM.cg (rfl)⟩)
          · have b57 := bI_n0 c57
            refine aw_ald0 hX dX4_nest_60 ?_
            refine aw_iconst (v := 2) hX dX4_nest_61 (by decide) ?_
            refine mm_call hX hM lk_X4_76 rfl (c_X4_fails (fr := fr - 1) hM.1 (by omega) 2) rfl rfl (Nat.le_of_ble_eq_true rfl) (by omega) (by decide) (Nat.le_refl _) (Nat.le_refl _) dX4_nest_62 (fun hp hM => ?_)
            refine aw_iret hX (Nat.le_refl _) (Nat.le_refl _) dX4_nest_65 (hq _ _ ?_)
            first
              | (have e9 : mop_nest S (nI i) (nI g) = mBad S 2 := by (unfold mop_nest; simp [show mGroup (S.1 0) (nI i) = true from b10, show mGroup (S.1 0) (nI g) = true from b18, show nI i = nI g from c29])
                 rw [e9]
                 exact ⟨rfl, hM.cg (sV_sV S 1 0 2)⟩)
              | (have e9 : mop_nest S (nI i) (nI g) = mBad S 2 := by (unfold mop_nest; simp [show mGroup (S.1 0) (nI i) = true from b10, show mGroup (S.1 0) (nI g) = true from b18, show ¬ nI i = nI g from c29, show mHas (S.1 0 (10 + i)) (nI g) = true from b45, nI_clamp (show g < 2 ^ 31 by omega), nI_clamp (show i < 2 ^ 31 by omega)])
                 rw [e9]
                 exact ⟨rfl, hM.cg (sV_sV S 1 0 2)⟩)
              | (have e9 : mop_nest S (nI i) (nI g) = mBad S 2 := by (unfold mop_nest; simp [show mGroup (S.1 0) (nI i) = true from b10, show mGroup (S.1 0) (nI g) = true from b18, show ¬ nI i = nI g from c29, show mHas (S.1 0 (10 + i)) (nI g) = false from b45, show mHas (mOuters (S.1 0) g) (nI i) = true from b57, nI_clamp (show g < 2 ^ 31 by omega), nI_clamp (show i < 2 ^ 31 by omega)])
                 rw [e9]
                 exact ⟨rfl, hM.cg (sV_sV S 1 0 2)⟩)
    · have b18 := bI_0' c18
      refine aw_ald0 hX dX4_nest_21 ?_
      refine aw_iconst (v := 1) hX dX4_nest_22 (by decide) ?_
      refine mm_call hX hM lk_X4_76 rfl (c_X4_fails (fr := fr - 1) hM.1 (by omega) 1) rfl rfl (Nat.le_of_ble_eq_true rfl) (by omega) (by decide) (Nat.le_refl _) (Nat.le_refl _) dX4_nest_23 (fun hp hM => ?_)
      refine aw_iret hX (Nat.le_refl _) (Nat.le_refl _) dX4_nest_26 (hq _ _ ?_)
      first
        | (have e9 : mop_nest S i o = mBad S 1 := by (unfold mop_nest; simp [show mGroup (S.1 0) i = false from b10])
           rw [e9]
           exact ⟨rfl, hM.cg (sV_sV S 1 0 1)⟩)
        | (have e9 : mop_nest S i o = mBad S 1 := by (unfold mop_nest; simp [show mGroup (S.1 0) i = true from b10, show mGroup (S.1 0) o = false from b18])
           rw [e9]
           exact ⟨rfl, hM.cg (sV_sV S 1 0 1)⟩)
set_option maxHeartbeats 4000000 in
set_option maxRecDepth 100000 in
theorem c_X4_unnest {D : Gd} {fr : Nat} {m : Nat} {ad : Nat → Nat} {S : Ms} {h : Hm} (hM : MW m ad S h) (hf : 4 ≤ fr) (ok : MOk S) (i o : Int32) : MC D fr yX4_unnest cX4_unnest 3 (some .int) m ad h [.int i, .int o] (some (.int (mop_unnest S i o).2.1)) ((mop_unnest S i o).2.2) := by
  refine AM.of (lv := [some (.ref m), some (.int i), some (.int o)]) (by decide +kernel) (Nat.le_of_ble_eq_true rfl) rfl (fun z hX hq _ => ?_)
  have hM := hM.rf
  obtain ⟨nu, hu1, hu2, eu⟩ := ok.u
  obtain ⟨ng, hg2, eg⟩ := ok.g
  refine aw_ald0 hX dX4_unnest_0 ?_
  refine aw_iconst (v := 0) hX dX4_unnest_1 (by decide) ?_
  refine mm_put hX hM 1 fp_X4_39 (by decide) dX4_unnest_2 (fun hp hM => ?_)
  refine aw_ald0 hX dX4_unnest_5 ?_
  refine aw_ild1 hX dX4_unnest_6 ?_
  refine mm_call hX hM lk_X4_85 rfl (c_X4_isGroup (fr := fr - 1) hM.1 (by omega) _) rfl rfl (Nat.le_of_ble_eq_true rfl) (by omega) (by decide) (Nat.le_refl _) (Nat.le_refl _) dX4_unnest_7 (fun hp hM => ?_)
  refine aw_if_eq hX (tgt := 21) dX4_unnest_10 (by decide) (fun c10 => ?_) (fun c10 => ?_)
  · have b10 := bI_0' c10
    refine aw_ald0 hX dX4_unnest_21 ?_
    refine aw_iconst (v := 1) hX dX4_unnest_22 (by decide) ?_
    refine mm_call hX hM lk_X4_76 rfl (c_X4_fails (fr := fr - 1) hM.1 (by omega) 1) rfl rfl (Nat.le_of_ble_eq_true rfl) (by omega) (by decide) (Nat.le_refl _) (Nat.le_refl _) dX4_unnest_23 (fun hp hM => ?_)
    refine aw_iret hX (Nat.le_refl _) (Nat.le_refl _) dX4_unnest_26 (hq _ _ ?_)
    first
      | (have e9 : mop_unnest S i o = mBad S 1 := by (unfold mop_unnest; simp [show mGroup (S.1 0) i = false from b10])
         rw [e9]
         exact ⟨rfl, hM.cg (sV_sV S 1 0 1)⟩)
      | (have e9 : mop_unnest S i o = mBad S 1 := by (unfold mop_unnest; simp [show mGroup (S.1 0) i = true from b10, show mGroup (S.1 0) o = false from b18])
         rw [e9]
         exact ⟨rfl, hM.cg (sV_sV S 1 0 1)⟩)
  · have b10 := bI_n0 c10
    refine aw_ald0 hX dX4_unnest_13 ?_
    refine aw_ild2 hX dX4_unnest_14 ?_
    refine mm_call hX hM lk_X4_85 rfl (c_X4_isGroup (fr := fr - 1) hM.1 (by omega) _) rfl rfl (Nat.le_of_ble_eq_true rfl) (by omega) (by decide) (Nat.le_refl _) (Nat.le_refl _) dX4_unnest_15 (fun hp hM => ?_)
    refine aw_if_ne hX (tgt := 27) dX4_unnest_18 (by decide) (fun c18 => ?_) (fun c18 => ?_)
    · have b18 := bI_n0 c18
      obtain ⟨i, hi, rfl⟩ := mGroup_of eg hg2 b10
      obtain ⟨g, hg, rfl⟩ := mGroup_of eg hg2 b18
      refine aw_ald0 hX dX4_unnest_27 ?_
      refine mm_get hX hM fg_X4_7 rfl dX4_unnest_28 ?_
      refine aw_bipush (v := 10) hX dX4_unnest_31 (by decide) ?_
      refine aw_ild1 hX dX4_unnest_33 ?_
      refine aw_iadd hX dX4_unnest_34 ?_
      refine mm_ld hX hM (by decide) (10 + i) (nI_add 10 i) (by simp only [mLen]; omega) dX4_unnest_35 ?_
      refine aw_ild2 hX dX4_unnest_36 ?_
      refine ss_call hX lk_X4_65 (c_X4_has (fr := fr - 1) (by omega) _ _) rfl rfl (Nat.le_of_ble_eq_true rfl) (by omega) (by decide) (Nat.le_refl _) (Nat.le_refl _) dX4_unnest_37 ?_
      refine aw_if_ne hX (tgt := 49) dX4_unnest_40 (by decide) (fun c40 => ?_) (fun c40 => ?_)
      · have b40 := bI_n0 c40
        refine aw_ald0 hX dX4_unnest_49 ?_
        refine mm_call hX hM lk_X4_79 rfl (c_X4_changes (fr := fr - 1) hM.1 (by omega) ok.p) rfl rfl (Nat.le_of_ble_eq_true rfl) (by omega) (by decide) (Nat.le_refl _) (Nat.le_refl _) dX4_unnest_50 (fun hp hM => ?_)
        refine aw_ald0 hX dX4_unnest_53 ?_
        refine mm_get hX hM fg_X4_7 rfl dX4_unnest_54 ?_
        refine aw_bipush (v := 10) hX dX4_unnest_57 (by decide) ?_
        refine aw_ild1 hX dX4_unnest_59 ?_
        refine aw_iadd hX dX4_unnest_60 ?_
        refine aw_dup2 hX dX4_unnest_61 rfl rfl ?_
        refine mm_ld hX hM (by decide) (10 + i) (nI_add 10 i) (by simp only [mLen]; omega) dX4_unnest_62 ?_
        refine aw_iconst (v := 1) hX dX4_unnest_63 (by decide) ?_
        refine aw_ild2 hX dX4_unnest_64 ?_
        refine aw_ishl hX dX4_unnest_65 ?_
        refine aw_isub hX dX4_unnest_66 ?_
        refine mm_st hX hM (by decide) (10 + i) (nI_add 10 i) (by simp only [mLen]; omega) dX4_unnest_67 (fun hp hM => ?_)
        refine aw_ald0 hX dX4_unnest_68 ?_
        refine aw_ild2 hX dX4_unnest_69 ?_
        refine mm_call hX hM lk_X4_88 rfl (c_X4_howMany (fr := fr - 1) hM.1 (by omega) g ng nu (by omega) hg2 hu2 (by rw [sA_at, pk_un (by omega)]; exact eg) (by rw [sA_at, pk_un (by omega)]; exact eu)) rfl rfl (Nat.le_of_ble_eq_true rfl) (by omega) (by decide) (Nat.le_refl _) (Nat.le_refl _) dX4_unnest_70 (fun hp hM => ?_)
        refine aw_iret hX (Nat.le_refl _) (Nat.le_refl _) dX4_unnest_73 (hq _ _ ?_)
        first
          | (have e9 : mop_unnest S (nI i) (nI g) = (0, nI (mHowMany (upd (S.1 0) (10 + i) (S.1 0 (10 + i) - mBit (nI g))) g ng nu), mSet S (10 + i) (S.1 0 (10 + i) - mBit (nI g))) := by (unfold mop_unnest; simp [show mGroup (S.1 0) (nI i) = true from b10, show mGroup (S.1 0) (nI g) = true from b18, show mHas (S.1 0 (10 + i)) (nI g) = true from b40, nI_clamp (show g < 2 ^ 31 by omega), nI_clamp (show i < 2 ^ 31 by omega), mHm_i (k := 10 + i) (by omega) hg2 hu2 eg eu])
             rw [e9]
             exact ⟨rfl, hM.cg (rfl)⟩)
      · have b40 := bI_0' c40
        refine aw_ald0 hX dX4_unnest_43 ?_
        refine aw_iconst (v := 2) hX dX4_unnest_44 (by decide) ?_
        refine mm_call hX hM lk_X4_76 rfl (c_X4_fails (fr := fr - 1) hM.1 (by omega) 2) rfl rfl (Nat.le_of_ble_eq_true rfl) (by omega) (by decide) (Nat.le_refl _) (Nat.le_refl _) dX4_unnest_45 (fun hp hM => ?_)
        refine aw_iret hX (Nat.le_refl _) (Nat.le_refl _) dX4_unnest_48 (hq _ _ ?_)
        first
          | (have e9 : mop_unnest S (nI i) (nI g) = mBad S 2 := by (unfold mop_unnest; simp [show mGroup (S.1 0) (nI i) = true from b10, show mGroup (S.1 0) (nI g) = true from b18, show mHas (S.1 0 (10 + i)) (nI g) = false from b40, nI_clamp (show g < 2 ^ 31 by omega), nI_clamp (show i < 2 ^ 31 by omega)])
             rw [e9]
             exact ⟨rfl, hM.cg (sV_sV S 1 0 2)⟩)
    · have b18 := bI_0' c18
      refine aw_ald0 hX dX4_unnest_21 ?_
      refine aw_iconst (v := 1) hX dX4_unnest_22 (by decide) ?_
      refine mm_call hX hM lk_X4_76 rfl (c_X4_fails (fr := fr - 1) hM.1 (by omega) 1) rfl rfl (Nat.le_of_ble_eq_true rfl) (by omega) (by decide) (Nat.le_refl _) (Nat.le_refl _) dX4_unnest_23 (fun hp hM => ?_)
      refine aw_iret hX (Nat.le_refl _) (Nat.le_refl _) dX4_unnest_26 (hq _ _ ?_)
      first
        | (have e9 : mop_unnest S i o = mBad S 1 := by (unfold mop_unnest; simp [show mGroup (S.1 0) i = false from b10])
           rw [e9]
           exact ⟨rfl, hM.cg (sV_sV S 1 0 1)⟩)
        | (have e9 : mop_unnest S i o = mBad S 1 := by (unfold mop_unnest; simp [show mGroup (S.1 0) i = true from b10, show mGroup (S.1 0) o = false from b18])
           rw [e9]
           exact ⟨rfl, hM.cg (sV_sV S 1 0 1)⟩)
set_option maxHeartbeats 4000000 in
set_option maxRecDepth 100000 in
theorem c_X4_giveTo {D : Gd} {fr : Nat} {m : Nat} {ad : Nat → Nat} {S : Ms} {h : Hm} (hM : MW m ad S h) (hf : 4 ≤ fr) (ok : MOk S) (o w : Int32) : MC D fr yX4_giveTo cX4_giveTo 4 (some .int) m ad h [.int o, .int w] (some (.int (mop_giveTo S o w).2.1)) ((mop_giveTo S o w).2.2) := by
  refine AM.of (lv := [some (.ref m), some (.int o), some (.int w), none]) (by decide +kernel) (Nat.le_of_ble_eq_true rfl) rfl (fun z hX hq _ => ?_)
  have hM := hM.rf
  refine aw_ald0 hX dX4_giveTo_0 ?_
  refine aw_iconst (v := 0) hX dX4_giveTo_1 (by decide) ?_
  refine mm_put hX hM 1 fp_X4_39 (by decide) dX4_giveTo_2 (fun hp hM => ?_)
  refine aw_ald0 hX dX4_giveTo_5 ?_
  refine aw_ild1 hX dX4_giveTo_6 ?_
  refine mm_call hX hM lk_X4_57 rfl (c_X4_isObject (fr := fr - 1) hM.1 (by omega) _) rfl rfl (Nat.le_of_ble_eq_true rfl) (by omega) (by decide) (Nat.le_refl _) (Nat.le_refl _) dX4_giveTo_7 (fun hp hM => ?_)
  refine aw_if_eq hX (tgt := 21) dX4_giveTo_10 (by decide) (fun c10 => ?_) (fun c10 => ?_)
  · have b10 := bI_0' c10
    refine aw_ald0 hX dX4_giveTo_21 ?_
    refine aw_iconst (v := 1) hX dX4_giveTo_22 (by decide) ?_
    refine mm_call hX hM lk_X4_76 rfl (c_X4_fails (fr := fr - 1) hM.1 (by omega) 1) rfl rfl (Nat.le_of_ble_eq_true rfl) (by omega) (by decide) (Nat.le_refl _) (Nat.le_refl _) dX4_giveTo_23 (fun hp hM => ?_)
    refine aw_iret hX (Nat.le_refl _) (Nat.le_refl _) dX4_giveTo_26 (hq _ _ ?_)
    first
      | (have e9 : mop_giveTo S o w = mBad S 1 := by (unfold mop_giveTo; simp [show mObj (S.1 0) o = false from b10])
         rw [e9]
         exact ⟨rfl, hM.cg (sV_sV S 1 0 1)⟩)
      | (have e9 : mop_giveTo S o w = mBad S 1 := by (unfold mop_giveTo; simp [show mObj (S.1 0) o = true from b10, show mUser (S.1 0) w = false from b18])
         rw [e9]
         exact ⟨rfl, hM.cg (sV_sV S 1 0 1)⟩)
  · have b10 := bI_n0 c10
    refine aw_ald0 hX dX4_giveTo_13 ?_
    refine aw_ild2 hX dX4_giveTo_14 ?_
    refine mm_call hX hM lk_X4_82 rfl (c_X4_isUser (fr := fr - 1) hM.1 (by omega) _) rfl rfl (Nat.le_of_ble_eq_true rfl) (by omega) (by decide) (Nat.le_refl _) (Nat.le_refl _) dX4_giveTo_15 (fun hp hM => ?_)
    refine aw_if_ne hX (tgt := 27) dX4_giveTo_18 (by decide) (fun c18 => ?_) (fun c18 => ?_)
    · have b18 := bI_n0 c18
      obtain ⟨o, ho, rfl, ho1⟩ := mObj_of b10
      refine aw_ald0 hX dX4_giveTo_27 ?_
      refine mm_call hX hM lk_X4_79 rfl (c_X4_changes (fr := fr - 1) hM.1 (by omega) ok.p) rfl rfl (Nat.le_of_ble_eq_true rfl) (by omega) (by decide) (Nat.le_refl _) (Nat.le_refl _) dX4_giveTo_28 (fun hp hM => ?_)
      refine aw_ald0 hX dX4_giveTo_31 ?_
      refine aw_ild1 hX dX4_giveTo_32 ?_
      refine aw_iconst (v := 2) hX dX4_giveTo_33 (by decide) ?_
      refine mm_call hX hM lk_X4_54 rfl (c_X4_of (fr := fr - 1) hM.1 (by omega) o 2 ho (by decide)) rfl rfl (Nat.le_of_ble_eq_true rfl) (by omega) (by decide) (Nat.le_refl _) (Nat.le_refl _) dX4_giveTo_34 (fun hp hM => ?_)
      refine aw_ist3 hX dX4_giveTo_37 (by decide) rfl ?_
      refine aw_ald0 hX dX4_giveTo_38 ?_
      refine mm_get hX hM fg_X4_7 rfl dX4_giveTo_39 ?_
      refine aw_ild1 hX dX4_giveTo_42 ?_
      refine aw_iconst (v := 2) hX dX4_giveTo_43 (by decide) ?_
      refine ss_call hX lk_X4_50 (c_X4_at (fr := fr - 1) (by omega) _ _) rfl rfl (Nat.le_of_ble_eq_true rfl) (by omega) (by decide) (Nat.le_refl _) (Nat.le_refl _) dX4_giveTo_44 ?_
      refine aw_ild2 hX dX4_giveTo_47 ?_
      refine mm_st hX hM (by decide) (mO o 2) (mO_i o 2) (mO_lt ho (by decide)) dX4_giveTo_48 (fun hp hM => ?_)
      refine aw_ild3 hX dX4_giveTo_49 ?_
      refine aw_iret hX (Nat.le_refl _) (Nat.le_refl _) dX4_giveTo_50 (hq _ _ ?_)
      first
        | (have e9 : mop_giveTo S (nI o) w = (0, S.1 0 (mO o 2), mSet S (mO o 2) w) := by (unfold mop_giveTo; simp [show mObj (S.1 0) (nI o) = true from b10, show mUser (S.1 0) w = true from b18, nI_clamp (show o < 2 ^ 31 by omega)])
           rw [e9]
           exact ⟨rfl, hM.cg (rfl)⟩)
    · have b18 := bI_0' c18
      refine aw_ald0 hX dX4_giveTo_21 ?_
      refine aw_iconst (v := 1) hX dX4_giveTo_22 (by decide) ?_
      refine mm_call hX hM lk_X4_76 rfl (c_X4_fails (fr := fr - 1) hM.1 (by omega) 1) rfl rfl (Nat.le_of_ble_eq_true rfl) (by omega) (by decide) (Nat.le_refl _) (Nat.le_refl _) dX4_giveTo_23 (fun hp hM => ?_)
      refine aw_iret hX (Nat.le_refl _) (Nat.le_refl _) dX4_giveTo_26 (hq _ _ ?_)
      first
        | (have e9 : mop_giveTo S o w = mBad S 1 := by (unfold mop_giveTo; simp [show mObj (S.1 0) o = false from b10])
           rw [e9]
           exact ⟨rfl, hM.cg (sV_sV S 1 0 1)⟩)
        | (have e9 : mop_giveTo S o w = mBad S 1 := by (unfold mop_giveTo; simp [show mObj (S.1 0) o = true from b10, show mUser (S.1 0) w = false from b18])
           rw [e9]
           exact ⟨rfl, hM.cg (sV_sV S 1 0 1)⟩)
set_option maxHeartbeats 4000000 in
set_option maxRecDepth 100000 in
theorem c_X4_setMask {D : Gd} {fr : Nat} {m : Nat} {ad : Nat → Nat} {S : Ms} {h : Hm} (hM : MW m ad S h) (hf : 4 ≤ fr) (ok : MOk S) (o r : Int32) : MC D fr yX4_setMask cX4_setMask 4 (some .int) m ad h [.int o, .int r] (some (.int (mop_setMask S o r).2.1)) ((mop_setMask S o r).2.2) := by
  refine AM.of (lv := [some (.ref m), some (.int o), some (.int r), none]) (by decide +kernel) (Nat.le_of_ble_eq_true rfl) rfl (fun z hX hq _ => ?_)
  have hM := hM.rf
  refine aw_ald0 hX dX4_setMask_0 ?_
  refine aw_iconst (v := 0) hX dX4_setMask_1 (by decide) ?_
  refine mm_put hX hM 1 fp_X4_39 (by decide) dX4_setMask_2 (fun hp hM => ?_)
  refine aw_ald0 hX dX4_setMask_5 ?_
  refine aw_ild1 hX dX4_setMask_6 ?_
  refine mm_call hX hM lk_X4_57 rfl (c_X4_isObject (fr := fr - 1) hM.1 (by omega) _) rfl rfl (Nat.le_of_ble_eq_true rfl) (by omega) (by decide) (Nat.le_refl _) (Nat.le_refl _) dX4_setMask_7 (fun hp hM => ?_)
  refine aw_if_ne hX (tgt := 19) dX4_setMask_10 (by decide) (fun c10 => ?_) (fun c10 => ?_)
  · have b10 := bI_n0 c10
    obtain ⟨o, ho, rfl, ho1⟩ := mObj_of b10
    refine aw_ild2 hX dX4_setMask_19 ?_
    refine aw_iconst (v := 0) hX dX4_setMask_20 (by decide) ?_
    refine aw_bipush (v := 15) hX dX4_setMask_21 (by decide) ?_
    refine ss_call hX lk_X4_46 (c_X4_in (fr := fr - 1) (by omega) _ _ _) rfl rfl (Nat.le_of_ble_eq_true rfl) (by omega) (by decide) (Nat.le_refl _) (Nat.le_refl _) dX4_setMask_23 ?_
    refine aw_if_ne hX (tgt := 35) dX4_setMask_26 (by decide) (fun c26 => ?_) (fun c26 => ?_)
    · have b26 := bI_n0 c26
      refine aw_ald0 hX dX4_setMask_35 ?_
      refine mm_call hX hM lk_X4_79 rfl (c_X4_changes (fr := fr - 1) hM.1 (by omega) ok.p) rfl rfl (Nat.le_of_ble_eq_true rfl) (by omega) (by decide) (Nat.le_refl _) (Nat.le_refl _) dX4_setMask_36 (fun hp hM => ?_)
      refine aw_ald0 hX dX4_setMask_39 ?_
      refine aw_ild1 hX dX4_setMask_40 ?_
      refine aw_iconst (v := 3) hX dX4_setMask_41 (by decide) ?_
      refine mm_call hX hM lk_X4_54 rfl (c_X4_of (fr := fr - 1) hM.1 (by omega) o 3 ho (by decide)) rfl rfl (Nat.le_of_ble_eq_true rfl) (by omega) (by decide) (Nat.le_refl _) (Nat.le_refl _) dX4_setMask_42 (fun hp hM => ?_)
      refine aw_ist3 hX dX4_setMask_45 (by decide) rfl ?_
      refine aw_ald0 hX dX4_setMask_46 ?_
      refine mm_get hX hM fg_X4_7 rfl dX4_setMask_47 ?_
      refine aw_ild1 hX dX4_setMask_50 ?_
      refine aw_iconst (v := 3) hX dX4_setMask_51 (by decide) ?_
      refine ss_call hX lk_X4_50 (c_X4_at (fr := fr - 1) (by omega) _ _) rfl rfl (Nat.le_of_ble_eq_true rfl) (by omega) (by decide) (Nat.le_refl _) (Nat.le_refl _) dX4_setMask_52 ?_
      refine aw_ild2 hX dX4_setMask_55 ?_
      refine mm_st hX hM (by decide) (mO o 3) (mO_i o 3) (mO_lt ho (by decide)) dX4_setMask_56 (fun hp hM => ?_)
      refine aw_ild3 hX dX4_setMask_57 ?_
      refine aw_iret hX (Nat.le_refl _) (Nat.le_refl _) dX4_setMask_58 (hq _ _ ?_)
      first
        | (have e9 : mop_setMask S (nI o) r = (0, S.1 0 (mO o 3), mSet S (mO o 3) r) := by (unfold mop_setMask; simp [show mObj (S.1 0) (nI o) = true from b10, of_decide_eq_true b26, nI_clamp (show o < 2 ^ 31 by omega)])
           rw [e9]
           exact ⟨rfl, hM.cg (rfl)⟩)
    · have b26 := bI_0' c26
      refine aw_ald0 hX dX4_setMask_29 ?_
      refine aw_iconst (v := 2) hX dX4_setMask_30 (by decide) ?_
      refine mm_call hX hM lk_X4_76 rfl (c_X4_fails (fr := fr - 1) hM.1 (by omega) 2) rfl rfl (Nat.le_of_ble_eq_true rfl) (by omega) (by decide) (Nat.le_refl _) (Nat.le_refl _) dX4_setMask_31 (fun hp hM => ?_)
      refine aw_iret hX (Nat.le_refl _) (Nat.le_refl _) dX4_setMask_34 (hq _ _ ?_)
      first
        | (have e9 : mop_setMask S (nI o) r = mBad S 2 := by (unfold mop_setMask; simp [show mObj (S.1 0) (nI o) = true from b10, of_decide_eq_false b26])
           rw [e9]
           exact ⟨rfl, hM.cg (sV_sV S 1 0 2)⟩)
  · have b10 := bI_0' c10
    refine aw_ald0 hX dX4_setMask_13 ?_
    refine aw_iconst (v := 1) hX dX4_setMask_14 (by decide) ?_
    refine mm_call hX hM lk_X4_76 rfl (c_X4_fails (fr := fr - 1) hM.1 (by omega) 1) rfl rfl (Nat.le_of_ble_eq_true rfl) (by omega) (by decide) (Nat.le_refl _) (Nat.le_refl _) dX4_setMask_15 (fun hp hM => ?_)
    refine aw_iret hX (Nat.le_refl _) (Nat.le_refl _) dX4_setMask_18 (hq _ _ ?_)
    first
      | (have e9 : mop_setMask S o r = mBad S 1 := by (unfold mop_setMask; simp [show mObj (S.1 0) o = false from b10])
         rw [e9]
         exact ⟨rfl, hM.cg (sV_sV S 1 0 1)⟩)
