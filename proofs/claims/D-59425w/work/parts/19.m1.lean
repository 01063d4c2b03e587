/-! THE REFERENCE, printed by m1.py: its small methods -/
set_option maxHeartbeats 4000000 in
set_option maxRecDepth 100000 in
theorem c_X4_in {D : Gd} {fr : Nat} {h : Hm} (hf : 0 ≤ fr) (v a b : Int32) : SC D fr yX4_in cX4_in 3 (some .boolean) h [.int v, .int a, .int b] (some (.int (bI (decide (a ≤ v ∧ v ≤ b))))) := by
  refine AM.of (lv := [some (.int v), some (.int a), some (.int b)]) (by decide +kernel) (Nat.le_of_ble_eq_true rfl) rfl (fun z hX hq _ => ?_)
  refine aw_ild0 hX dX4_in_0 ?_
  refine aw_ild1 hX dX4_in_1 ?_
  refine aw_icmp_lt hX (tgt := 14) dX4_in_2 (by decide) (fun c2 => ?_) (fun c2 => ?_)
  · refine aw_iconst (v := 0) hX dX4_in_14 (by decide) ?_
    refine aw_zret hX (rfl) (Nat.le_refl _) (Nat.le_refl _) dX4_in_15 (hq _ _ ?_)
    refine ⟨?_, rfl⟩
    grind [bI]
  · refine aw_ild0 hX dX4_in_5 ?_
    refine aw_ild2 hX dX4_in_6 ?_
    refine aw_icmp_gt hX (tgt := 14) dX4_in_7 (by decide) (fun c7 => ?_) (fun c7 => ?_)
    · refine aw_iconst (v := 0) hX dX4_in_14 (by decide) ?_
      refine aw_zret hX (rfl) (Nat.le_refl _) (Nat.le_refl _) dX4_in_15 (hq _ _ ?_)
      refine ⟨?_, rfl⟩
      grind [bI]
    · refine aw_iconst (v := 1) hX dX4_in_10 (by decide) ?_
      refine aw_goto hX (tgt := 15) dX4_in_11 (by decide) ?_
      refine aw_zret hX (rfl) (Nat.le_refl _) (Nat.le_refl _) dX4_in_15 (hq _ _ ?_)
      refine ⟨?_, rfl⟩
      grind [bI]
set_option maxHeartbeats 4000000 in
set_option maxRecDepth 100000 in
theorem c_X4_has {D : Gd} {fr : Nat} {h : Hm} (hf : 0 ≤ fr) (v k : Int32) : SC D fr yX4_has cX4_has 2 (some .boolean) h [.int v, .int k] (some (.int (bI (mHas v k)))) := by
  refine AM.of (lv := [some (.int v), some (.int k)]) (by decide +kernel) (Nat.le_of_ble_eq_true rfl) rfl (fun z hX hq _ => ?_)
  refine aw_ild0 hX dX4_has_0 ?_
  refine aw_ild1 hX dX4_has_1 ?_
  refine aw_ishr hX dX4_has_2 ?_
  refine aw_iconst (v := 1) hX dX4_has_3 (by decide) ?_
  refine aw_iand hX dX4_has_4 ?_
  refine aw_iconst (v := 1) hX dX4_has_5 (by decide) ?_
  refine aw_icmp_ne hX (tgt := 13) dX4_has_6 (by decide) (fun c6 => ?_) (fun c6 => ?_)
  · refine aw_iconst (v := 0) hX dX4_has_13 (by decide) ?_
    refine aw_zret hX (rfl) (Nat.le_refl _) (Nat.le_refl _) dX4_has_14 (hq _ _ ?_)
    refine ⟨?_, rfl⟩
    simp_all [bI, mHas]
  · refine aw_iconst (v := 1) hX dX4_has_9 (by decide) ?_
    refine aw_goto hX (tgt := 14) dX4_has_10 (by decide) ?_
    refine aw_zret hX (rfl) (Nat.le_refl _) (Nat.le_refl _) dX4_has_14 (hq _ _ ?_)
    refine ⟨?_, rfl⟩
    simp_all [bI, mHas]
set_option maxHeartbeats 4000000 in
set_option maxRecDepth 100000 in
theorem c_X4_at {D : Gd} {fr : Nat} {h : Hm} (hf : 0 ≤ fr) (a b : Int32) : SC D fr yX4_at cX4_at 2 (some .int) h [.int a, .int b] (some (.int (18 + 36 * a + b))) := by
  refine AM.of (lv := [some (.int a), some (.int b)]) (by decide +kernel) (Nat.le_of_ble_eq_true rfl) rfl (fun z hX hq _ => ?_)
  refine aw_bipush (v := 18) hX dX4_at_0 (by decide) ?_
  refine aw_bipush (v := 36) hX dX4_at_2 (by decide) ?_
  refine aw_ild0 hX dX4_at_4 ?_
  refine aw_imul hX dX4_at_5 ?_
  refine aw_iadd hX dX4_at_6 ?_
  refine aw_ild1 hX dX4_at_7 ?_
  refine aw_iadd hX dX4_at_8 ?_
  refine aw_iret hX (Nat.le_refl _) (Nat.le_refl _) dX4_at_9 (hq _ _ ?_)
  exact ⟨rfl, rfl⟩
set_option maxHeartbeats 4000000 in
set_option maxRecDepth 100000 in
theorem c_X4_isRight {D : Gd} {fr : Nat} {h : Hm} (hf : 1 ≤ fr) (v : Int32) : SC D fr yX4_isRight cX4_isRight 1 (some .boolean) h [.int v] (some (.int (bI (decide (0 ≤ v ∧ v ≤ 3))))) := by
  refine AM.of (lv := [some (.int v)]) (by decide +kernel) (Nat.le_of_ble_eq_true rfl) rfl (fun z hX hq _ => ?_)
  refine aw_ild0 hX dX4_isRight_0 ?_
  refine aw_iconst (v := 0) hX dX4_isRight_1 (by decide) ?_
  refine aw_iconst (v := 3) hX dX4_isRight_2 (by decide) ?_
  refine ss_call hX lk_X4_46 (c_X4_in (fr := fr - 1) (by omega) _ _ _) rfl rfl (Nat.le_of_ble_eq_true rfl) (by omega) (by decide) (Nat.le_refl _) (Nat.le_refl _) dX4_isRight_3 ?_
  refine aw_zret hX (by first | rfl | exact bI_n _ | (split <;> rfl)) (Nat.le_refl _) (Nat.le_refl _) dX4_isRight_6 (hq _ _ ?_)
  exact ⟨rfl, rfl⟩
set_option maxHeartbeats 4000000 in
set_option maxRecDepth 100000 in
theorem c_X4_areRights {D : Gd} {fr : Nat} {h : Hm} (hf : 1 ≤ fr) (v : Int32) : SC D fr yX4_areRights cX4_areRights 1 (some .boolean) h [.int v] (some (.int (bI (decide (1 ≤ v ∧ v ≤ 15))))) := by
  refine AM.of (lv := [some (.int v)]) (by decide +kernel) (Nat.le_of_ble_eq_true rfl) rfl (fun z hX hq _ => ?_)
  refine aw_ild0 hX dX4_areRights_0 ?_
  refine aw_iconst (v := 1) hX dX4_areRights_1 (by decide) ?_
  refine aw_bipush (v := 15) hX dX4_areRights_2 (by decide) ?_
  refine ss_call hX lk_X4_46 (c_X4_in (fr := fr - 1) (by omega) _ _ _) rfl rfl (Nat.le_of_ble_eq_true rfl) (by omega) (by decide) (Nat.le_refl _) (Nat.le_refl _) dX4_areRights_4 ?_
  refine aw_zret hX (by first | rfl | exact bI_n _ | (split <;> rfl)) (Nat.le_refl _) (Nat.le_refl _) dX4_areRights_7 (hq _ _ ?_)
  exact ⟨rfl, rfl⟩
set_option maxHeartbeats 4000000 in
set_option maxRecDepth 100000 in
theorem c_X4_entryAt {D : Gd} {fr : Nat} {h : Hm} (hf : 1 ≤ fr) (a b c : Int32) : SC D fr yX4_entryAt cX4_entryAt 3 (some .int) h [.int a, .int b, .int c] (some (.int (18 + 36 * a + 6 + 5 * b + c))) := by
  refine AM.of (lv := [some (.int a), some (.int b), some (.int c)]) (by decide +kernel) (Nat.le_of_ble_eq_true rfl) rfl (fun z hX hq _ => ?_)
  refine aw_ild0 hX dX4_entryAt_0 ?_
  refine aw_bipush (v := 6) hX dX4_entryAt_1 (by decide) ?_
  refine ss_call hX lk_X4_50 (c_X4_at (fr := fr - 1) (by omega) _ _) rfl rfl (Nat.le_of_ble_eq_true rfl) (by omega) (by decide) (Nat.le_refl _) (Nat.le_refl _) dX4_entryAt_3 ?_
  refine aw_iconst (v := 5) hX dX4_entryAt_6 (by decide) ?_
  refine aw_ild1 hX dX4_entryAt_7 ?_
  refine aw_imul hX dX4_entryAt_8 ?_
  refine aw_iadd hX dX4_entryAt_9 ?_
  refine aw_ild2 hX dX4_entryAt_10 ?_
  refine aw_iadd hX dX4_entryAt_11 ?_
  refine aw_iret hX (Nat.le_refl _) (Nat.le_refl _) dX4_entryAt_12 (hq _ _ ?_)
  exact ⟨rfl, rfl⟩
set_option maxHeartbeats 4000000 in
set_option maxRecDepth 100000 in
theorem c_X4_thrown {D : Gd} {fr : Nat} {m : Nat} {ad : Nat → Nat} {S : Ms} {h : Hm} (hM : MW m ad S h) (hf : 0 ≤ fr)  : MC D fr yX4_thrown cX4_thrown 1 (some .int) m ad h [] (some (.int (S.2 1))) (S) := by
  refine AM.of (lv := [some (.ref m)]) (by decide +kernel) (Nat.le_of_ble_eq_true rfl) rfl (fun z hX hq _ => ?_)
  have hM := hM.rf
  refine aw_ald0 hX dX4_thrown_0 ?_
  refine mm_get hX hM fg_X4_39 rfl dX4_thrown_1 ?_
  refine aw_iret hX (Nat.le_refl _) (Nat.le_refl _) dX4_thrown_4 (hq _ _ ?_)
  exact ⟨rfl, hM⟩
set_option maxHeartbeats 4000000 in
set_option maxRecDepth 100000 in
theorem c_X4_fails {D : Gd} {fr : Nat} {m : Nat} {ad : Nat → Nat} {S : Ms} {h : Hm} (hM : MW m ad S h) (hf : 0 ≤ fr) (c : Int32) : MC D fr yX4_fails cX4_fails 2 (some .int) m ad h [.int c] (some (.int 0)) (sV S 1 c) := by
  refine AM.of (lv := [some (.ref m), some (.int c)]) (by decide +kernel) (Nat.le_of_ble_eq_true rfl) rfl (fun z hX hq _ => ?_)
  have hM := hM.rf
  refine aw_ald0 hX dX4_fails_0 ?_
  refine aw_ild1 hX dX4_fails_1 ?_
  refine mm_put hX hM 1 fp_X4_39 (by decide) dX4_fails_2 (fun hp hM => ?_)
  refine aw_iconst (v := 0) hX dX4_fails_5 (by decide) ?_
  refine aw_iret hX (Nat.le_refl _) (Nat.le_refl _) dX4_fails_6 (hq _ _ ?_)
  exact ⟨rfl, hM⟩
set_option maxHeartbeats 4000000 in
set_option maxRecDepth 100000 in
theorem c_X4_isUser {D : Gd} {fr : Nat} {m : Nat} {ad : Nat → Nat} {S : Ms} {h : Hm} (hM : MW m ad S h) (hf : 1 ≤ fr) (u : Int32) : MC D fr yX4_isUser cX4_isUser 2 (some .boolean) m ad h [.int u] (some (.int (bI (mUser (S.1 0) u)))) (S) := by
  refine AM.of (lv := [some (.ref m), some (.int u)]) (by decide +kernel) (Nat.le_of_ble_eq_true rfl) rfl (fun z hX hq _ => ?_)
  have hM := hM.rf
  refine aw_ild1 hX dX4_isUser_0 ?_
  refine aw_iconst (v := 0) hX dX4_isUser_1 (by decide) ?_
  refine aw_ald0 hX dX4_isUser_2 ?_
  refine mm_get hX hM fg_X4_7 rfl dX4_isUser_3 ?_
  refine aw_iconst (v := 0) hX dX4_isUser_6 (by decide) ?_
  refine mm_ld hX hM (by decide) (_) (rfl) (by first | decide | (simp only [mLen]; omega)) dX4_isUser_7 ?_
  refine aw_iconst (v := 1) hX dX4_isUser_8 (by decide) ?_
  refine aw_isub hX dX4_isUser_9 ?_
  refine ss_call hX lk_X4_46 (c_X4_in (fr := fr - 1) (by omega) _ _ _) rfl rfl (Nat.le_of_ble_eq_true rfl) (by omega) (by decide) (Nat.le_refl _) (Nat.le_refl _) dX4_isUser_10 ?_
  refine aw_zret hX (by first | rfl | exact bI_n _ | (split <;> rfl)) (Nat.le_refl _) (Nat.le_refl _) dX4_isUser_13 (hq _ _ ?_)
  exact ⟨rfl, hM⟩
set_option maxHeartbeats 4000000 in
set_option maxRecDepth 100000 in
theorem c_X4_isGroup {D : Gd} {fr : Nat} {m : Nat} {ad : Nat → Nat} {S : Ms} {h : Hm} (hM : MW m ad S h) (hf : 1 ≤ fr) (u : Int32) : MC D fr yX4_isGroup cX4_isGroup 2 (some .boolean) m ad h [.int u] (some (.int (bI (mGroup (S.1 0) u)))) (S) := by
  refine AM.of (lv := [some (.ref m), some (.int u)]) (by decide +kernel) (Nat.le_of_ble_eq_true rfl) rfl (fun z hX hq _ => ?_)
  have hM := hM.rf
  refine aw_ild1 hX dX4_isGroup_0 ?_
  refine aw_iconst (v := 0) hX dX4_isGroup_1 (by decide) ?_
  refine aw_ald0 hX dX4_isGroup_2 ?_
  refine mm_get hX hM fg_X4_7 rfl dX4_isGroup_3 ?_
  refine aw_iconst (v := 1) hX dX4_isGroup_6 (by decide) ?_
  refine mm_ld hX hM (by decide) (_) (rfl) (by first | decide | (simp only [mLen]; omega)) dX4_isGroup_7 ?_
  refine aw_iconst (v := 1) hX dX4_isGroup_8 (by decide) ?_
  refine aw_isub hX dX4_isGroup_9 ?_
  refine ss_call hX lk_X4_46 (c_X4_in (fr := fr - 1) (by omega) _ _ _) rfl rfl (Nat.le_of_ble_eq_true rfl) (by omega) (by decide) (Nat.le_refl _) (Nat.le_refl _) dX4_isGroup_10 ?_
  refine aw_zret hX (by first | rfl | exact bI_n _ | (split <;> rfl)) (Nat.le_refl _) (Nat.le_refl _) dX4_isGroup_13 (hq _ _ ?_)
  exact ⟨rfl, hM⟩
