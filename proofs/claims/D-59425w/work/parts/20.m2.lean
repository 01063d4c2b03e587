/-! THE REFERENCE, printed by m2.py: sets, groups, objects -/
set_option maxHeartbeats 4000000 in
set_option maxRecDepth 100000 in
theorem c_X4_size {D : Gd} {fr : Nat} {h : Hm} (hf : 1 ≤ fr) (s : Int32) : SC D fr yX4_size cX4_size 3 (some .int) h [.int s] (some (.int (mSize s))) := by
  refine AM.of (lv := [some (.int s), none, none]) (by decide +kernel) (Nat.le_of_ble_eq_true rfl) rfl (fun z hX hq _ => ?_)
  refine aw_iconst (v := 0) hX dX4_size_0 (by decide) ?_
  refine aw_ist1 hX dX4_size_1 (by decide) rfl ?_
  refine aw_iconst (v := 0) hX dX4_size_2 (by decide) ?_
  refine aw_ist2 hX dX4_size_3 (by decide) rfl ?_
  refine gdown (N := 20) (P := fun i => gW z 4 [some (.int s), some (.int (nI (cnt (fun k => mHas s (nI k)) i))), some (.int (nI i))] [] h 0 0) (fun i hi ih => ?_) 0 (Nat.zero_le _)
  refine aw_ild2 hX dX4_size_4 ?_
  refine aw_bipush (v := 20) hX dX4_size_5 (by decide) ?_
  refine aw_icmp_ge hX (tgt := 32) dX4_size_7 (by decide) (fun c7 => ?_) (fun c7 => ?_)
  · refine aw_ild1 hX dX4_size_32 ?_
    refine aw_iret hX (Nat.le_refl _) (Nat.le_refl _) dX4_size_33 (hq _ _ ?_)
    have hi9 : i = 20 := Nat.le_antisymm hi (nle (a := 20) c7 (by omega) (by omega))
    subst hi9
    exact ⟨rfl, rfl⟩
  · have hlt := nnle (a := 20) c7 (by omega) (by omega)
    refine aw_ild1 hX dX4_size_10 ?_
    refine aw_ild0 hX dX4_size_11 ?_
    refine aw_ild2 hX dX4_size_12 ?_
    refine ss_call hX lk_X4_65 (c_X4_has (fr := fr - 1) (by omega) _ _) rfl rfl (Nat.le_of_ble_eq_true rfl) (by omega) (by decide) (Nat.le_refl _) (Nat.le_refl _) dX4_size_13 ?_
    refine aw_if_eq hX (tgt := 23) dX4_size_16 (by decide) (fun c16 => ?_) (fun c16 => ?_)
    · refine aw_iconst (v := 0) hX dX4_size_23 (by decide) ?_
      refine aw_iadd hX dX4_size_24 ?_
      refine aw_ist1 hX dX4_size_25 (by decide) rfl ?_
      refine aw_inc2 hX dX4_size_26 (by decide) rfl ?_
      refine aw_goto hX (tgt := 4) dX4_size_29 (by decide) ?_
      refine gW.to rfl ?_ rfl rfl (ih hlt)
      first | rw [← cnt_t (bI_n0 c16)] | rw [← cnt_f (bI_0' c16)]
    · refine aw_iconst (v := 1) hX dX4_size_19 (by decide) ?_
      refine aw_goto hX (tgt := 24) dX4_size_20 (by decide) ?_
      refine aw_iadd hX dX4_size_24 ?_
      refine aw_ist1 hX dX4_size_25 (by decide) rfl ?_
      refine aw_inc2 hX dX4_size_26 (by decide) rfl ?_
      refine aw_goto hX (tgt := 4) dX4_size_29 (by decide) ?_
      refine gW.to rfl ?_ rfl rfl (ih hlt)
      first | rw [← cnt_t (bI_n0 c16)] | rw [← cnt_f (bI_0' c16)]
set_option maxHeartbeats 4000000 in
set_option maxRecDepth 100000 in
theorem c_X4_of {D : Gd} {fr : Nat} {m : Nat} {ad : Nat → Nat} {S : Ms} {h : Hm} (hM : MW m ad S h) (hf : 1 ≤ fr) (o w : Nat) (ho : o < 20) (hw : w < 36) : MC D fr yX4_of cX4_of 3 (some .int) m ad h [.int (nI o), .int (nI w)] (some (.int (S.1 0 (mO o w)))) (S) := by
  refine AM.of (lv := [some (.ref m), some (.int (nI o)), some (.int (nI w))]) (by decide +kernel) (Nat.le_of_ble_eq_true rfl) rfl (fun z hX hq _ => ?_)
  have hM := hM.rf
  refine aw_ald0 hX dX4_of_0 ?_
  refine mm_get hX hM fg_X4_7 rfl dX4_of_1 ?_
  refine aw_ild1 hX dX4_of_4 ?_
  refine aw_ild2 hX dX4_of_5 ?_
  refine ss_call hX lk_X4_50 (c_X4_at (fr := fr - 1) (by omega) _ _) rfl rfl (Nat.le_of_ble_eq_true rfl) (by omega) (by decide) (Nat.le_refl _) (Nat.le_refl _) dX4_of_6 ?_
  refine mm_ld hX hM (by decide) (mO o w) (mO_i o w) (mO_lt ho hw) dX4_of_9 ?_
  refine aw_iret hX (Nat.le_refl _) (Nat.le_refl _) dX4_of_10 (hq _ _ ?_)
  exact ⟨rfl, hM⟩
set_option maxHeartbeats 4000000 in
set_option maxRecDepth 100000 in
theorem c_X4_ofEntry {D : Gd} {fr : Nat} {m : Nat} {ad : Nat → Nat} {S : Ms} {h : Hm} (hM : MW m ad S h) (hf : 2 ≤ fr) (o e w : Nat) (ho : o < 20) (he : e < 6) (hw : w < 5) : MC D fr yX4_ofEntry cX4_ofEntry 4 (some .int) m ad h [.int (nI o), .int (nI e), .int (nI w)] (some (.int (S.1 0 (mE o e w)))) (S) := by
  refine AM.of (lv := [some (.ref m), some (.int (nI o)), some (.int (nI e)), some (.int (nI w))]) (by decide +kernel) (Nat.le_of_ble_eq_true rfl) rfl (fun z hX hq _ => ?_)
  have hM := hM.rf
  refine aw_ald0 hX dX4_ofEntry_0 ?_
  refine mm_get hX hM fg_X4_7 rfl dX4_ofEntry_1 ?_
  refine aw_ild1 hX dX4_ofEntry_4 ?_
  refine aw_ild2 hX dX4_ofEntry_5 ?_
  refine aw_ild3 hX dX4_ofEntry_6 ?_
  refine ss_call hX lk_X4_61 (c_X4_entryAt (fr := fr - 1) (by omega) _ _ _) rfl rfl (Nat.le_of_ble_eq_true rfl) (by omega) (by decide) (Nat.le_refl _) (Nat.le_refl _) dX4_ofEntry_7 ?_
  refine mm_ld hX hM (by decide) (mE o e w) (mE_i o e w) (mE_lt ho he hw) dX4_ofEntry_10 ?_
  refine aw_iret hX (Nat.le_refl _) (Nat.le_refl _) dX4_ofEntry_11 (hq _ _ ?_)
  exact ⟨rfl, hM⟩
set_option maxHeartbeats 4000000 in
set_option maxRecDepth 100000 in
theorem c_X4_isObject {D : Gd} {fr : Nat} {m : Nat} {ad : Nat → Nat} {S : Ms} {h : Hm} (hM : MW m ad S h) (hf : 2 ≤ fr) (x : Int32) : MC D fr yX4_isObject cX4_isObject 2 (some .boolean) m ad h [.int x] (some (.int (bI (mObj (S.1 0) x)))) (S) := by
  refine AM.of (lv := [some (.ref m), some (.int x)]) (by decide +kernel) (Nat.le_of_ble_eq_true rfl) rfl (fun z hX hq _ => ?_)
  have hM := hM.rf
  refine aw_ild1 hX dX4_isObject_0 ?_
  refine aw_iconst (v := 0) hX dX4_isObject_1 (by decide) ?_
  refine aw_bipush (v := 19) hX dX4_isObject_2 (by decide) ?_
  refine ss_call hX lk_X4_46 (c_X4_in (fr := fr - 1) (by omega) _ _ _) rfl rfl (Nat.le_of_ble_eq_true rfl) (by omega) (by decide) (Nat.le_refl _) (Nat.le_refl _) dX4_isObject_4 ?_
  refine aw_if_eq hX (tgt := 24) dX4_isObject_7 (by decide) (fun c7 => ?_) (fun c7 => ?_)
  · refine aw_iconst (v := 0) hX dX4_isObject_24 (by decide) ?_
    refine aw_zret hX (by first | rfl | exact bI_n _ | (split <;> rfl)) (Nat.le_refl _) (Nat.le_refl _) dX4_isObject_25 (hq _ _ ?_)
    refine ⟨?_, hM⟩
    first | exact rv0 (by unfold mObj; rw [bI_0' c7]; rfl) | exact rv0 (by rw [mObj_i (by omega)]; exact decide_eq_false c17) | exact rv1 (by rw [mObj_i (by omega)]; exact decide_eq_true c17)
  · have c9 : 0 ≤ x ∧ x ≤ 19 := of_decide_eq_true (bI_n0 c7)
    obtain ⟨o, ho, rfl⟩ := nin (n := 19) c9.1 c9.2 (by decide)
    refine aw_ald0 hX dX4_isObject_10 ?_
    refine aw_ild1 hX dX4_isObject_11 ?_
    refine aw_iconst (v := 0) hX dX4_isObject_12 (by decide) ?_
    refine mm_call hX hM lk_X4_54 rfl (c_X4_of (fr := fr - 1) hM.1 (by omega) o 0 (by omega) (by decide)) rfl rfl (Nat.le_of_ble_eq_true rfl) (by omega) (by decide) (Nat.le_refl _) (Nat.le_refl _) dX4_isObject_13 (fun hp hM => ?_)
    refine aw_iconst (v := 1) hX dX4_isObject_16 (by decide) ?_
    refine aw_icmp_ne hX (tgt := 24) dX4_isObject_17 (by decide) (fun c17 => ?_) (fun c17 => ?_)
    · refine aw_iconst (v := 0) hX dX4_isObject_24 (by decide) ?_
      refine aw_zret hX (by first | rfl | exact bI_n _ | (split <;> rfl)) (Nat.le_refl _) (Nat.le_refl _) dX4_isObject_25 (hq _ _ ?_)
      refine ⟨?_, hM⟩
      first | exact rv0 (by unfold mObj; rw [bI_0' c7]; rfl) | exact rv0 (by rw [mObj_i (by omega)]; exact decide_eq_false c17) | exact rv1 (by rw [mObj_i (by omega)]; exact decide_eq_true c17)
    · refine aw_iconst (v := 1) hX dX4_isObject_20 (by decide) ?_
      refine aw_goto hX (tgt := 25) dX4_isObject_21 (by decide) ?_
      refine aw_zret hX (by first | rfl | exact bI_n _ | (split <;> rfl)) (Nat.le_refl _) (Nat.le_refl _) dX4_isObject_25 (hq _ _ ?_)
      refine ⟨?_, hM⟩
      first | exact rv0 (by unfold mObj; rw [bI_0' c7]; rfl) | exact rv0 (by rw [mObj_i (by omega)]; exact decide_eq_false c17) | exact rv1 (by rw [mObj_i (by omega)]; exact decide_eq_true c17)
set_option maxHeartbeats 4000000 in
set_option maxRecDepth 100000 in
theorem c_X4_isEntry {D : Gd} {fr : Nat} {m : Nat} {ad : Nat → Nat} {S : Ms} {h : Hm} (hM : MW m ad S h) (hf : 3 ≤ fr) (x e : Int32) : MC D fr yX4_isEntry cX4_isEntry 3 (some .boolean) m ad h [.int x, .int e] (some (.int (bI (mEnt (S.1 0) x e)))) (S) := by
  refine AM.of (lv := [some (.ref m), some (.int x), some (.int e)]) (by decide +kernel) (Nat.le_of_ble_eq_true rfl) rfl (fun z hX hq _ => ?_)
  have hM := hM.rf
  refine aw_ald0 hX dX4_isEntry_0 ?_
  refine aw_ild1 hX dX4_isEntry_1 ?_
  refine mm_call hX hM lk_X4_57 rfl (c_X4_isObject (fr := fr - 1) hM.1 (by omega) _) rfl rfl (Nat.le_of_ble_eq_true rfl) (by omega) (by decide) (Nat.le_refl _) (Nat.le_refl _) dX4_isEntry_2 (fun hp hM => ?_)
  refine aw_if_eq hX (tgt := 28) dX4_isEntry_5 (by decide) (fun c5 => ?_) (fun c5 => ?_)
  · refine aw_iconst (v := 0) hX dX4_isEntry_28 (by decide) ?_
    refine aw_zret hX (by first | rfl | exact bI_n _ | (split <;> rfl)) (Nat.le_refl _) (Nat.le_refl _) dX4_isEntry_29 (hq _ _ ?_)
    refine ⟨?_, hM⟩
    first | exact rv0 (by unfold mEnt; rw [bI_0' c5]; rfl) | exact rv0 (by unfold mEnt; rw [bI_n0 c5, nI_clamp (by omega)]; exact bI_0' c21) | exact rv1 (by unfold mEnt; rw [bI_n0 c5, nI_clamp (by omega)]; exact bI_n0 c21)
  · obtain ⟨o, ho, rfl, ho1⟩ := mObj_of (bI_n0 c5)
    refine aw_ild2 hX dX4_isEntry_8 ?_
    refine aw_iconst (v := 0) hX dX4_isEntry_9 (by decide) ?_
    refine aw_ald0 hX dX4_isEntry_10 ?_
    refine aw_ild1 hX dX4_isEntry_11 ?_
    refine aw_iconst (v := 5) hX dX4_isEntry_12 (by decide) ?_
    refine mm_call hX hM lk_X4_54 rfl (c_X4_of (fr := fr - 1) hM.1 (by omega) o 5 (by omega) (by decide)) rfl rfl (Nat.le_of_ble_eq_true rfl) (by omega) (by decide) (Nat.le_refl _) (Nat.le_refl _) dX4_isEntry_13 (fun hp hM => ?_)
    refine aw_iconst (v := 1) hX dX4_isEntry_16 (by decide) ?_
    refine aw_isub hX dX4_isEntry_17 ?_
    refine ss_call hX lk_X4_46 (c_X4_in (fr := fr - 1) (by omega) _ _ _) rfl rfl (Nat.le_of_ble_eq_true rfl) (by omega) (by decide) (Nat.le_refl _) (Nat.le_refl _) dX4_isEntry_18 ?_
    refine aw_if_eq hX (tgt := 28) dX4_isEntry_21 (by decide) (fun c21 => ?_) (fun c21 => ?_)
    · refine aw_iconst (v := 0) hX dX4_isEntry_28 (by decide) ?_
      refine aw_zret hX (by first | rfl | exact bI_n _ | (split <;> rfl)) (Nat.le_refl _) (Nat.le_refl _) dX4_isEntry_29 (hq _ _ ?_)
      refine ⟨?_, hM⟩
      first | exact rv0 (by unfold mEnt; rw [bI_0' c5]; rfl) | exact rv0 (by unfold mEnt; rw [bI_n0 c5, nI_clamp (by omega)]; exact bI_0' c21) | exact rv1 (by unfold mEnt; rw [bI_n0 c5, nI_clamp (by omega)]; exact bI_n0 c21)
    · refine aw_iconst (v := 1) hX dX4_isEntry_24 (by decide) ?_
      refine aw_goto hX (tgt := 29) dX4_isEntry_25 (by decide) ?_
      refine aw_zret hX (by first | rfl | exact bI_n _ | (split <;> rfl)) (Nat.le_refl _) (Nat.le_refl _) dX4_isEntry_29 (hq _ _ ?_)
      refine ⟨?_, hM⟩
      first | exact rv0 (by unfold mEnt; rw [bI_0' c5]; rfl) | exact rv0 (by unfold mEnt; rw [bI_n0 c5, nI_clamp (by omega)]; exact bI_0' c21) | exact rv1 (by unfold mEnt; rw [bI_n0 c5, nI_clamp (by omega)]; exact bI_n0 c21)
set_option maxHeartbeats 4000000 in
set_option maxRecDepth 100000 in
theorem c_X4_outers {D : Gd} {fr : Nat} {m : Nat} {ad : Nat → Nat} {S : Ms} {h : Hm} (hM : MW m ad S h) (hf : 1 ≤ fr) (g : Nat) (hg : g < 8) : MC D fr yX4_outers cX4_outers 5 (some .int) m ad h [.int (nI g)] (some (.int (mOuters (S.1 0) g))) (S) := by
  refine AM.of (lv := [some (.ref m), some (.int (nI g)), none, none, none]) (by decide +kernel) (Nat.le_of_ble_eq_true rfl) rfl (fun z hX hq _ => ?_)
  have hM := hM.rf
  refine aw_ald0 hX dX4_outers_0 ?_
  refine mm_get hX hM fg_X4_7 rfl dX4_outers_1 ?_
  refine aw_bipush (v := 10) hX dX4_outers_4 (by decide) ?_
  refine aw_ild1 hX dX4_outers_6 ?_
  refine aw_iadd hX dX4_outers_7 ?_
  refine mm_ld hX hM (by decide) (10 + g) (nI_add 10 g) (by simp only [mLen]; omega) dX4_outers_8 ?_
  refine aw_ist2 hX dX4_outers_9 (by decide) rfl ?_
  refine aw_iconst (v := 0) hX dX4_outers_10 (by decide) ?_
  refine aw_ist3 hX dX4_outers_11 (by decide) rfl ?_
  refine gdown (N := 8) (P := fun r => ∀ (h9 : Hm) (u : Option Value), MR m ad S h h9 → gW z 12 [some (.ref m), some (.int (nI g)), some (.int (mOutR (S.1 0) (S.1 0 (10 + g)) r)), some (.int (nI r)), u] [] h9 0 0) (fun r hr ih h9 u hM => ?_) 0 (Nat.zero_le _) h none hM
  refine aw_ild3 hX dX4_outers_12 ?_
  refine aw_bipush (v := 8) hX dX4_outers_13 (by decide) ?_
  refine aw_icmp_ge hX (tgt := 66) dX4_outers_15 (by decide) (fun c15 => ?_) (fun c15 => ?_)
  · refine aw_ild2 hX dX4_outers_66 ?_
    refine aw_iret hX (Nat.le_refl _) (Nat.le_refl _) dX4_outers_67 (hq _ _ ?_)
    have hr9 : r = 8 := Nat.le_antisymm hr (nle (a := 8) c15 (by omega) (by omega))
    subst hr9
    exact ⟨rfl, hM⟩
  · refine aw_iconst (v := 0) hX dX4_outers_18 (by decide) ?_
    refine aw_ist4 hX dX4_outers_19 (by decide) rfl ?_
    have hlt := nnle (a := 8) c15 (by omega) (by omega)
    refine gdown (N := 8) (P := fun i => gW z 21 [some (.ref m), some (.int (nI g)), some (.int (mOut (S.1 0) (mOutR (S.1 0) (S.1 0 (10 + g)) r) i)), some (.int (nI r)), some (.int (nI i))] [] h9 0 0) (fun i hi ih2 => ?_) 0 (Nat.zero_le _)
    refine aw_ild4 hX dX4_outers_21 ?_
    refine aw_bipush (v := 8) hX dX4_outers_23 (by decide) ?_
    refine aw_icmp_ge hX (tgt := 60) dX4_outers_25 (by decide) (fun c25 => ?_) (fun c25 => ?_)
    · refine aw_inc3 hX dX4_outers_60 (by decide) rfl ?_
      refine aw_goto hX (tgt := 12) dX4_outers_63 (by decide) ?_
      have hi9 : i = 8 := Nat.le_antisymm hi (nle (a := 8) c25 (by omega) (by omega))
      subst hi9
      exact ih hlt h9 _ hM
    · have hlt2 := nnle (a := 8) c25 (by omega) (by omega)
      refine aw_ild2 hX dX4_outers_28 ?_
      refine aw_ild2 hX dX4_outers_29 ?_
      refine aw_ild4 hX dX4_outers_30 ?_
      refine ss_call hX lk_X4_65 (c_X4_has (fr := fr - 1) (by omega) _ _) rfl rfl (Nat.le_of_ble_eq_true rfl) (by omega) (by decide) (Nat.le_refl _) (Nat.le_refl _) dX4_outers_32 ?_
      refine aw_if_eq hX (tgt := 51) dX4_outers_35 (by decide) (fun c35 => ?_) (fun c35 => ?_)
      · refine aw_iconst (v := 0) hX dX4_outers_51 (by decide) ?_
        refine aw_ior hX dX4_outers_52 ?_
        refine aw_ist2 hX dX4_outers_53 (by decide) rfl ?_
        refine aw_inc4 hX dX4_outers_54 (by decide) rfl ?_
        refine aw_goto hX (tgt := 21) dX4_outers_57 (by decide) ?_
        refine gW.to rfl ?_ rfl rfl (ih2 hlt2)
        first | rw [← mOut_t (bI_n0 c35)] | rw [← mOut_f (bI_0' c35)]
      · refine aw_ald0 hX dX4_outers_38 ?_
        refine mm_get hX hM fg_X4_7 rfl dX4_outers_39 ?_
        refine aw_bipush (v := 10) hX dX4_outers_42 (by decide) ?_
        refine aw_ild4 hX dX4_outers_44 ?_
        refine aw_iadd hX dX4_outers_46 ?_
        refine mm_ld hX hM (by decide) (10 + i) (nI_add 10 i) (by simp only [mLen]; omega) dX4_outers_47 ?_
        refine aw_goto hX (tgt := 52) dX4_outers_48 (by decide) ?_
        refine aw_ior hX dX4_outers_52 ?_
        refine aw_ist2 hX dX4_outers_53 (by decide) rfl ?_
        refine aw_inc4 hX dX4_outers_54 (by decide) rfl ?_
        refine aw_goto hX (tgt := 21) dX4_outers_57 (by decide) ?_
        refine gW.to rfl ?_ rfl rfl (ih2 hlt2)
        first | rw [← mOut_t (bI_n0 c35)] | rw [← mOut_f (bI_0' c35)]
set_option maxHeartbeats 4000000 in
set_option maxRecDepth 100000 in
theorem c_X4_isOf {D : Gd} {fr : Nat} {m : Nat} {ad : Nat → Nat} {S : Ms} {h : Hm} (hM : MW m ad S h) (hf : 2 ≤ fr) (u : Int32) (g ng : Nat) (hg : g < 8) (hng : ng ≤ 8) (eg : S.1 0 1 = nI ng) : MC D fr yX4_isOf cX4_isOf 5 (some .boolean) m ad h [.int u, .int (nI g)] (some (.int (bI (mIsOf (S.1 0) u g ng)))) (S) := by
  refine AM.of (lv := [some (.ref m), some (.int u), some (.int (nI g)), none, none]) (by decide +kernel) (Nat.le_of_ble_eq_true rfl) rfl (fun z hX hq _ => ?_)
  have hM := hM.rf
  refine aw_ald0 hX dX4_isOf_0 ?_
  refine mm_get hX hM fg_X4_7 rfl dX4_isOf_1 ?_
  refine aw_iconst (v := 2) hX dX4_isOf_4 (by decide) ?_
  refine aw_ild2 hX dX4_isOf_5 ?_
  refine aw_iadd hX dX4_isOf_6 ?_
  refine mm_ld hX hM (by decide) (2 + g) (nI_add 2 g) (by simp only [mLen]; omega) dX4_isOf_7 ?_
  refine aw_ild1 hX dX4_isOf_8 ?_
  refine ss_call hX lk_X4_65 (c_X4_has (fr := fr - 1) (by omega) _ _) rfl rfl (Nat.le_of_ble_eq_true rfl) (by omega) (by decide) (Nat.le_refl _) (Nat.le_refl _) dX4_isOf_9 ?_
  refine aw_ist3 hX dX4_isOf_12 (by decide) rfl ?_
  refine aw_iconst (v := 0) hX dX4_isOf_13 (by decide) ?_
  refine aw_ist4 hX dX4_isOf_14 (by decide) rfl ?_
  have hcur : mHas (S.1 0 (2 + g)) u = mIsOf (S.1 0) u g 0 := by simp [mIsOf, anyB]
  rw [hcur]
  refine gdown (N := ng) (P := fun i => ∀ (h9 : Hm), MR m ad S h h9 → gW z 16 [some (.ref m), some (.int u), some (.int (nI g)), some (.int (bI (mIsOf (S.1 0) u g i))), some (.int (nI i))] [] h9 0 0) (fun i hi ih h9 hM => ?_) 0 (Nat.zero_le _) h hM
  refine aw_ild4 hX dX4_isOf_16 ?_
  refine aw_ald0 hX dX4_isOf_18 ?_
  refine mm_get hX hM fg_X4_7 rfl dX4_isOf_19 ?_
  refine aw_iconst (v := 1) hX dX4_isOf_22 (by decide) ?_
  refine mm_ld hX hM (by decide) (_) (rfl) (by first | decide | (simp only [mLen]; omega)) dX4_isOf_23 ?_
  rw [eg]
  refine aw_icmp_ge hX (tgt := 72) dX4_isOf_24 (by decide) (fun c24 => ?_) (fun c24 => ?_)
  · refine aw_ild3 hX dX4_isOf_72 ?_
    refine aw_zret hX (by first | rfl | exact bI_n _ | (split <;> rfl)) (Nat.le_refl _) (Nat.le_refl _) dX4_isOf_73 (hq _ _ ?_)
    have hi9 : i = ng := Nat.le_antisymm hi (nle c24 (by omega) (by omega))
    subst hi9
    exact ⟨rfl, hM⟩
  · have hlt := nnle c24 (by omega) (by omega)
    refine aw_ild3 hX dX4_isOf_27 ?_
    refine aw_if_ne hX (tgt := 60) dX4_isOf_28 (by decide) (fun c28 => ?_) (fun c28 => ?_)
    · refine aw_iconst (v := 1) hX dX4_isOf_60 (by decide) ?_
      refine aw_goto hX (tgt := 65) dX4_isOf_61 (by decide) ?_
      refine aw_ist3 hX dX4_isOf_65 (by decide) rfl ?_
      refine aw_inc4 hX dX4_isOf_66 (by decide) rfl ?_
      refine aw_goto hX (tgt := 16) dX4_isOf_69 (by decide) ?_
      refine gW.to rfl ?_ rfl rfl (ih hlt _ hM)
      first | rw [mIsOf_1 (bI_n0 c28)] | rw [mIsOf_2 (bI_n0 c44) (bI_n0 c57)] | rw [mIsOf_3 (bI_0' c28) (bI_0' c44)] | rw [mIsOf_4 (bI_0' c28) (bI_0' c57)]
    · refine aw_ald0 hX dX4_isOf_31 ?_
      refine mm_get hX hM fg_X4_7 rfl dX4_isOf_32 ?_
      refine aw_iconst (v := 2) hX dX4_isOf_35 (by decide) ?_
      refine aw_ild4 hX dX4_isOf_36 ?_
      refine aw_iadd hX dX4_isOf_38 ?_
      refine mm_ld hX hM (by decide) (2 + i) (nI_add 2 i) (by simp only [mLen]; omega) dX4_isOf_39 ?_
      refine aw_ild1 hX dX4_isOf_40 ?_
      refine ss_call hX lk_X4_65 (c_X4_has (fr := fr - 1) (by omega) _ _) rfl rfl (Nat.le_of_ble_eq_true rfl) (by omega) (by decide) (Nat.le_refl _) (Nat.le_refl _) dX4_isOf_41 ?_
      refine aw_if_eq hX (tgt := 64) dX4_isOf_44 (by decide) (fun c44 => ?_) (fun c44 => ?_)
      · refine aw_iconst (v := 0) hX dX4_isOf_64 (by decide) ?_
        refine aw_ist3 hX dX4_isOf_65 (by decide) rfl ?_
        refine aw_inc4 hX dX4_isOf_66 (by decide) rfl ?_
        refine aw_goto hX (tgt := 16) dX4_isOf_69 (by decide) ?_
        refine gW.to rfl ?_ rfl rfl (ih hlt _ hM)
        first | rw [mIsOf_1 (bI_n0 c28)] | rw [mIsOf_2 (bI_n0 c44) (bI_n0 c57)] | rw [mIsOf_3 (bI_0' c28) (bI_0' c44)] | rw [mIsOf_4 (bI_0' c28) (bI_0' c57)]
      · refine aw_ald0 hX dX4_isOf_47 ?_
        refine aw_ild4 hX dX4_isOf_48 ?_
        refine mm_call hX hM lk_X4_69 rfl (c_X4_outers (fr := fr - 1) hM.1 (by omega) i (by omega)) rfl rfl (Nat.le_of_ble_eq_true rfl) (by omega) (by decide) (Nat.le_refl _) (Nat.le_refl _) dX4_isOf_50 (fun hp hM => ?_)
        refine aw_ild2 hX dX4_isOf_53 ?_
        refine ss_call hX lk_X4_65 (c_X4_has (fr := fr - 1) (by omega) _ _) rfl rfl (Nat.le_of_ble_eq_true rfl) (by omega) (by decide) (Nat.le_refl _) (Nat.le_refl _) dX4_isOf_54 ?_
        refine aw_if_eq hX (tgt := 64) dX4_isOf_57 (by decide) (fun c57 => ?_) (fun c57 => ?_)
        · refine aw_iconst (v := 0) hX dX4_isOf_64 (by decide) ?_
          refine aw_ist3 hX dX4_isOf_65 (by decide) rfl ?_
          refine aw_inc4 hX dX4_isOf_66 (by decide) rfl ?_
          refine aw_goto hX (tgt := 16) dX4_isOf_69 (by decide) ?_
          refine gW.to rfl ?_ rfl rfl (ih hlt _ hM)
          first | rw [mIsOf_1 (bI_n0 c28)] | rw [mIsOf_2 (bI_n0 c44) (bI_n0 c57)] | rw [mIsOf_3 (bI_0' c28) (bI_0' c44)] | rw [mIsOf_4 (bI_0' c28) (bI_0' c57)]
        · refine aw_iconst (v := 1) hX dX4_isOf_60 (by decide) ?_
          refine aw_goto hX (tgt := 65) dX4_isOf_61 (by decide) ?_
          refine aw_ist3 hX dX4_isOf_65 (by decide) rfl ?_
          refine aw_inc4 hX dX4_isOf_66 (by decide) rfl ?_
          refine aw_goto hX (tgt := 16) dX4_isOf_69 (by decide) ?_
          refine gW.to rfl ?_ rfl rfl (ih hlt _ hM)
          first | rw [mIsOf_1 (bI_n0 c28)] | rw [mIsOf_2 (bI_n0 c44) (bI_n0 c57)] | rw [mIsOf_3 (bI_0' c28) (bI_0' c44)] | rw [mIsOf_4 (bI_0' c28) (bI_0' c57)]
set_option maxHeartbeats 4000000 in
set_option maxRecDepth 100000 in
theorem c_X4_howMany {D : Gd} {fr : Nat} {m : Nat} {ad : Nat → Nat} {S : Ms} {h : Hm} (hM : MW m ad S h) (hf : 3 ≤ fr) (g ng nu : Nat) (hg : g < 8) (hng : ng ≤ 8) (hnu : nu ≤ 12) (eg : S.1 0 1 = nI ng) (eu : S.1 0 0 = nI nu) : MC D fr yX4_howMany cX4_howMany 4 (some .int) m ad h [.int (nI g)] (some (.int (nI (mHowMany (S.1 0) g ng nu)))) (S) := by
  refine AM.of (lv := [some (.ref m), some (.int (nI g)), none, none]) (by decide +kernel) (Nat.le_of_ble_eq_true rfl) rfl (fun z hX hq _ => ?_)
  have hM := hM.rf
  refine aw_iconst (v := 0) hX dX4_howMany_0 (by decide) ?_
  refine aw_ist2 hX dX4_howMany_1 (by decide) rfl ?_
  refine aw_iconst (v := 0) hX dX4_howMany_2 (by decide) ?_
  refine aw_ist3 hX dX4_howMany_3 (by decide) rfl ?_
  refine gdown (N := nu) (P := fun i => ∀ (h9 : Hm), MR m ad S h h9 → gW z 4 [some (.ref m), some (.int (nI g)), some (.int (nI (cnt (fun k => mIsOf (S.1 0) (nI k) g ng) i))), some (.int (nI i))] [] h9 0 0) (fun i hi ih h9 hM => ?_) 0 (Nat.zero_le _) h hM
  refine aw_ild3 hX dX4_howMany_4 ?_
  refine aw_ald0 hX dX4_howMany_5 ?_
  refine mm_get hX hM fg_X4_7 rfl dX4_howMany_6 ?_
  refine aw_iconst (v := 0) hX dX4_howMany_9 (by decide) ?_
  refine mm_ld hX hM (by decide) (_) (rfl) (by first | decide | (simp only [mLen]; omega)) dX4_howMany_10 ?_
  rw [eu]
  refine aw_icmp_ge hX (tgt := 37) dX4_howMany_11 (by decide) (fun c11 => ?_) (fun c11 => ?_)
  · refine aw_ild2 hX dX4_howMany_37 ?_
    refine aw_iret hX (Nat.le_refl _) (Nat.le_refl _) dX4_howMany_38 (hq _ _ ?_)
    have hi9 : i = nu := Nat.le_antisymm hi (nle c11 (by omega) (by omega))
    subst hi9
    exact ⟨rfl, hM⟩
  · have hlt := nnle c11 (by omega) (by omega)
    refine aw_ild2 hX dX4_howMany_14 ?_
    refine aw_ald0 hX dX4_howMany_15 ?_
    refine aw_ild3 hX dX4_howMany_16 ?_
    refine aw_ild1 hX dX4_howMany_17 ?_
    refine mm_call hX hM lk_X4_73 rfl (c_X4_isOf (fr := fr - 1) hM.1 (by omega) (nI i) g ng hg hng eg) rfl rfl (Nat.le_of_ble_eq_true rfl) (by omega) (by decide) (Nat.le_refl _) (Nat.le_refl _) dX4_howMany_18 (fun hp hM => ?_)
    refine aw_if_eq hX (tgt := 28) dX4_howMany_21 (by decide) (fun c21 => ?_) (fun c21 => ?_)
    · refine aw_iconst (v := 0) hX dX4_howMany_28 (by decide) ?_
      refine aw_iadd hX dX4_howMany_29 ?_
      refine aw_ist2 hX dX4_howMany_30 (by decide) rfl ?_
      refine aw_inc3 hX dX4_howMany_31 (by decide) rfl ?_
      refine aw_goto hX (tgt := 4) dX4_howMany_34 (by decide) ?_
      refine gW.to rfl ?_ rfl rfl (ih hlt _ hM)
      first | rw [← cnt_t (f := fun k => mIsOf (S.1 0) (nI k) g ng) (bI_n0 c21)] | rw [← cnt_f (f := fun k => mIsOf (S.1 0) (nI k) g ng) (bI_0' c21)]
    · refine aw_iconst (v := 1) hX dX4_howMany_24 (by decide) ?_
      refine aw_goto hX (tgt := 29) dX4_howMany_25 (by decide) ?_
      refine aw_iadd hX dX4_howMany_29 ?_
      refine aw_ist2 hX dX4_howMany_30 (by decide) rfl ?_
      refine aw_inc3 hX dX4_howMany_31 (by decide) rfl ?_
      refine aw_goto hX (tgt := 4) dX4_howMany_34 (by decide) ?_
      refine gW.to rfl ?_ rfl rfl (ih hlt _ hM)
      first | rw [← cnt_t (f := fun k => mIsOf (S.1 0) (nI k) g ng) (bI_n0 c21)] | rw [← cnt_f (f := fun k => mIsOf (S.1 0) (nI k) g ng) (bI_0' c21)]
