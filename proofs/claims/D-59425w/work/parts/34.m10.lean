/-! THE REFERENCE, printed by m10.py: entries moved, needless; asked; shared -/
set_option maxHeartbeats 4000000 in
set_option maxRecDepth 100000 in
theorem c_X4_moveEntry {D : Gd} {fr : Nat} {m : Nat} {ad : Nat → Nat} {S : Ms} {h : Hm} (hM : MW m ad S h) (hf : 9 ≤ fr) (ok : MOk S) (o e t : Int32) : MC D fr yX4_moveEntry cX4_moveEntry 4 (some .int) m ad h [.int o, .int e, .int t] (some (.int (mop_moveEntry S o e t).2.1)) ((mop_moveEntry S o e t).2.2) := by
  refine AM.of (lv := [some (.ref m), some (.int o), some (.int e), some (.int t)]) (by decide +kernel) (Nat.le_of_ble_eq_true rfl) rfl (fun z hX hq _ => ?_)
  have hM := hM.rf
  refine aw_ald0 hX dX4_moveEntry_0 ?_
  refine aw_iconst (v := 0) hX dX4_moveEntry_1 (by decide) ?_
  refine mm_put hX hM 1 fp_X4_39 (by decide) dX4_moveEntry_2 (fun hp hM => ?_)
  refine aw_ald0 hX dX4_moveEntry_5 ?_
  refine aw_ild1 hX dX4_moveEntry_6 ?_
  refine aw_ild2 hX dX4_moveEntry_7 ?_
  refine mm_call hX hM lk_X4_112 rfl (c_X4_isEntry (fr := fr - 1) hM.1 (by omega) _ _) rfl rfl (Nat.le_of_ble_eq_true rfl) (by omega) (by decide) (Nat.le_refl _) (Nat.le_refl _) dX4_moveEntry_8 (fun hp hM => ?_)
  refine aw_if_eq hX (tgt := 23) dX4_moveEntry_11 (by decide) (fun c11 => ?_) (fun c11 => ?_)
  · have b11 := bI_0' c11
    refine aw_ald0 hX dX4_moveEntry_23 ?_
    refine aw_iconst (v := 1) hX dX4_moveEntry_24 (by decide) ?_
    refine mm_call hX hM lk_X4_76 rfl (c_X4_fails (fr := fr - 1) hM.1 (by omega) _) rfl rfl (Nat.le_of_ble_eq_true rfl) (by omega) (by decide) (Nat.le_refl _) (Nat.le_refl _) dX4_moveEntry_25 (fun hp hM => ?_)
    refine aw_iret hX (Nat.le_refl _) (Nat.le_refl _) dX4_moveEntry_28 (hq _ _ ?_)
    first
      | (have e9 : mop_moveEntry S o e t = mBad S 1 := by (unfold mop_moveEntry; simp [show mEnt (S.1 0) o e = false from b11])
         rw [e9]
         exact ⟨rfl, hM.cg (sV_sV S 1 0 1)⟩)
      | (have e9 : mop_moveEntry S o e t = mBad S 1 := by (unfold mop_moveEntry; simp [show mEnt (S.1 0) o e = true from b11, show mEnt (S.1 0) o t = false from b20])
         rw [e9]
         exact ⟨rfl, hM.cg (sV_sV S 1 0 1)⟩)
  · have b11 := bI_n0 c11
    refine aw_ald0 hX dX4_moveEntry_14 ?_
    refine aw_ild1 hX dX4_moveEntry_15 ?_
    refine aw_ild3 hX dX4_moveEntry_16 ?_
    refine mm_call hX hM lk_X4_112 rfl (c_X4_isEntry (fr := fr - 1) hM.1 (by omega) _ _) rfl rfl (Nat.le_of_ble_eq_true rfl) (by omega) (by decide) (Nat.le_refl _) (Nat.le_refl _) dX4_moveEntry_17 (fun hp hM => ?_)
    refine aw_if_ne hX (tgt := 29) dX4_moveEntry_20 (by decide) (fun c20 => ?_) (fun c20 => ?_)
    · have b20 := bI_n0 c20
      obtain ⟨rk, hrk, hob⟩ := ok.rk
      obtain ⟨o, e, c, ho, rfl, ho1, hec, hc, rfl, ec⟩ := mEnt_of hob b11
      obtain ⟨o', t, c', ho', eo, -, htc, hc', rfl, ec'⟩ := mEnt_of hob b20
      have eo2 : o' = o := ((nI_eq (by omega) (by omega)).mp eo).symm
      subst eo2
      have ec2 : c' = c := (nI_eq (by omega) (by omega)).mp (ec'.symm.trans ec)
      subst ec2
      have hwm := mMv_wf ok.wf ho ho1 hec htc hc ec
      refine aw_ald0 hX dX4_moveEntry_29 ?_
      refine mm_call hX hM lk_X4_79 rfl (c_X4_changes (fr := fr - 1) hM.1 (by omega) ok.p) rfl rfl (Nat.le_of_ble_eq_true rfl) (by omega) (by decide) (Nat.le_refl _) (Nat.le_refl _) dX4_moveEntry_30 (fun hp hM => ?_)
      refine aw_ald0 hX dX4_moveEntry_33 ?_
      refine mm_call hX hM lk_X4_128 rfl (c_X4_notes (fr := fr - 1) hM.1 (by omega) ok.wf) rfl rfl (Nat.le_of_ble_eq_true rfl) (by omega) (by decide) (Nat.le_refl _) (Nat.le_refl _) dX4_moveEntry_34 (fun hp hM => ?_)
      refine aw_ald0 hX dX4_moveEntry_37 ?_
      refine aw_ild1 hX dX4_moveEntry_38 ?_
      refine aw_ild2 hX dX4_moveEntry_39 ?_
      refine mm_call hX hM lk_X4_131 rfl (c_X4_keepsOne (fr := fr - 1) hM.1 (by omega) o' e ho (by omega)) rfl rfl (Nat.le_of_ble_eq_true rfl) (by omega) (by decide) (Nat.le_refl _) (Nat.le_refl _) dX4_moveEntry_40 (fun hp hM => ?_)
      refine aw_ald0 hX dX4_moveEntry_43 ?_
      refine aw_ild1 hX dX4_moveEntry_44 ?_
      refine aw_ild2 hX dX4_moveEntry_45 ?_
      refine mm_call hX hM lk_X4_115 rfl (c_X4_takesOut (fr := fr - 1) hM.1 (by omega) o' e c' ho hec hc ec) rfl rfl (Nat.le_of_ble_eq_true rfl) (by omega) (by decide) (Nat.le_refl _) (Nat.le_refl _) dX4_moveEntry_46 (fun hp hM => ?_)
      refine aw_ald0 hX dX4_moveEntry_49 ?_
      refine aw_ild1 hX dX4_moveEntry_50 ?_
      refine aw_ild3 hX dX4_moveEntry_51 ?_
      refine mm_call hX hM lk_X4_134 rfl (c_X4_putsOne (fr := fr - 1) hM.1 (by omega) o' t (c' - 1) ho (by omega) (by omega) (by show mTake (S.1 0) o' e c' _ = _; rw [mTake_co, ec]; exact sub_1 (by omega))) rfl rfl (Nat.le_of_ble_eq_true rfl) (by omega) (by decide) (Nat.le_refl _) (Nat.le_refl _) dX4_moveEntry_52 (fun hp hM => ?_)
      have hM := hM.cg (mMv_st S o' e t c')
      refine aw_ald0 hX dX4_moveEntry_55 ?_
      refine mm_call hX hM lk_X4_137 rfl (c_X4_unlike (fr := fr - 1) hM.1 (by omega) hwm) rfl rfl (Nat.le_of_ble_eq_true rfl) (by omega) (by decide) (Nat.le_refl _) (Nat.le_refl _) dX4_moveEntry_56 (fun hp hM => ?_)
      refine aw_iret hX (Nat.le_refl _) (Nat.le_refl _) dX4_moveEntry_59 (hq _ _ ?_)
      rw [mop_moveEntry_of (S := S) b11 b20 ho (by omega) (by omega) hc ec]
      exact ⟨congrArg (fun x => some (Value.int (nI x))) (mUnl_fill _ _ _), hM⟩
    · have b20 := bI_0' c20
      refine aw_ald0 hX dX4_moveEntry_23 ?_
      refine aw_iconst (v := 1) hX dX4_moveEntry_24 (by decide) ?_
      refine mm_call hX hM lk_X4_76 rfl (c_X4_fails (fr := fr - 1) hM.1 (by omega) _) rfl rfl (Nat.le_of_ble_eq_true rfl) (by omega) (by decide) (Nat.le_refl _) (Nat.le_refl _) dX4_moveEntry_25 (fun hp hM => ?_)
      refine aw_iret hX (Nat.le_refl _) (Nat.le_refl _) dX4_moveEntry_28 (hq _ _ ?_)
      first
        | (have e9 : mop_moveEntry S o e t = mBad S 1 := by (unfold mop_moveEntry; simp [show mEnt (S.1 0) o e = false from b11])
           rw [e9]
           exact ⟨rfl, hM.cg (sV_sV S 1 0 1)⟩)
        | (have e9 : mop_moveEntry S o e t = mBad S 1 := by (unfold mop_moveEntry; simp [show mEnt (S.1 0) o e = true from b11, show mEnt (S.1 0) o t = false from b20])
           rw [e9]
           exact ⟨rfl, hM.cg (sV_sV S 1 0 1)⟩)
set_option maxHeartbeats 4000000 in
set_option maxRecDepth 100000 in
theorem c_X4_isNeedless {D : Gd} {fr : Nat} {m : Nat} {ad : Nat → Nat} {S : Ms} {h : Hm} (hM : MW m ad S h) (hf : 9 ≤ fr) (ok : MOk S) (o e : Int32) : MC D fr yX4_isNeedless cX4_isNeedless 4 (some .boolean) m ad h [.int o, .int e] (some (.int (mop_isNeedless S o e).2.1)) ((mop_isNeedless S o e).2.2) := by
  refine AM.of (lv := [some (.ref m), some (.int o), some (.int e), none]) (by decide +kernel) (Nat.le_of_ble_eq_true rfl) rfl (fun z hX hq _ => ?_)
  have hM := hM.rf
  refine aw_ald0 hX dX4_isNeedless_0 ?_
  refine aw_ald0 hX dX4_isNeedless_1 ?_
  refine aw_ild1 hX dX4_isNeedless_2 ?_
  refine aw_ild2 hX dX4_isNeedless_3 ?_
  refine mm_call hX hM lk_X4_112 rfl (c_X4_isEntry (fr := fr - 1) hM.1 (by omega) _ _) rfl rfl (Nat.le_of_ble_eq_true rfl) (by omega) (by decide) (Nat.le_refl _) (Nat.le_refl _) dX4_isNeedless_4 (fun hp hM => ?_)
  refine aw_if_eq hX (tgt := 14) dX4_isNeedless_7 (by decide) (fun c7 => ?_) (fun c7 => ?_)
  · have b7 := bI_0' c7
    refine aw_iconst (v := 1) hX dX4_isNeedless_14 (by decide) ?_
    refine mm_put hX hM 1 fp_X4_39 (by decide) dX4_isNeedless_15 (fun hp hM => ?_)
    refine aw_ald0 hX dX4_isNeedless_18 ?_
    refine mm_get hX hM fg_X4_39 rfl dX4_isNeedless_19 ?_
    refine aw_iconst (v := 1) hX dX4_isNeedless_22 (by decide) ?_
    refine aw_icmp_ne hX (tgt := 28) dX4_isNeedless_23 (by decide) (fun c => absurd (by rw [sV_at]) c) (fun _ => ?_)
    refine aw_iconst (v := 0) hX dX4_isNeedless_26 (by decide) ?_
    refine aw_zret hX (by first | rfl | exact bI_n _ | (split <;> rfl)) (Nat.le_refl _) (Nat.le_refl _) dX4_isNeedless_27 (hq _ _ ?_)
    have e9 : mop_isNeedless S o e = mQ S 1 0 := by (unfold mop_isNeedless; simp [show mEnt (S.1 0) o e = false from b7])
    rw [e9]
    exact ⟨rfl, hM⟩
  · have b7 := bI_n0 c7
    refine aw_iconst (v := 0) hX dX4_isNeedless_10 (by decide) ?_
    refine aw_goto hX (tgt := 15) dX4_isNeedless_11 (by decide) ?_
    refine mm_put hX hM 1 fp_X4_39 (by decide) dX4_isNeedless_15 (fun hp hM => ?_)
    refine aw_ald0 hX dX4_isNeedless_18 ?_
    refine mm_get hX hM fg_X4_39 rfl dX4_isNeedless_19 ?_
    refine aw_iconst (v := 1) hX dX4_isNeedless_22 (by decide) ?_
    refine aw_icmp_ne hX (tgt := 28) dX4_isNeedless_23 (by decide) (fun _ => ?_) (fun c => absurd c (by first | (rw [sV_at]; done) | (rw [sV_at]; decide)))
    obtain ⟨rk, hrk, hob⟩ := ok.rk
    obtain ⟨o, e, c, ho, rfl, ho1, hec, hc, rfl, ec⟩ := mEnt_of hob b7
    have hwm := mWf_take ok.wf ho ho1 ec hc hec
    refine aw_ald0 hX dX4_isNeedless_28 ?_
    refine mm_call hX hM lk_X4_128 rfl (c_X4_notes (fr := fr - 1) hM.1 (by omega) ok.wf) rfl rfl (Nat.le_of_ble_eq_true rfl) (by omega) (by decide) (Nat.le_refl _) (Nat.le_refl _) dX4_isNeedless_29 (fun hp hM => ?_)
    refine aw_ald0 hX dX4_isNeedless_32 ?_
    refine aw_ild1 hX dX4_isNeedless_33 ?_
    refine aw_ild2 hX dX4_isNeedless_34 ?_
    refine mm_call hX hM lk_X4_131 rfl (c_X4_keepsOne (fr := fr - 1) hM.1 (by omega) o e ho (by omega)) rfl rfl (Nat.le_of_ble_eq_true rfl) (by omega) (by decide) (Nat.le_refl _) (Nat.le_refl _) dX4_isNeedless_35 (fun hp hM => ?_)
    refine aw_ald0 hX dX4_isNeedless_38 ?_
    refine aw_ild1 hX dX4_isNeedless_39 ?_
    refine aw_ild2 hX dX4_isNeedless_40 ?_
    refine mm_call hX hM lk_X4_115 rfl (c_X4_takesOut (fr := fr - 1) hM.1 (by omega) o e c ho hec hc ec) rfl rfl (Nat.le_of_ble_eq_true rfl) (by omega) (by decide) (Nat.le_refl _) (Nat.le_refl _) dX4_isNeedless_41 (fun hp hM => ?_)
    refine aw_ald0 hX dX4_isNeedless_44 ?_
    refine mm_call hX hM lk_X4_137 rfl (c_X4_unlike (fr := fr - 1) hM.1 (by omega) hwm) rfl rfl (Nat.le_of_ble_eq_true rfl) (by omega) (by decide) (Nat.le_refl _) (Nat.le_refl _) dX4_isNeedless_45 (fun hp hM => ?_)
    refine aw_if_ne hX (tgt := 55) dX4_isNeedless_48 (by decide) (fun c48 => ?_) (fun c48 => ?_)
    · refine aw_iconst (v := 0) hX dX4_isNeedless_55 (by decide) ?_
      refine aw_ist3 hX dX4_isNeedless_56 (by decide) rfl ?_
      refine aw_ald0 hX dX4_isNeedless_57 ?_
      refine aw_ild1 hX dX4_isNeedless_58 ?_
      refine aw_ild2 hX dX4_isNeedless_59 ?_
      refine mm_call hX hM lk_X4_134 rfl (c_X4_putsOne (fr := fr - 1) hM.1 (by omega) o e (c - 1) ho (by omega) (by omega) (by show mTake (S.1 0) o e c _ = _; rw [mTake_co, ec]; exact sub_1 (by omega))) rfl rfl (Nat.le_of_ble_eq_true rfl) (by omega) (by decide) (Nat.le_refl _) (Nat.le_refl _) dX4_isNeedless_60 (fun hp hM => ?_)
      refine aw_ild3 hX dX4_isNeedless_63 ?_
      refine aw_zret hX (by first | rfl | exact bI_n _ | (split <;> rfl)) (Nat.le_refl _) (Nat.le_refl _) dX4_isNeedless_64 (hq _ _ ?_)
      have hM := hM.cg (mNd_st S hec)
      have hle := mUnl_le (mTake (S.1 0) o e c) (fill (mNow (S.1 0)) (S.1 5) 0 240) 240
      rw [mop_isNeedless_of (S := S) b7 ho (by omega) hc ec, ← mUnl_fill _ _ (S.1 5)]
      refine ⟨?_, hM⟩
      first
        | exact rv1 (decide_eq_true ((nI_eq (b := 0) (by omega) (by omega)).mp c48))
        | exact rv0 (decide_eq_false (fun q => c48 (show nI (mUnl (mTake (S.1 0) o e c) (fill (mNow (S.1 0)) (S.1 5) 0 240) 240) = 0 by rw [q]; rfl)))
    · refine aw_iconst (v := 1) hX dX4_isNeedless_51 (by decide) ?_
      refine aw_goto hX (tgt := 56) dX4_isNeedless_52 (by decide) ?_
      refine aw_ist3 hX dX4_isNeedless_56 (by decide) rfl ?_
      refine aw_ald0 hX dX4_isNeedless_57 ?_
      refine aw_ild1 hX dX4_isNeedless_58 ?_
      refine aw_ild2 hX dX4_isNeedless_59 ?_
      refine mm_call hX hM lk_X4_134 rfl (c_X4_putsOne (fr := fr - 1) hM.1 (by omega) o e (c - 1) ho (by omega) (by omega) (by show mTake (S.1 0) o e c _ = _; rw [mTake_co, ec]; exact sub_1 (by omega))) rfl rfl (Nat.le_of_ble_eq_true rfl) (by omega) (by decide) (Nat.le_refl _) (Nat.le_refl _) dX4_isNeedless_60 (fun hp hM => ?_)
      refine aw_ild3 hX dX4_isNeedless_63 ?_
      refine aw_zret hX (by first | rfl | exact bI_n _ | (split <;> rfl)) (Nat.le_refl _) (Nat.le_refl _) dX4_isNeedless_64 (hq _ _ ?_)
      have hM := hM.cg (mNd_st S hec)
      have hle := mUnl_le (mTake (S.1 0) o e c) (fill (mNow (S.1 0)) (S.1 5) 0 240) 240
      rw [mop_isNeedless_of (S := S) b7 ho (by omega) hc ec, ← mUnl_fill _ _ (S.1 5)]
      refine ⟨?_, hM⟩
      first
        | exact rv1 (decide_eq_true ((nI_eq (b := 0) (by omega) (by omega)).mp c48))
        | exact rv0 (decide_eq_false (fun q => c48 (show nI (mUnl (mTake (S.1 0) o e c) (fill (mNow (S.1 0)) (S.1 5) 0 240) 240) = 0 by rw [q]; rfl)))
set_option maxHeartbeats 4000000 in
set_option maxRecDepth 100000 in
theorem c_X4_ask {D : Gd} {fr : Nat} {m : Nat} {ad : Nat → Nat} {S : Ms} {h : Hm} (hM : MW m ad S h) (hf : 7 ≤ fr) (ok : MOk S) (u o r : Int32) : MC D fr yX4_ask cX4_ask 6 (some .boolean) m ad h [.int u, .int o, .int r] (some (.int (mop_ask S u o r).2.1)) ((mop_ask S u o r).2.2) := by
  refine AM.of (lv := [some (.ref m), some (.int u), some (.int o), some (.int r), none, none]) (by decide +kernel) (Nat.le_of_ble_eq_true rfl) rfl (fun z hX hq _ => ?_)
  have hM := hM.rf
  refine aw_ald0 hX dX4_ask_0 ?_
  refine aw_ald0 hX dX4_ask_1 ?_
  refine aw_ild1 hX dX4_ask_2 ?_
  refine mm_call hX hM lk_X4_82 rfl (c_X4_isUser (fr := fr - 1) hM.1 (by omega) _) rfl rfl (Nat.le_of_ble_eq_true rfl) (by omega) (by decide) (Nat.le_refl _) (Nat.le_refl _) dX4_ask_3 (fun hp hM => ?_)
  refine aw_if_eq hX (tgt := 17) dX4_ask_6 (by decide) (fun c6 => ?_) (fun c6 => ?_)
  · have b6 := bI_0' c6
    refine aw_iconst (v := 1) hX dX4_ask_17 (by decide) ?_
    refine aw_goto hX (tgt := 33) dX4_ask_18 (by decide) ?_
    refine mm_put hX hM 1 fp_X4_39 (by decide) dX4_ask_33 (fun hp hM => ?_)
    refine aw_ald0 hX dX4_ask_36 ?_
    refine mm_get hX hM fg_X4_39 rfl dX4_ask_37 ?_
    refine aw_if_le hX (tgt := 45) dX4_ask_40 (by decide) (fun c => absurd c (by first | (rw [sV_at]; done) | (rw [sV_at]; decide))) (fun _ => ?_)
    refine aw_iconst (v := 0) hX dX4_ask_43 (by decide) ?_
    refine aw_zret hX (by first | rfl | exact bI_n _) (Nat.le_refl _) (Nat.le_refl _) dX4_ask_44 (hq _ _ ?_)
    first
      | (have e9 : mop_ask S u o r = mQ S 1 0 := by (unfold mop_ask; simp [mQc, show mUser (S.1 0) u = false from b6])
         rw [e9]
         exact ⟨rfl, hM.cg (rfl)⟩)
      | (have e9 : mop_ask S u o r = mQ S 1 0 := by (unfold mop_ask; simp [mQc, show mUser (S.1 0) u = true from b6, show mObj (S.1 0) o = false from b14])
         rw [e9]
         exact ⟨rfl, hM.cg (rfl)⟩)
      | (have e9 : mop_ask S u o r = mQ S 2 0 := by (unfold mop_ask; simp [mQc, show mUser (S.1 0) u = true from b6, show mObj (S.1 0) o = true from b14, of_decide_eq_false b25])
         rw [e9]
         exact ⟨rfl, hM.cg (rfl)⟩)
  · have b6 := bI_n0 c6
    refine aw_ald0 hX dX4_ask_9 ?_
    refine aw_ild2 hX dX4_ask_10 ?_
    refine mm_call hX hM lk_X4_57 rfl (c_X4_isObject (fr := fr - 1) hM.1 (by omega) _) rfl rfl (Nat.le_of_ble_eq_true rfl) (by omega) (by decide) (Nat.le_refl _) (Nat.le_refl _) dX4_ask_11 (fun hp hM => ?_)
    refine aw_if_ne hX (tgt := 21) dX4_ask_14 (by decide) (fun c14 => ?_) (fun c14 => ?_)
    · have b14 := bI_n0 c14
      refine aw_ild3 hX dX4_ask_21 ?_
      refine ss_call hX lk_X4_156 (c_X4_isRight (fr := fr - 1) (by omega) _) rfl rfl (Nat.le_of_ble_eq_true rfl) (by omega) (by decide) (Nat.le_refl _) (Nat.le_refl _) dX4_ask_22 ?_
      refine aw_if_eq hX (tgt := 32) dX4_ask_25 (by decide) (fun c25 => ?_) (fun c25 => ?_)
      · have b25 := bI_0' c25
        refine aw_iconst (v := 2) hX dX4_ask_32 (by decide) ?_
        refine mm_put hX hM 1 fp_X4_39 (by decide) dX4_ask_33 (fun hp hM => ?_)
        refine aw_ald0 hX dX4_ask_36 ?_
        refine mm_get hX hM fg_X4_39 rfl dX4_ask_37 ?_
        refine aw_if_le hX (tgt := 45) dX4_ask_40 (by decide) (fun c => absurd c (by first | (rw [sV_at]; done) | (rw [sV_at]; decide))) (fun _ => ?_)
        refine aw_iconst (v := 0) hX dX4_ask_43 (by decide) ?_
        refine aw_zret hX (by first | rfl | exact bI_n _) (Nat.le_refl _) (Nat.le_refl _) dX4_ask_44 (hq _ _ ?_)
        first
          | (have e9 : mop_ask S u o r = mQ S 1 0 := by (unfold mop_ask; simp [mQc, show mUser (S.1 0) u = false from b6])
             rw [e9]
             exact ⟨rfl, hM.cg (rfl)⟩)
          | (have e9 : mop_ask S u o r = mQ S 1 0 := by (unfold mop_ask; simp [mQc, show mUser (S.1 0) u = true from b6, show mObj (S.1 0) o = false from b14])
             rw [e9]
             exact ⟨rfl, hM.cg (rfl)⟩)
          | (have e9 : mop_ask S u o r = mQ S 2 0 := by (unfold mop_ask; simp [mQc, show mUser (S.1 0) u = true from b6, show mObj (S.1 0) o = true from b14, of_decide_eq_false b25])
             rw [e9]
             exact ⟨rfl, hM.cg (rfl)⟩)
      · have b25 := bI_n0 c25
        refine aw_iconst (v := 0) hX dX4_ask_28 (by decide) ?_
        refine aw_goto hX (tgt := 33) dX4_ask_29 (by decide) ?_
        refine mm_put hX hM 1 fp_X4_39 (by decide) dX4_ask_33 (fun hp hM => ?_)
        refine aw_ald0 hX dX4_ask_36 ?_
        refine mm_get hX hM fg_X4_39 rfl dX4_ask_37 ?_
        refine aw_if_le hX (tgt := 45) dX4_ask_40 (by decide) (fun _ => ?_) (fun c => absurd (by first | (rw [sV_at]; done) | (rw [sV_at]; decide)) c)
        obtain ⟨o, ho, rfl, ho1⟩ := mObj_of b14
        refine aw_ald0 hX dX4_ask_45 ?_
        refine mm_call hX hM lk_X4_79 rfl (c_X4_changes (fr := fr - 1) hM.1 (by omega) ok.p) rfl rfl (Nat.le_of_ble_eq_true rfl) (by omega) (by decide) (Nat.le_refl _) (Nat.le_refl _) dX4_ask_46 (fun hp hM => ?_)
        refine aw_ald0 hX dX4_ask_49 ?_
        refine aw_ild1 hX dX4_ask_50 ?_
        refine aw_ild2 hX dX4_ask_51 ?_
        refine aw_ild3 hX dX4_ask_52 ?_
        refine mm_call hX hM lk_X4_150 rfl (c_X4_allows (fr := fr - 1) hM.1 (by omega) ok.wf u r o ho ho1) rfl rfl (Nat.le_of_ble_eq_true rfl) (by omega) (by decide) (Nat.le_refl _) (Nat.le_refl _) dX4_ask_53 (fun hp hM => ?_)
        refine aw_ist4 hX dX4_ask_56 (by decide) rfl ?_
        refine aw_sipush (v := 761) hX dX4_ask_58 (by decide) ?_
        refine aw_ist5 hX dX4_ask_61 (by decide) rfl ?_
        have key : ∀ (J : Nat), J ≤ 21 → ∀ (h9 : Hm), MR m ad (sA (mC S) 0 (fill (fun i => S.1 0 (738 + J + i)) (S.1 0) (738 + 3 + J) (21 - J))) h h9 → gW z 63 [some (.ref m), some (.int u), some (.int (nI o)), some (.int r), some (.int (bI (mAllows (S.1 0) u o r))), some (.int (nI (740 + J)))] [] h9 0 0 := by
          intro J
          refine Nat.strongRecOn (motive := fun J => J ≤ 21 → ∀ (h9 : Hm), MR m ad (sA (mC S) 0 (fill (fun i => S.1 0 (738 + J + i)) (S.1 0) (738 + 3 + J) (21 - J))) h h9 → gW z 63 [some (.ref m), some (.int u), some (.int (nI o)), some (.int r), some (.int (bI (mAllows (S.1 0) u o r))), some (.int (nI (740 + J)))] [] h9 0 0) J (fun J ih hJ h9 hM => ?_)
          refine aw_ild5 hX dX4_ask_63 ?_
          refine aw_sipush (v := 741) hX dX4_ask_65 (by decide) ?_
          refine aw_icmp_lt hX (tgt := 93) dX4_ask_68 (by decide) (fun c68 => ?_) (fun c68 => ?_)
          · have hj0 : J = 0 := by
              have := nlt (a := 740 + J) (b := 741) c68 (by omega) (by omega)
              omega
            subst hj0
            refine aw_ald0 hX dX4_ask_93 ?_
            refine mm_get hX hM fg_X4_7 rfl dX4_ask_94 ?_
            refine aw_sipush (v := 738) hX dX4_ask_97 (by decide) ?_
            refine aw_ild1 hX dX4_ask_100 ?_
            refine mm_st hX hM (by decide) (738) (rfl) (by decide) dX4_ask_101 (fun hp hM => ?_)
            refine aw_ald0 hX dX4_ask_102 ?_
            refine mm_get hX hM fg_X4_7 rfl dX4_ask_103 ?_
            refine aw_sipush (v := 739) hX dX4_ask_106 (by decide) ?_
            refine aw_ild2 hX dX4_ask_109 ?_
            refine mm_st hX hM (by decide) (739) (rfl) (by decide) dX4_ask_110 (fun hp hM => ?_)
            refine aw_ald0 hX dX4_ask_111 ?_
            refine mm_get hX hM fg_X4_7 rfl dX4_ask_112 ?_
            refine aw_sipush (v := 740) hX dX4_ask_115 (by decide) ?_
            refine aw_ild4 hX dX4_ask_118 ?_
            refine aw_if_eq hX (tgt := 127) dX4_ask_120 (by decide) (fun c120 => ?_) (fun c120 => ?_)
            · have b120 := bI_0' c120
              refine aw_iconst (v := 0) hX dX4_ask_127 (by decide) ?_
              refine mm_st hX hM (by decide) (740) (rfl) (by decide) dX4_ask_128 (fun hp hM => ?_)
              refine aw_ald0 hX dX4_ask_129 ?_
              refine mm_get hX hM fg_X4_7 rfl dX4_ask_130 ?_
              refine aw_sipush (v := 762) hX dX4_ask_133 (by decide) ?_
              refine aw_dup2 hX dX4_ask_136 rfl rfl ?_
              refine mm_ld hX hM (by decide) (762) (rfl) (by decide) dX4_ask_137 ?_
              refine aw_ald0 hX dX4_ask_138 ?_
              refine mm_get hX hM fg_X4_7 rfl dX4_ask_139 ?_
              refine aw_sipush (v := 762) hX dX4_ask_142 (by decide) ?_
              refine mm_ld hX hM (by decide) (762) (rfl) (by decide) dX4_ask_145 ?_
              refine aw_bipush (v := 8) hX dX4_ask_146 (by decide) ?_
              refine aw_icmp_ge hX (tgt := 155) dX4_ask_148 (by decide) (fun c148 => ?_) (fun c148 => ?_)
              · refine aw_iconst (v := 0) hX dX4_ask_155 (by decide) ?_
                refine aw_iadd hX dX4_ask_156 ?_
                refine mm_st hX hM (by decide) (762) (rfl) (by decide) dX4_ask_157 (fun hp hM => ?_)
                refine aw_ald0 hX dX4_ask_158 ?_
                refine mm_get hX hM fg_X4_7 rfl dX4_ask_159 ?_
                refine aw_sipush (v := 763) hX dX4_ask_162 (by decide) ?_
                refine aw_dup2 hX dX4_ask_165 rfl rfl ?_
                refine mm_ld hX hM (by decide) (763) (rfl) (by decide) dX4_ask_166 ?_
                refine aw_iconst (v := 1) hX dX4_ask_167 (by decide) ?_
                refine aw_iadd hX dX4_ask_168 ?_
                refine mm_st hX hM (by decide) (763) (rfl) (by decide) dX4_ask_169 (fun hp hM => ?_)
                refine aw_ald0 hX dX4_ask_170 ?_
                refine mm_get hX hM fg_X4_7 rfl dX4_ask_171 ?_
                refine aw_sipush (v := 764) hX dX4_ask_174 (by decide) ?_
                refine aw_dup2 hX dX4_ask_177 rfl rfl ?_
                refine mm_ld hX hM (by decide) (764) (rfl) (by decide) dX4_ask_178 ?_
                refine aw_ild4 hX dX4_ask_179 ?_
                refine aw_if_eq hX (tgt := 188) dX4_ask_181 (by decide) (fun _ => ?_) (fun c => absurd (bI_f b120) c)
                refine aw_iconst (v := 1) hX dX4_ask_188 (by decide) ?_
                refine aw_iadd hX dX4_ask_189 ?_
                refine mm_st hX hM (by decide) (764) (rfl) (by decide) dX4_ask_190 (fun hp hM => ?_)
                refine aw_ild4 hX dX4_ask_191 ?_
                refine aw_zret hX (by first | rfl | exact bI_n _) (Nat.le_refl _) (Nat.le_refl _) dX4_ask_193 (hq _ _ ?_)
                rw [mop_ask_of (S := S) b6 b14 b25 ho]
                have c9 := c148
                simp only [sA_at] at c9
                rw [pk_un (by decide), pk_un (by decide), pk_un (by decide), fill_out (by omega)] at c9
                refine ⟨rfl, hM.cg ?_⟩
                simp only [sA_sA, sA_at]
                refine mLog_st S u (nI o) _ _ _ _ _ (by rw [b120]; rfl) ?_ ?_ ?_
                · rw [pk_un (by decide), pk_un (by decide), pk_un (by decide), fill_out (by omega)]
                  first | rw [if_neg (Int32.not_lt.mpr c9)] | rw [if_pos (Int32.not_le.mp c9)]
                · rw [pk_un (by decide), pk_un (by decide), pk_un (by decide), pk_un (by decide), fill_out (by omega)]
                · rw [pk_un (by decide), pk_un (by decide), pk_un (by decide), pk_un (by decide), pk_un (by decide), fill_out (by omega), b120]
                  rfl
              · refine aw_iconst (v := 1) hX dX4_ask_151 (by decide) ?_
                refine aw_goto hX (tgt := 156) dX4_ask_152 (by decide) ?_
                refine aw_iadd hX dX4_ask_156 ?_
                refine mm_st hX hM (by decide) (762) (rfl) (by decide) dX4_ask_157 (fun hp hM => ?_)
                refine aw_ald0 hX dX4_ask_158 ?_
                refine mm_get hX hM fg_X4_7 rfl dX4_ask_159 ?_
                refine aw_sipush (v := 763) hX dX4_ask_162 (by decide) ?_
                refine aw_dup2 hX dX4_ask_165 rfl rfl ?_
                refine mm_ld hX hM (by decide) (763) (rfl) (by decide) dX4_ask_166 ?_
                refine aw_iconst (v := 1) hX dX4_ask_167 (by decide) ?_
                refine aw_iadd hX dX4_ask_168 ?_
                refine mm_st hX hM (by decide) (763) (rfl) (by decide) dX4_ask_169 (fun hp hM => ?_)
                refine aw_ald0 hX dX4_ask_170 ?_
                refine mm_get hX hM fg_X4_7 rfl dX4_ask_171 ?_
                refine aw_sipush (v := 764) hX dX4_ask_174 (by decide) ?_
                refine aw_dup2 hX dX4_ask_177 rfl rfl ?_
                refine mm_ld hX hM (by decide) (764) (rfl) (by decide) dX4_ask_178 ?_
                refine aw_ild4 hX dX4_ask_179 ?_
                refine aw_if_eq hX (tgt := 188) dX4_ask_181 (by decide) (fun _ => ?_) (fun c => absurd (bI_f b120) c)
                refine aw_iconst (v := 1) hX dX4_ask_188 (by decide) ?_
                refine aw_iadd hX dX4_ask_189 ?_
                refine mm_st hX hM (by decide) (764) (rfl) (by decide) dX4_ask_190 (fun hp hM => ?_)
                refine aw_ild4 hX dX4_ask_191 ?_
                refine aw_zret hX (by first | rfl | exact bI_n _) (Nat.le_refl _) (Nat.le_refl _) dX4_ask_193 (hq _ _ ?_)
                rw [mop_ask_of (S := S) b6 b14 b25 ho]
                have c9 := c148
                simp only [sA_at] at c9
                rw [pk_un (by decide), pk_un (by decide), pk_un (by decide), fill_out (by omega)] at c9
                refine ⟨rfl, hM.cg ?_⟩
                simp only [sA_sA, sA_at]
                refine mLog_st S u (nI o) _ _ _ _ _ (by rw [b120]; rfl) ?_ ?_ ?_
                · rw [pk_un (by decide), pk_un (by decide), pk_un (by decide), fill_out (by omega)]
                  first | rw [if_neg (Int32.not_lt.mpr c9)] | rw [if_pos (Int32.not_le.mp c9)]
                · rw [pk_un (by decide), pk_un (by decide), pk_un (by decide), pk_un (by decide), fill_out (by omega)]
                · rw [pk_un (by decide), pk_un (by decide), pk_un (by decide), pk_un (by decide), pk_un (by decide), fill_out (by omega), b120]
                  rfl
            · have b120 := bI_n0 c120
              refine aw_iconst (v := 1) hX dX4_ask_123 (by decide) ?_
              refine aw_goto hX (tgt := 128) dX4_ask_124 (by decide) ?_
              refine mm_st hX hM (by decide) (740) (rfl) (by decide) dX4_ask_128 (fun hp hM => ?_)
              refine aw_ald0 hX dX4_ask_129 ?_
              refine mm_get hX hM fg_X4_7 rfl dX4_ask_130 ?_
              refine aw_sipush (v := 762) hX dX4_ask_133 (by decide) ?_
              refine aw_dup2 hX dX4_ask_136 rfl rfl ?_
              refine mm_ld hX hM (by decide) (762) (rfl) (by decide) dX4_ask_137 ?_
              refine aw_ald0 hX dX4_ask_138 ?_
              refine mm_get hX hM fg_X4_7 rfl dX4_ask_139 ?_
              refine aw_sipush (v := 762) hX dX4_ask_142 (by decide) ?_
              refine mm_ld hX hM (by decide) (762) (rfl) (by decide) dX4_ask_145 ?_
              refine aw_bipush (v := 8) hX dX4_ask_146 (by decide) ?_
              refine aw_icmp_ge hX (tgt := 155) dX4_ask_148 (by decide) (fun c148 => ?_) (fun c148 => ?_)
              · refine aw_iconst (v := 0) hX dX4_ask_155 (by decide) ?_
                refine aw_iadd hX dX4_ask_156 ?_
                refine mm_st hX hM (by decide) (762) (rfl) (by decide) dX4_ask_157 (fun hp hM => ?_)
                refine aw_ald0 hX dX4_ask_158 ?_
                refine mm_get hX hM fg_X4_7 rfl dX4_ask_159 ?_
                refine aw_sipush (v := 763) hX dX4_ask_162 (by decide) ?_
                refine aw_dup2 hX dX4_ask_165 rfl rfl ?_
                refine mm_ld hX hM (by decide) (763) (rfl) (by decide) dX4_ask_166 ?_
                refine aw_iconst (v := 1) hX dX4_ask_167 (by decide) ?_
                refine aw_iadd hX dX4_ask_168 ?_
                refine mm_st hX hM (by decide) (763) (rfl) (by decide) dX4_ask_169 (fun hp hM => ?_)
                refine aw_ald0 hX dX4_ask_170 ?_
                refine mm_get hX hM fg_X4_7 rfl dX4_ask_171 ?_
                refine aw_sipush (v := 764) hX dX4_ask_174 (by decide) ?_
                refine aw_dup2 hX dX4_ask_177 rfl rfl ?_
                refine mm_ld hX hM (by decide) (764) (rfl) (by decide) dX4_ask_178 ?_
                refine aw_ild4 hX dX4_ask_179 ?_
                refine aw_if_eq hX (tgt := 188) dX4_ask_181 (by decide) (fun c => absurd c (fun e => by rw [b120] at e; exact absurd e (by decide))) (fun _ => ?_)
                refine aw_iconst (v := 0) hX dX4_ask_184 (by decide) ?_
                refine aw_goto hX (tgt := 189) dX4_ask_185 (by decide) ?_
                refine aw_iadd hX dX4_ask_189 ?_
                refine mm_st hX hM (by decide) (764) (rfl) (by decide) dX4_ask_190 (fun hp hM => ?_)
                refine aw_ild4 hX dX4_ask_191 ?_
                refine aw_zret hX (by first | rfl | exact bI_n _) (Nat.le_refl _) (Nat.le_refl _) dX4_ask_193 (hq _ _ ?_)
                rw [mop_ask_of (S := S) b6 b14 b25 ho]
                have c9 := c148
                simp only [sA_at] at c9
                rw [pk_un (by decide), pk_un (by decide), pk_un (by decide), fill_out (by omega)] at c9
                refine ⟨rfl, hM.cg ?_⟩
                simp only [sA_sA, sA_at]
                refine mLog_st S u (nI o) _ _ _ _ _ (by rw [b120]; rfl) ?_ ?_ ?_
                · rw [pk_un (by decide), pk_un (by decide), pk_un (by decide), fill_out (by omega)]
                  first | rw [if_neg (Int32.not_lt.mpr c9)] | rw [if_pos (Int32.not_le.mp c9)]
                · rw [pk_un (by decide), pk_un (by decide), pk_un (by decide), pk_un (by decide), fill_out (by omega)]
                · rw [pk_un (by decide), pk_un (by decide), pk_un (by decide), pk_un (by decide), pk_un (by decide), fill_out (by omega), b120]
                  rfl
              · refine aw_iconst (v := 1) hX dX4_ask_151 (by decide) ?_
                refine aw_goto hX (tgt := 156) dX4_ask_152 (by decide) ?_
                refine aw_iadd hX dX4_ask_156 ?_
                refine mm_st hX hM (by decide) (762) (rfl) (by decide) dX4_ask_157 (fun hp hM => ?_)
                refine aw_ald0 hX dX4_ask_158 ?_
                refine mm_get hX hM fg_X4_7 rfl dX4_ask_159 ?_
                refine aw_sipush (v := 763) hX dX4_ask_162 (by decide) ?_
                refine aw_dup2 hX dX4_ask_165 rfl rfl ?_
                refine mm_ld hX hM (by decide) (763) (rfl) (by decide) dX4_ask_166 ?_
                refine aw_iconst (v := 1) hX dX4_ask_167 (by decide) ?_
                refine aw_iadd hX dX4_ask_168 ?_
                refine mm_st hX hM (by decide) (763) (rfl) (by decide) dX4_ask_169 (fun hp hM => ?_)
                refine aw_ald0 hX dX4_ask_170 ?_
                refine mm_get hX hM fg_X4_7 rfl dX4_ask_171 ?_
                refine aw_sipush (v := 764) hX dX4_ask_174 (by decide) ?_
                refine aw_dup2 hX dX4_ask_177 rfl rfl ?_
                refine mm_ld hX hM (by decide) (764) (rfl) (by decide) dX4_ask_178 ?_
                refine aw_ild4 hX dX4_ask_179 ?_
                refine aw_if_eq hX (tgt := 188) dX4_ask_181 (by decide) (fun c => absurd c (fun e => by rw [b120] at e; exact absurd e (by decide))) (fun _ => ?_)
                refine aw_iconst (v := 0) hX dX4_ask_184 (by decide) ?_
                refine aw_goto hX (tgt := 189) dX4_ask_185 (by decide) ?_
                refine aw_iadd hX dX4_ask_189 ?_
                refine mm_st hX hM (by decide) (764) (rfl) (by decide) dX4_ask_190 (fun hp hM => ?_)
                refine aw_ild4 hX dX4_ask_191 ?_
                refine aw_zret hX (by first | rfl | exact bI_n _) (Nat.le_refl _) (Nat.le_refl _) dX4_ask_193 (hq _ _ ?_)
                rw [mop_ask_of (S := S) b6 b14 b25 ho]
                have c9 := c148
                simp only [sA_at] at c9
                rw [pk_un (by decide), pk_un (by decide), pk_un (by decide), fill_out (by omega)] at c9
                refine ⟨rfl, hM.cg ?_⟩
                simp only [sA_sA, sA_at]
                refine mLog_st S u (nI o) _ _ _ _ _ (by rw [b120]; rfl) ?_ ?_ ?_
                · rw [pk_un (by decide), pk_un (by decide), pk_un (by decide), fill_out (by omega)]
                  first | rw [if_neg (Int32.not_lt.mpr c9)] | rw [if_pos (Int32.not_le.mp c9)]
                · rw [pk_un (by decide), pk_un (by decide), pk_un (by decide), pk_un (by decide), fill_out (by omega)]
                · rw [pk_un (by decide), pk_un (by decide), pk_un (by decide), pk_un (by decide), pk_un (by decide), fill_out (by omega), b120]
                  rfl
          · have hj0 : 0 < J := by
              have := nnlt (a := 740 + J) (b := 741) c68 (by omega) (by omega)
              omega
            obtain ⟨j, rfl⟩ : ∃ j, J = j + 1 := ⟨J - 1, by omega⟩
            rw [show 740 + (j + 1) = 738 + 3 + j by omega]
            refine aw_ald0 hX dX4_ask_71 ?_
            refine mm_get hX hM fg_X4_7 rfl dX4_ask_72 ?_
            refine aw_ild5 hX dX4_ask_75 ?_
            refine aw_ald0 hX dX4_ask_77 ?_
            refine mm_get hX hM fg_X4_7 rfl dX4_ask_78 ?_
            refine aw_ild5 hX dX4_ask_81 ?_
            refine aw_iconst (v := 3) hX dX4_ask_83 (by decide) ?_
            refine aw_isub hX dX4_ask_84 ?_
            refine mm_ld hX hM (by decide) (738 + j) (by rw [show nI (738 + 3 + j) - 3 = nI (738 + 3 + j - 3) from pk_sub (b := 3) (by omega)]; exact congrArg nI (by omega)) (by simp only [mLen]; omega) dX4_ask_85 ?_
            refine mm_st hX hM (by decide) (738 + 3 + j) (rfl) (by simp only [mLen]; omega) dX4_ask_86 (fun hp hM => ?_)
            refine aw_iinc5 hX dX4_ask_87 (by decide) rfl ?_
            refine aw_goto hX (tgt := 63) dX4_ask_90 (by decide) ?_
            refine gW.to rfl (by rw [show nI (738 + 3 + j) + Int32.ofInt (-1) = nI (740 + j) from by rw [show 738 + 3 + j = (740 + j) + 1 by omega]; exact pk_m1 _]) rfl rfl (ih j (by omega) (by omega) _ (hM.cg (by rw [sA_sA, sA_at, fill_out (by omega), fill_down3 (S.1 0) 738 j 21 (by omega)])))
        exact key 21 (Nat.le_refl _) _ (hM.cg (by rw [Nat.sub_self, fill_0, ← mC_0]; exact (sA_self (mC S) 0).symm))
    · have b14 := bI_0' c14
      refine aw_iconst (v := 1) hX dX4_ask_17 (by decide) ?_
      refine aw_goto hX (tgt := 33) dX4_ask_18 (by decide) ?_
      refine mm_put hX hM 1 fp_X4_39 (by decide) dX4_ask_33 (fun hp hM => ?_)
      refine aw_ald0 hX dX4_ask_36 ?_
      refine mm_get hX hM fg_X4_39 rfl dX4_ask_37 ?_
      refine aw_if_le hX (tgt := 45) dX4_ask_40 (by decide) (fun c => absurd c (by first | (rw [sV_at]; done) | (rw [sV_at]; decide))) (fun _ => ?_)
      refine aw_iconst (v := 0) hX dX4_ask_43 (by decide) ?_
      refine aw_zret hX (by first | rfl | exact bI_n _) (Nat.le_refl _) (Nat.le_refl _) dX4_ask_44 (hq _ _ ?_)
      first
        | (have e9 : mop_ask S u o r = mQ S 1 0 := by (unfold mop_ask; simp [mQc, show mUser (S.1 0) u = false from b6])
           rw [e9]
           exact ⟨rfl, hM.cg (rfl)⟩)
        | (have e9 : mop_ask S u o r = mQ S 1 0 := by (unfold mop_ask; simp [mQc, show mUser (S.1 0) u = true from b6, show mObj (S.1 0) o = false from b14])
           rw [e9]
           exact ⟨rfl, hM.cg (rfl)⟩)
        | (have e9 : mop_ask S u o r = mQ S 2 0 := by (unfold mop_ask; simp [mQc, show mUser (S.1 0) u = true from b6, show mObj (S.1 0) o = true from b14, of_decide_eq_false b25])
           rw [e9]
           exact ⟨rfl, hM.cg (rfl)⟩)
set_option maxHeartbeats 4000000 in
set_option maxRecDepth 100000 in
theorem c_X4_share {D : Gd} {fr : Nat} {m : Nat} {ad : Nat → Nat} {S : Ms} {h : Hm} (hM : MW m ad S h) (hf : 9 ≤ fr) (ok : MOk S) (u o w r : Int32) : MC D fr yX4_share cX4_share 7 (some .int) m ad h [.int u, .int o, .int w, .int r] (some (.int (mop_share S u o w r).2.1)) ((mop_share S u o w r).2.2) := by
  refine AM.of (lv := [some (.ref m), some (.int u), some (.int o), some (.int w), some (.int r), none, none]) (by decide +kernel) (Nat.le_of_ble_eq_true rfl) rfl (fun z hX hq _ => ?_)
  have hM := hM.rf
  refine aw_ald0 hX dX4_share_0 ?_
  refine aw_iconst (v := 0) hX dX4_share_1 (by decide) ?_
  refine mm_put hX hM 1 fp_X4_39 (by decide) dX4_share_2 (fun hp hM => ?_)
  refine aw_ald0 hX dX4_share_5 ?_
  refine aw_ild1 hX dX4_share_6 ?_
  refine mm_call hX hM lk_X4_82 rfl (c_X4_isUser (fr := fr - 1) hM.1 (by omega) _) rfl rfl (Nat.le_of_ble_eq_true rfl) (by omega) (by decide) (Nat.le_refl _) (Nat.le_refl _) dX4_share_7 (fun hp hM => ?_)
  refine aw_if_eq hX (tgt := 29) dX4_share_10 (by decide) (fun c10 => ?_) (fun c10 => ?_)
  · have b10 := bI_0' c10
    refine aw_ald0 hX dX4_share_29 ?_
    refine aw_iconst (v := 1) hX dX4_share_30 (by decide) ?_
    refine mm_call hX hM lk_X4_76 rfl (c_X4_fails (fr := fr - 1) hM.1 (by omega) _) rfl rfl (Nat.le_of_ble_eq_true rfl) (by omega) (by decide) (Nat.le_refl _) (Nat.le_refl _) dX4_share_31 (fun hp hM => ?_)
    refine aw_iret hX (Nat.le_refl _) (Nat.le_refl _) dX4_share_34 (hq _ _ ?_)
    first
      | (have e9 : mop_share S u o w r = mBad S 1 := by (unfold mop_share; simp [show mUser (S.1 0) u = false from b10])
         rw [e9]
         exact ⟨rfl, hM.cg (sV_sV S 1 0 1)⟩)
      | (have e9 : mop_share S u o w r = mBad S 1 := by (unfold mop_share; simp [show mObj (S.1 0) o = false from b18])
         rw [e9]
         exact ⟨rfl, hM.cg (sV_sV S 1 0 1)⟩)
      | (have e9 : mop_share S u o w r = mBad S 1 := by (unfold mop_share; simp [show mUser (S.1 0) w = false from b26])
         rw [e9]
         exact ⟨rfl, hM.cg (sV_sV S 1 0 1)⟩)
  · have b10 := bI_n0 c10
    refine aw_ald0 hX dX4_share_13 ?_
    refine aw_ild2 hX dX4_share_14 ?_
    refine mm_call hX hM lk_X4_57 rfl (c_X4_isObject (fr := fr - 1) hM.1 (by omega) _) rfl rfl (Nat.le_of_ble_eq_true rfl) (by omega) (by decide) (Nat.le_refl _) (Nat.le_refl _) dX4_share_15 (fun hp hM => ?_)
    refine aw_if_eq hX (tgt := 29) dX4_share_18 (by decide) (fun c18 => ?_) (fun c18 => ?_)
    · have b18 := bI_0' c18
      refine aw_ald0 hX dX4_share_29 ?_
      refine aw_iconst (v := 1) hX dX4_share_30 (by decide) ?_
      refine mm_call hX hM lk_X4_76 rfl (c_X4_fails (fr := fr - 1) hM.1 (by omega) _) rfl rfl (Nat.le_of_ble_eq_true rfl) (by omega) (by decide) (Nat.le_refl _) (Nat.le_refl _) dX4_share_31 (fun hp hM => ?_)
      refine aw_iret hX (Nat.le_refl _) (Nat.le_refl _) dX4_share_34 (hq _ _ ?_)
      first
        | (have e9 : mop_share S u o w r = mBad S 1 := by (unfold mop_share; simp [show mUser (S.1 0) u = false from b10])
           rw [e9]
           exact ⟨rfl, hM.cg (sV_sV S 1 0 1)⟩)
        | (have e9 : mop_share S u o w r = mBad S 1 := by (unfold mop_share; simp [show mObj (S.1 0) o = false from b18])
           rw [e9]
           exact ⟨rfl, hM.cg (sV_sV S 1 0 1)⟩)
        | (have e9 : mop_share S u o w r = mBad S 1 := by (unfold mop_share; simp [show mUser (S.1 0) w = false from b26])
           rw [e9]
           exact ⟨rfl, hM.cg (sV_sV S 1 0 1)⟩)
    · have b18 := bI_n0 c18
      refine aw_ald0 hX dX4_share_21 ?_
      refine aw_ild3 hX dX4_share_22 ?_
      refine mm_call hX hM lk_X4_82 rfl (c_X4_isUser (fr := fr - 1) hM.1 (by omega) _) rfl rfl (Nat.le_of_ble_eq_true rfl) (by omega) (by decide) (Nat.le_refl _) (Nat.le_refl _) dX4_share_23 (fun hp hM => ?_)
      refine aw_if_ne hX (tgt := 35) dX4_share_26 (by decide) (fun c26 => ?_) (fun c26 => ?_)
      · have b26 := bI_n0 c26
        refine aw_ild4 hX dX4_share_35 ?_
        refine ss_call hX lk_X4_101 (c_X4_areRights (fr := fr - 1) (by omega) _) rfl rfl (Nat.le_of_ble_eq_true rfl) (by omega) (by decide) (Nat.le_refl _) (Nat.le_refl _) dX4_share_37 ?_
        refine aw_if_ne hX (tgt := 49) dX4_share_40 (by decide) (fun c40 => ?_) (fun c40 => ?_)
        · have b40 := bI_n0 c40
          obtain ⟨o, ho, rfl, ho1⟩ := mObj_of b18
          obtain ⟨c, hc, ec, -⟩ := ok.wf.co ho ho1
          refine aw_ald0 hX dX4_share_49 ?_
          refine aw_ild1 hX dX4_share_50 ?_
          refine aw_ild2 hX dX4_share_51 ?_
          refine mm_call hX hM lk_X4_119 rfl (c_X4_rights (fr := fr - 1) hM.1 (by omega) ok.wf u o ho ho1) rfl rfl (Nat.le_of_ble_eq_true rfl) (by omega) (by decide) (Nat.le_refl _) (Nat.le_refl _) dX4_share_52 (fun hp hM => ?_)
          refine aw_ist5 hX dX4_share_55 (by decide) rfl ?_
          refine aw_ild4 hX dX4_share_57 ?_
          refine aw_bipush (v := 8) hX dX4_share_59 (by decide) ?_
          refine aw_ior hX dX4_share_61 ?_
          refine aw_ist6 hX dX4_share_62 (by decide) rfl ?_
          refine aw_ild5 hX dX4_share_64 ?_
          refine aw_ild6 hX dX4_share_66 ?_
          refine aw_iand hX dX4_share_68 ?_
          refine aw_ild6 hX dX4_share_69 ?_
          refine aw_icmp_ne hX (tgt := 85) dX4_share_71 (by decide) (fun c71 => ?_) (fun c71 => ?_)
          · refine aw_ald0 hX dX4_share_85 ?_
            refine aw_iconst (v := 3) hX dX4_share_86 (by decide) ?_
            refine mm_call hX hM lk_X4_76 rfl (c_X4_fails (fr := fr - 1) hM.1 (by omega) _) rfl rfl (Nat.le_of_ble_eq_true rfl) (by omega) (by decide) (Nat.le_refl _) (Nat.le_refl _) dX4_share_87 (fun hp hM => ?_)
            refine aw_iret hX (Nat.le_refl _) (Nat.le_refl _) dX4_share_90 (hq _ _ ?_)
            rw [mop_share_3 (S := S) b10 b18 b26 b40 ho (by first | exact Or.inl c71 | exact Or.inr c82)]
            exact ⟨rfl, hM.cg (sV_sV S 1 0 3)⟩
          · refine aw_ald0 hX dX4_share_74 ?_
            refine aw_ild2 hX dX4_share_75 ?_
            refine aw_iconst (v := 5) hX dX4_share_76 (by decide) ?_
            refine mm_call hX hM lk_X4_54 rfl (c_X4_of (fr := fr - 1) hM.1 (by omega) o 5 ho (by decide)) rfl rfl (Nat.le_of_ble_eq_true rfl) (by omega) (by decide) (Nat.le_refl _) (Nat.le_refl _) dX4_share_77 (fun hp hM => ?_)
            refine aw_bipush (v := 6) hX dX4_share_80 (by decide) ?_
            refine aw_icmp_ne hX (tgt := 91) dX4_share_82 (by decide) (fun c82 => ?_) (fun c82 => ?_)
            · have hc5 : c ≤ 5 := by
                rcases Nat.lt_or_ge 5 c with q | q
                · exfalso
                  have : c = 6 := by omega
                  subst this
                  exact c82 ec
                · exact q
              have hwm : mWf (mIns (S.1 0) o 0 c (five 0 w r true false)) := by
                obtain ⟨nu, hn1, hn2, eu⟩ := ok.u
                obtain ⟨w', hw', rfl⟩ := mUser_of eu hn2 hn1 b26
                exact mWf_ins ok.wf ho ho1 ec hc5 (by omega) (five_ok (kd := 0) (by decide) (fun _ => by omega) (fun q => by cases q) (of_decide_eq_true b40))
              refine aw_ald0 hX dX4_share_91 ?_
              refine mm_call hX hM lk_X4_79 rfl (c_X4_changes (fr := fr - 1) hM.1 (by omega) ok.p) rfl rfl (Nat.le_of_ble_eq_true rfl) (by omega) (by decide) (Nat.le_refl _) (Nat.le_refl _) dX4_share_92 (fun hp hM => ?_)
              refine aw_ald0 hX dX4_share_95 ?_
              refine aw_ild2 hX dX4_share_96 ?_
              refine aw_iconst (v := 0) hX dX4_share_97 (by decide) ?_
              refine mm_call hX hM lk_X4_125 rfl (c_X4_opens (fr := fr - 1) hM.1 (by omega) o 0 c ho (by omega) hc5 ec) rfl rfl (Nat.le_of_ble_eq_true rfl) (by omega) (by decide) (Nat.le_refl _) (Nat.le_refl _) dX4_share_98 (fun hp hM => ?_)
              refine aw_ald0 hX dX4_share_101 ?_
              refine aw_ild2 hX dX4_share_102 ?_
              refine aw_iconst (v := 0) hX dX4_share_103 (by decide) ?_
              refine aw_iconst (v := 0) hX dX4_share_104 (by decide) ?_
              refine aw_ild3 hX dX4_share_105 ?_
              refine aw_ild4 hX dX4_share_106 ?_
              refine aw_iconst (v := 1) hX dX4_share_108 (by decide) ?_
              refine aw_iconst (v := 0) hX dX4_share_109 (by decide) ?_
              refine mm_call hX hM lk_X4_104 rfl (c_X4_writes (fr := fr - 1) hM.1 (by omega) o 0 0 w r true false ho (by decide)) rfl rfl (Nat.le_of_ble_eq_true rfl) (by omega) (by decide) (Nat.le_refl _) (Nat.le_refl _) dX4_share_110 (fun hp hM => ?_)
              have hM := hM.cg (S' := sA (mC S) 0 (mIns (S.1 0) o 0 c (five 0 w r true false))) (by rw [sA_sA, sA_at, mWr_ins, show (mChg (sV S 1 0)).1 0 = S.1 0 from mC_0 S]; rfl)
              refine aw_ald0 hX dX4_share_113 ?_
              refine aw_ild3 hX dX4_share_114 ?_
              refine aw_ild2 hX dX4_share_115 ?_
              refine mm_call hX hM lk_X4_119 rfl (c_X4_rights (fr := fr - 1) hM.1 (by omega) (by rw [sA_at]; exact hwm) w o ho (by rw [sA_at]; exact (mIns_out (by omega) hc5 (Or.inl (by unfold mO; omega))).trans ho1)) rfl rfl (Nat.le_of_ble_eq_true rfl) (by omega) (by decide) (Nat.le_refl _) (Nat.le_refl _) dX4_share_116 (fun hp hM => ?_)
              refine aw_iret hX (Nat.le_refl _) (Nat.le_refl _) dX4_share_119 (hq _ _ ?_)
              rw [mop_share_of (S := S) b10 b18 b26 b40 ho hc ec c71 c82]
              exact ⟨by rw [sA_at], hM⟩
            · refine aw_ald0 hX dX4_share_85 ?_
              refine aw_iconst (v := 3) hX dX4_share_86 (by decide) ?_
              refine mm_call hX hM lk_X4_76 rfl (c_X4_fails (fr := fr - 1) hM.1 (by omega) _) rfl rfl (Nat.le_of_ble_eq_true rfl) (by omega) (by decide) (Nat.le_refl _) (Nat.le_refl _) dX4_share_87 (fun hp hM => ?_)
              refine aw_iret hX (Nat.le_refl _) (Nat.le_refl _) dX4_share_90 (hq _ _ ?_)
              rw [mop_share_3 (S := S) b10 b18 b26 b40 ho (by first | exact Or.inl c71 | exact Or.inr c82)]
              exact ⟨rfl, hM.cg (sV_sV S 1 0 3)⟩
        · have b40 := bI_0' c40
          refine aw_ald0 hX dX4_share_43 ?_
          refine aw_iconst (v := 2) hX dX4_share_44 (by decide) ?_
          refine mm_call hX hM lk_X4_76 rfl (c_X4_fails (fr := fr - 1) hM.1 (by omega) _) rfl rfl (Nat.le_of_ble_eq_true rfl) (by omega) (by decide) (Nat.le_refl _) (Nat.le_refl _) dX4_share_45 (fun hp hM => ?_)
          refine aw_iret hX (Nat.le_refl _) (Nat.le_refl _) dX4_share_48 (hq _ _ ?_)
          first
            | (have e9 : mop_share S u o w r = mBad S 2 := by (unfold mop_share; simp [show mUser (S.1 0) u = true from b10, show mObj (S.1 0) o = true from b18, show mUser (S.1 0) w = true from b26, of_decide_eq_false b40])
               rw [e9]
               exact ⟨rfl, hM.cg (sV_sV S 1 0 2)⟩)
      · have b26 := bI_0' c26
        refine aw_ald0 hX dX4_share_29 ?_
        refine aw_iconst (v := 1) hX dX4_share_30 (by decide) ?_
        refine mm_call hX hM lk_X4_76 rfl (c_X4_fails (fr := fr - 1) hM.1 (by omega) _) rfl rfl (Nat.le_of_ble_eq_true rfl) (by omega) (by decide) (Nat.le_refl _) (Nat.le_refl _) dX4_share_31 (fun hp hM => ?_)
        refine aw_iret hX (Nat.le_refl _) (Nat.le_refl _) dX4_share_34 (hq _ _ ?_)
        first
          | (have e9 : mop_share S u o w r = mBad S 1 := by (unfold mop_share; simp [show mUser (S.1 0) u = false from b10])
             rw [e9]
             exact ⟨rfl, hM.cg (sV_sV S 1 0 1)⟩)
          | (have e9 : mop_share S u o w r = mBad S 1 := by (unfold mop_share; simp [show mObj (S.1 0) o = false from b18])
             rw [e9]
             exact ⟨rfl, hM.cg (sV_sV S 1 0 1)⟩)
          | (have e9 : mop_share S u o w r = mBad S 1 := by (unfold mop_share; simp [show mUser (S.1 0) w = false from b26])
             rw [e9]
             exact ⟨rfl, hM.cg (sV_sV S 1 0 1)⟩)
