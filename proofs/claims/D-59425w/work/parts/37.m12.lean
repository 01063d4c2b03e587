/-! THE REFERENCE, printed by m12.py: questions; history -/
set_option maxHeartbeats 4000000 in
set_option maxRecDepth 100000 in
theorem c_X4_isAllowed {D : Gd} {fr : Nat} {m : Nat} {ad : Nat → Nat} {S : Ms} {h : Hm} (hM : MW m ad S h) (hf : 7 ≤ fr) (ok : mWf (S.1 0)) (u o r : Int32) : MC D fr yX4_isAllowed cX4_isAllowed 4 (some .boolean) m ad h [.int u, .int o, .int r] (some (.int (mq_isAllowed S u o r).2.1)) ((mq_isAllowed S u o r).2.2) := by
  refine AM.of (lv := [some (.ref m), some (.int u), some (.int o), some (.int r)]) (by decide +kernel) (Nat.le_of_ble_eq_true rfl) rfl (fun z hX hq _ => ?_)
  have hM := hM.rf
  refine aw_ald0 hX dX4_isAllowed_0 ?_
  refine aw_ild1 hX dX4_isAllowed_1 ?_
  refine aw_ild2 hX dX4_isAllowed_2 ?_
  refine aw_ild3 hX dX4_isAllowed_3 ?_
  refine mm_call hX hM lk_X4_221 rfl (c_X4_isQuestion (fr := fr - 1) hM.1 (by omega) ok u o r) rfl rfl (Nat.le_of_ble_eq_true rfl) (by omega) (by decide) (Nat.le_refl _) (Nat.le_refl _) dX4_isAllowed_4 (fun hp hM => ?_)
  refine aw_if_eq hX (tgt := 24) dX4_isAllowed_7 (by decide) (fun c7 => ?_) (fun c7 => ?_)
  · have b7 := bI_0' c7
    try simp only [sV_1] at b7
    refine aw_iconst (v := 0) hX dX4_isAllowed_24 (by decide) ?_
    refine aw_zret hX (by first | rfl | exact bI_n _ | (split <;> rfl)) (Nat.le_refl _) (Nat.le_refl _) dX4_isAllowed_25 (hq _ _ ?_)
    first
      | (rw [show mq_isAllowed S u o r = mQ S (mQc (S.1 0) u o r) 0 from mqQ_n (of_decide_eq_false b7)]
         exact ⟨rfl, hM⟩)
      | (rw [show mq_isAllowed S u (nI o) r = mQ S 0 (bI (mAllows (S.1 0) u o r)) from by unfold mq_isAllowed; rw [mqQ_0 q7, mN_i (show o < 2147483648 by omega)]]
         exact ⟨rv1 b17, hM.cg (by rw [q7]; rfl)⟩)
      | (rw [show mq_isAllowed S u (nI o) r = mQ S 0 (bI (mAllows (S.1 0) u o r)) from by unfold mq_isAllowed; rw [mqQ_0 q7, mN_i (show o < 2147483648 by omega)]]
         exact ⟨rv0 b17, hM.cg (by rw [q7]; rfl)⟩)
  · have b7 := bI_n0 c7
    try simp only [sV_1] at b7
    have q7 := of_decide_eq_true b7
    obtain ⟨-, hq2, -⟩ := mQc_0 q7
    obtain ⟨o, ho, rfl, ho1⟩ := mObj_of hq2
    refine aw_ald0 hX dX4_isAllowed_10 ?_
    refine aw_ild1 hX dX4_isAllowed_11 ?_
    refine aw_ild2 hX dX4_isAllowed_12 ?_
    refine aw_ild3 hX dX4_isAllowed_13 ?_
    refine mm_call hX hM lk_X4_150 rfl (c_X4_allows (fr := fr - 1) hM.1 (by omega) ok u r o ho ho1) rfl rfl (Nat.le_of_ble_eq_true rfl) (by omega) (by decide) (Nat.le_refl _) (Nat.le_refl _) dX4_isAllowed_14 (fun hp hM => ?_)
    refine aw_if_eq hX (tgt := 24) dX4_isAllowed_17 (by decide) (fun c17 => ?_) (fun c17 => ?_)
    · have b17 := bI_0' c17
      try simp only [sV_1] at b17
      refine aw_iconst (v := 0) hX dX4_isAllowed_24 (by decide) ?_
      refine aw_zret hX (by first | rfl | exact bI_n _ | (split <;> rfl)) (Nat.le_refl _) (Nat.le_refl _) dX4_isAllowed_25 (hq _ _ ?_)
      first
        | (rw [show mq_isAllowed S u o r = mQ S (mQc (S.1 0) u o r) 0 from mqQ_n (of_decide_eq_false b7)]
           exact ⟨rfl, hM⟩)
        | (rw [show mq_isAllowed S u (nI o) r = mQ S 0 (bI (mAllows (S.1 0) u o r)) from by unfold mq_isAllowed; rw [mqQ_0 q7, mN_i (show o < 2147483648 by omega)]]
           exact ⟨rv1 b17, hM.cg (by rw [q7]; rfl)⟩)
        | (rw [show mq_isAllowed S u (nI o) r = mQ S 0 (bI (mAllows (S.1 0) u o r)) from by unfold mq_isAllowed; rw [mqQ_0 q7, mN_i (show o < 2147483648 by omega)]]
           exact ⟨rv0 b17, hM.cg (by rw [q7]; rfl)⟩)
    · have b17 := bI_n0 c17
      try simp only [sV_1] at b17
      refine aw_iconst (v := 1) hX dX4_isAllowed_20 (by decide) ?_
      refine aw_goto hX (tgt := 25) dX4_isAllowed_21 (by decide) ?_
      refine aw_zret hX (by first | rfl | exact bI_n _ | (split <;> rfl)) (Nat.le_refl _) (Nat.le_refl _) dX4_isAllowed_25 (hq _ _ ?_)
      first
        | (rw [show mq_isAllowed S u o r = mQ S (mQc (S.1 0) u o r) 0 from mqQ_n (of_decide_eq_false b7)]
           exact ⟨rfl, hM⟩)
        | (rw [show mq_isAllowed S u (nI o) r = mQ S 0 (bI (mAllows (S.1 0) u o r)) from by unfold mq_isAllowed; rw [mqQ_0 q7, mN_i (show o < 2147483648 by omega)]]
           exact ⟨rv1 b17, hM.cg (by rw [q7]; rfl)⟩)
        | (rw [show mq_isAllowed S u (nI o) r = mQ S 0 (bI (mAllows (S.1 0) u o r)) from by unfold mq_isAllowed; rw [mqQ_0 q7, mN_i (show o < 2147483648 by omega)]]
           exact ⟨rv0 b17, hM.cg (by rw [q7]; rfl)⟩)
set_option maxHeartbeats 4000000 in
set_option maxRecDepth 100000 in
theorem c_X4_isAllowedByHandingDown {D : Gd} {fr : Nat} {m : Nat} {ad : Nat → Nat} {S : Ms} {h : Hm} (hM : MW m ad S h) (hf : 7 ≤ fr) (ok : mWf (S.1 0)) (u o r : Int32) : MC D fr yX4_isAllowedByHandingDown cX4_isAllowedByHandingDown 4 (some .boolean) m ad h [.int u, .int o, .int r] (some (.int (mq_isAllowed S u o r).2.1)) ((mq_isAllowed S u o r).2.2) := by
  refine AM.of (lv := [some (.ref m), some (.int u), some (.int o), some (.int r)]) (by decide +kernel) (Nat.le_of_ble_eq_true rfl) rfl (fun z hX hq _ => ?_)
  have hM := hM.rf
  refine aw_ald0 hX dX4_isAllowedByHandingDown_0 ?_
  refine aw_ild1 hX dX4_isAllowedByHandingDown_1 ?_
  refine aw_ild2 hX dX4_isAllowedByHandingDown_2 ?_
  refine aw_ild3 hX dX4_isAllowedByHandingDown_3 ?_
  refine mm_call hX hM lk_X4_221 rfl (c_X4_isQuestion (fr := fr - 1) hM.1 (by omega) ok u o r) rfl rfl (Nat.le_of_ble_eq_true rfl) (by omega) (by decide) (Nat.le_refl _) (Nat.le_refl _) dX4_isAllowedByHandingDown_4 (fun hp hM => ?_)
  refine aw_if_eq hX (tgt := 24) dX4_isAllowedByHandingDown_7 (by decide) (fun c7 => ?_) (fun c7 => ?_)
  · have b7 := bI_0' c7
    try simp only [sV_1] at b7
    refine aw_iconst (v := 0) hX dX4_isAllowedByHandingDown_24 (by decide) ?_
    refine aw_zret hX (by first | rfl | exact bI_n _ | (split <;> rfl)) (Nat.le_refl _) (Nat.le_refl _) dX4_isAllowedByHandingDown_25 (hq _ _ ?_)
    first
      | (rw [show mq_isAllowed S u o r = mQ S (mQc (S.1 0) u o r) 0 from mqQ_n (of_decide_eq_false b7)]
         exact ⟨rfl, hM⟩)
      | (rw [show mq_isAllowed S u (nI o) r = mQ S 0 (bI (mAllows (S.1 0) u o r)) from by unfold mq_isAllowed; rw [mqQ_0 q7, mN_i (show o < 2147483648 by omega)]]
         exact ⟨rv1 b17, hM.cg (by rw [q7]; rfl)⟩)
      | (rw [show mq_isAllowed S u (nI o) r = mQ S 0 (bI (mAllows (S.1 0) u o r)) from by unfold mq_isAllowed; rw [mqQ_0 q7, mN_i (show o < 2147483648 by omega)]]
         exact ⟨rv0 b17, hM.cg (by rw [q7]; rfl)⟩)
  · have b7 := bI_n0 c7
    try simp only [sV_1] at b7
    have q7 := of_decide_eq_true b7
    obtain ⟨-, hq2, -⟩ := mQc_0 q7
    obtain ⟨o, ho, rfl, ho1⟩ := mObj_of hq2
    refine aw_ald0 hX dX4_isAllowedByHandingDown_10 ?_
    refine aw_ild1 hX dX4_isAllowedByHandingDown_11 ?_
    refine aw_ild2 hX dX4_isAllowedByHandingDown_12 ?_
    refine aw_ild3 hX dX4_isAllowedByHandingDown_13 ?_
    refine mm_call hX hM lk_X4_150 rfl (c_X4_allows (fr := fr - 1) hM.1 (by omega) ok u r o ho ho1) rfl rfl (Nat.le_of_ble_eq_true rfl) (by omega) (by decide) (Nat.le_refl _) (Nat.le_refl _) dX4_isAllowedByHandingDown_14 (fun hp hM => ?_)
    refine aw_if_eq hX (tgt := 24) dX4_isAllowedByHandingDown_17 (by decide) (fun c17 => ?_) (fun c17 => ?_)
    · have b17 := bI_0' c17
      try simp only [sV_1] at b17
      refine aw_iconst (v := 0) hX dX4_isAllowedByHandingDown_24 (by decide) ?_
      refine aw_zret hX (by first | rfl | exact bI_n _ | (split <;> rfl)) (Nat.le_refl _) (Nat.le_refl _) dX4_isAllowedByHandingDown_25 (hq _ _ ?_)
      first
        | (rw [show mq_isAllowed S u o r = mQ S (mQc (S.1 0) u o r) 0 from mqQ_n (of_decide_eq_false b7)]
           exact ⟨rfl, hM⟩)
        | (rw [show mq_isAllowed S u (nI o) r = mQ S 0 (bI (mAllows (S.1 0) u o r)) from by unfold mq_isAllowed; rw [mqQ_0 q7, mN_i (show o < 2147483648 by omega)]]
           exact ⟨rv1 b17, hM.cg (by rw [q7]; rfl)⟩)
        | (rw [show mq_isAllowed S u (nI o) r = mQ S 0 (bI (mAllows (S.1 0) u o r)) from by unfold mq_isAllowed; rw [mqQ_0 q7, mN_i (show o < 2147483648 by omega)]]
           exact ⟨rv0 b17, hM.cg (by rw [q7]; rfl)⟩)
    · have b17 := bI_n0 c17
      try simp only [sV_1] at b17
      refine aw_iconst (v := 1) hX dX4_isAllowedByHandingDown_20 (by decide) ?_
      refine aw_goto hX (tgt := 25) dX4_isAllowedByHandingDown_21 (by decide) ?_
      refine aw_zret hX (by first | rfl | exact bI_n _ | (split <;> rfl)) (Nat.le_refl _) (Nat.le_refl _) dX4_isAllowedByHandingDown_25 (hq _ _ ?_)
      first
        | (rw [show mq_isAllowed S u o r = mQ S (mQc (S.1 0) u o r) 0 from mqQ_n (of_decide_eq_false b7)]
           exact ⟨rfl, hM⟩)
        | (rw [show mq_isAllowed S u (nI o) r = mQ S 0 (bI (mAllows (S.1 0) u o r)) from by unfold mq_isAllowed; rw [mqQ_0 q7, mN_i (show o < 2147483648 by omega)]]
           exact ⟨rv1 b17, hM.cg (by rw [q7]; rfl)⟩)
        | (rw [show mq_isAllowed S u (nI o) r = mQ S 0 (bI (mAllows (S.1 0) u o r)) from by unfold mq_isAllowed; rw [mqQ_0 q7, mN_i (show o < 2147483648 by omega)]]
           exact ⟨rv0 b17, hM.cg (by rw [q7]; rfl)⟩)
set_option maxHeartbeats 4000000 in
set_option maxRecDepth 100000 in
theorem c_X4_isStoppedByMask {D : Gd} {fr : Nat} {m : Nat} {ad : Nat → Nat} {S : Ms} {h : Hm} (hM : MW m ad S h) (hf : 7 ≤ fr) (ok : mWf (S.1 0)) (u o r : Int32) : MC D fr yX4_isStoppedByMask cX4_isStoppedByMask 4 (some .boolean) m ad h [.int u, .int o, .int r] (some (.int (mq_isStopped S u o r).2.1)) ((mq_isStopped S u o r).2.2) := by
  refine AM.of (lv := [some (.ref m), some (.int u), some (.int o), some (.int r)]) (by decide +kernel) (Nat.le_of_ble_eq_true rfl) rfl (fun z hX hq _ => ?_)
  have hM := hM.rf
  refine aw_ald0 hX dX4_isStoppedByMask_0 ?_
  refine aw_ild1 hX dX4_isStoppedByMask_1 ?_
  refine aw_ild2 hX dX4_isStoppedByMask_2 ?_
  refine aw_ild3 hX dX4_isStoppedByMask_3 ?_
  refine mm_call hX hM lk_X4_221 rfl (c_X4_isQuestion (fr := fr - 1) hM.1 (by omega) ok u o r) rfl rfl (Nat.le_of_ble_eq_true rfl) (by omega) (by decide) (Nat.le_refl _) (Nat.le_refl _) dX4_isStoppedByMask_4 (fun hp hM => ?_)
  refine aw_if_eq hX (tgt := 34) dX4_isStoppedByMask_7 (by decide) (fun c7 => ?_) (fun c7 => ?_)
  · have b7 := bI_0' c7
    try simp only [sV_1] at b7
    refine aw_iconst (v := 0) hX dX4_isStoppedByMask_34 (by decide) ?_
    refine aw_zret hX (by first | rfl | exact bI_n _ | (split <;> rfl)) (Nat.le_refl _) (Nat.le_refl _) dX4_isStoppedByMask_35 (hq _ _ ?_)
    first
      | (rw [show mq_isStopped S u o r = mQ S (mQc (S.1 0) u o r) 0 from mqQ_n (of_decide_eq_false b7)]
         exact ⟨rfl, hM⟩)
      | (rw [show mq_isStopped S u (nI o) r = mQ S 0 (bI (!mAllows (S.1 0) u o r && mByList (S.1 0) u o r)) from by unfold mq_isStopped; rw [mqQ_0 q7, mN_i (show o < 2147483648 by omega)]]
         exact ⟨rv0 (by rw [b17]; rfl), hM.cg (by rw [q7]; rfl)⟩)
      | (rw [show mq_isStopped S u (nI o) r = mQ S 0 (bI (!mAllows (S.1 0) u o r && mByList (S.1 0) u o r)) from by unfold mq_isStopped; rw [mqQ_0 q7, mN_i (show o < 2147483648 by omega)]]
         exact ⟨rv1 (by rw [b17, b27]; rfl), hM.cg (by rw [q7]; rfl)⟩)
      | (rw [show mq_isStopped S u (nI o) r = mQ S 0 (bI (!mAllows (S.1 0) u o r && mByList (S.1 0) u o r)) from by unfold mq_isStopped; rw [mqQ_0 q7, mN_i (show o < 2147483648 by omega)]]
         exact ⟨rv0 (by rw [b17, b27]; rfl), hM.cg (by rw [q7]; rfl)⟩)
  · have b7 := bI_n0 c7
    try simp only [sV_1] at b7
    have q7 := of_decide_eq_true b7
    obtain ⟨-, hq2, -⟩ := mQc_0 q7
    obtain ⟨o, ho, rfl, ho1⟩ := mObj_of hq2
    refine aw_ald0 hX dX4_isStoppedByMask_10 ?_
    refine aw_ild1 hX dX4_isStoppedByMask_11 ?_
    refine aw_ild2 hX dX4_isStoppedByMask_12 ?_
    refine aw_ild3 hX dX4_isStoppedByMask_13 ?_
    refine mm_call hX hM lk_X4_150 rfl (c_X4_allows (fr := fr - 1) hM.1 (by omega) ok u r o ho ho1) rfl rfl (Nat.le_of_ble_eq_true rfl) (by omega) (by decide) (Nat.le_refl _) (Nat.le_refl _) dX4_isStoppedByMask_14 (fun hp hM => ?_)
    refine aw_if_ne hX (tgt := 34) dX4_isStoppedByMask_17 (by decide) (fun c17 => ?_) (fun c17 => ?_)
    · have b17 := bI_n0 c17
      try simp only [sV_1] at b17
      refine aw_iconst (v := 0) hX dX4_isStoppedByMask_34 (by decide) ?_
      refine aw_zret hX (by first | rfl | exact bI_n _ | (split <;> rfl)) (Nat.le_refl _) (Nat.le_refl _) dX4_isStoppedByMask_35 (hq _ _ ?_)
      first
        | (rw [show mq_isStopped S u o r = mQ S (mQc (S.1 0) u o r) 0 from mqQ_n (of_decide_eq_false b7)]
           exact ⟨rfl, hM⟩)
        | (rw [show mq_isStopped S u (nI o) r = mQ S 0 (bI (!mAllows (S.1 0) u o r && mByList (S.1 0) u o r)) from by unfold mq_isStopped; rw [mqQ_0 q7, mN_i (show o < 2147483648 by omega)]]
           exact ⟨rv0 (by rw [b17]; rfl), hM.cg (by rw [q7]; rfl)⟩)
        | (rw [show mq_isStopped S u (nI o) r = mQ S 0 (bI (!mAllows (S.1 0) u o r && mByList (S.1 0) u o r)) from by unfold mq_isStopped; rw [mqQ_0 q7, mN_i (show o < 2147483648 by omega)]]
           exact ⟨rv1 (by rw [b17, b27]; rfl), hM.cg (by rw [q7]; rfl)⟩)
        | (rw [show mq_isStopped S u (nI o) r = mQ S 0 (bI (!mAllows (S.1 0) u o r && mByList (S.1 0) u o r)) from by unfold mq_isStopped; rw [mqQ_0 q7, mN_i (show o < 2147483648 by omega)]]
           exact ⟨rv0 (by rw [b17, b27]; rfl), hM.cg (by rw [q7]; rfl)⟩)
    · have b17 := bI_0' c17
      try simp only [sV_1] at b17
      refine aw_ald0 hX dX4_isStoppedByMask_20 ?_
      refine aw_ild1 hX dX4_isStoppedByMask_21 ?_
      refine aw_ild2 hX dX4_isStoppedByMask_22 ?_
      refine aw_ild3 hX dX4_isStoppedByMask_23 ?_
      refine mm_call hX hM lk_X4_147 rfl (c_X4_isByList (fr := fr - 1) hM.1 (by omega) ok u r o ho ho1) rfl rfl (Nat.le_of_ble_eq_true rfl) (by omega) (by decide) (Nat.le_refl _) (Nat.le_refl _) dX4_isStoppedByMask_24 (fun hp hM => ?_)
      refine aw_if_eq hX (tgt := 34) dX4_isStoppedByMask_27 (by decide) (fun c27 => ?_) (fun c27 => ?_)
      · have b27 := bI_0' c27
        try simp only [sV_1] at b27
        refine aw_iconst (v := 0) hX dX4_isStoppedByMask_34 (by decide) ?_
        refine aw_zret hX (by first | rfl | exact bI_n _ | (split <;> rfl)) (Nat.le_refl _) (Nat.le_refl _) dX4_isStoppedByMask_35 (hq _ _ ?_)
        first
          | (rw [show mq_isStopped S u o r = mQ S (mQc (S.1 0) u o r) 0 from mqQ_n (of_decide_eq_false b7)]
             exact ⟨rfl, hM⟩)
          | (rw [show mq_isStopped S u (nI o) r = mQ S 0 (bI (!mAllows (S.1 0) u o r && mByList (S.1 0) u o r)) from by unfold mq_isStopped; rw [mqQ_0 q7, mN_i (show o < 2147483648 by omega)]]
             exact ⟨rv0 (by rw [b17]; rfl), hM.cg (by rw [q7]; rfl)⟩)
          | (rw [show mq_isStopped S u (nI o) r = mQ S 0 (bI (!mAllows (S.1 0) u o r && mByList (S.1 0) u o r)) from by unfold mq_isStopped; rw [mqQ_0 q7, mN_i (show o < 2147483648 by omega)]]
             exact ⟨rv1 (by rw [b17, b27]; rfl), hM.cg (by rw [q7]; rfl)⟩)
          | (rw [show mq_isStopped S u (nI o) r = mQ S 0 (bI (!mAllows (S.1 0) u o r && mByList (S.1 0) u o r)) from by unfold mq_isStopped; rw [mqQ_0 q7, mN_i (show o < 2147483648 by omega)]]
             exact ⟨rv0 (by rw [b17, b27]; rfl), hM.cg (by rw [q7]; rfl)⟩)
      · have b27 := bI_n0 c27
        try simp only [sV_1] at b27
        refine aw_iconst (v := 1) hX dX4_isStoppedByMask_30 (by decide) ?_
        refine aw_goto hX (tgt := 35) dX4_isStoppedByMask_31 (by decide) ?_
        refine aw_zret hX (by first | rfl | exact bI_n _ | (split <;> rfl)) (Nat.le_refl _) (Nat.le_refl _) dX4_isStoppedByMask_35 (hq _ _ ?_)
        first
          | (rw [show mq_isStopped S u o r = mQ S (mQc (S.1 0) u o r) 0 from mqQ_n (of_decide_eq_false b7)]
             exact ⟨rfl, hM⟩)
          | (rw [show mq_isStopped S u (nI o) r = mQ S 0 (bI (!mAllows (S.1 0) u o r && mByList (S.1 0) u o r)) from by unfold mq_isStopped; rw [mqQ_0 q7, mN_i (show o < 2147483648 by omega)]]
             exact ⟨rv0 (by rw [b17]; rfl), hM.cg (by rw [q7]; rfl)⟩)
          | (rw [show mq_isStopped S u (nI o) r = mQ S 0 (bI (!mAllows (S.1 0) u o r && mByList (S.1 0) u o r)) from by unfold mq_isStopped; rw [mqQ_0 q7, mN_i (show o < 2147483648 by omega)]]
             exact ⟨rv1 (by rw [b17, b27]; rfl), hM.cg (by rw [q7]; rfl)⟩)
          | (rw [show mq_isStopped S u (nI o) r = mQ S 0 (bI (!mAllows (S.1 0) u o r && mByList (S.1 0) u o r)) from by unfold mq_isStopped; rw [mqQ_0 q7, mN_i (show o < 2147483648 by omega)]]
             exact ⟨rv0 (by rw [b17, b27]; rfl), hM.cg (by rw [q7]; rfl)⟩)
set_option maxHeartbeats 4000000 in
set_option maxRecDepth 100000 in
theorem c_X4_decidingObject {D : Gd} {fr : Nat} {m : Nat} {ad : Nat → Nat} {S : Ms} {h : Hm} (hM : MW m ad S h) (hf : 5 ≤ fr) (ok : mWf (S.1 0)) (u o r : Int32) : MC D fr yX4_decidingObject cX4_decidingObject 5 (some .int) m ad h [.int u, .int o, .int r] (some (.int (mq_decidingObject S u o r).2.1)) ((mq_decidingObject S u o r).2.2) := by
  refine AM.of (lv := [some (.ref m), some (.int u), some (.int o), some (.int r), none]) (by decide +kernel) (Nat.le_of_ble_eq_true rfl) rfl (fun z hX hq _ => ?_)
  have hM := hM.rf
  refine aw_ald0 hX dX4_decidingObject_0 ?_
  refine aw_ild1 hX dX4_decidingObject_1 ?_
  refine aw_ild2 hX dX4_decidingObject_2 ?_
  refine aw_ild3 hX dX4_decidingObject_3 ?_
  refine mm_call hX hM lk_X4_221 rfl (c_X4_isQuestion (fr := fr - 1) hM.1 (by omega) ok u o r) rfl rfl (Nat.le_of_ble_eq_true rfl) (by omega) (by decide) (Nat.le_refl _) (Nat.le_refl _) dX4_decidingObject_4 (fun hp hM => ?_)
  refine aw_if_eq hX (tgt := 20) dX4_decidingObject_7 (by decide) (fun c7 => ?_) (fun c7 => ?_)
  · have b7 := bI_0' c7
    try simp only [sV_1] at b7
    refine aw_iconst (v := 0) hX dX4_decidingObject_20 (by decide) ?_
    refine aw_ist4 hX dX4_decidingObject_21 (by decide) rfl ?_
    refine aw_ald0 hX dX4_decidingObject_23 ?_
    refine mm_get hX hM fg_X4_39 rfl dX4_decidingObject_24 ?_
    refine aw_if_le hX (tgt := 34) dX4_decidingObject_27 (by decide) (fun c => absurd c (by rw [sV_at]; exact mQc_pos (of_decide_eq_false b7))) (fun _ => ?_)
    refine aw_iconst (v := 0) hX dX4_decidingObject_30 (by decide) ?_
    refine aw_goto hX (tgt := 48) dX4_decidingObject_31 (by decide) ?_
    refine aw_iret hX (Nat.le_refl _) (Nat.le_refl _) dX4_decidingObject_48 (hq _ _ ?_)
    first
      | (rw [show mq_decidingObject S u o r = mQ S (mQc (S.1 0) u o r) 0 from mqQ_n (of_decide_eq_false b7)]
         exact ⟨rfl, hM⟩)
      | (rw [show mq_decidingObject S u (nI o) r = mQ S 0 (mD1 (mDec (S.1 0) u o r)) from by unfold mq_decidingObject; rw [mqQ_0 q7, mN_i (show o < 2147483648 by omega)]]
         exact ⟨by rw [hde]; rfl, hM.cg (by rw [q7]; rfl)⟩)
      | (rw [show mq_decidingObject S u (nI o) r = mQ S 0 (mD1 (mDec (S.1 0) u o r)) from by unfold mq_decidingObject; rw [mqQ_0 q7, mN_i (show o < 2147483648 by omega)]]
         exact ⟨by rw [mDec_no ok ho ho1 (Int32.not_le.mp c36)]; rfl, hM.cg (by rw [q7]; rfl)⟩)
  · have b7 := bI_n0 c7
    try simp only [sV_1] at b7
    have q7 := of_decide_eq_true b7
    obtain ⟨-, hq2, -⟩ := mQc_0 q7
    obtain ⟨o, ho, rfl, ho1⟩ := mObj_of hq2
    refine aw_ald0 hX dX4_decidingObject_10 ?_
    refine aw_ild1 hX dX4_decidingObject_11 ?_
    refine aw_ild2 hX dX4_decidingObject_12 ?_
    refine aw_ild3 hX dX4_decidingObject_13 ?_
    refine mm_call hX hM lk_X4_144 rfl (c_X4_decides (fr := fr - 1) hM.1 (by omega) ok u r o ho ho1) rfl rfl (Nat.le_of_ble_eq_true rfl) (by omega) (by decide) (Nat.le_refl _) (Nat.le_refl _) dX4_decidingObject_14 (fun hp hM => ?_)
    refine aw_goto hX (tgt := 21) dX4_decidingObject_17 (by decide) ?_
    refine aw_ist4 hX dX4_decidingObject_21 (by decide) rfl ?_
    refine aw_ald0 hX dX4_decidingObject_23 ?_
    refine mm_get hX hM fg_X4_39 rfl dX4_decidingObject_24 ?_
    refine aw_if_le hX (tgt := 34) dX4_decidingObject_27 (by decide) (fun _ => ?_) (fun c => absurd (by rw [sV_at, q7]; decide) c)
    refine aw_ild4 hX dX4_decidingObject_34 ?_
    refine aw_if_ge hX (tgt := 43) dX4_decidingObject_36 (by decide) (fun c36 => ?_) (fun c36 => ?_)
    · obtain ⟨l, e, hde, hl, he, hd9⟩ := mDec_ex ok ho ho1 (Int32.not_lt.mpr c36)
      rw [show mDecI (mDec ((sV S 1 _).1 0) u o r) = _ from hd9]
      refine aw_ild4 hX dX4_decidingObject_43 ?_
      refine aw_bipush (v := 6) hX dX4_decidingObject_45 (by decide) ?_
      refine aw_idiv hX dX4_decidingObject_47 (by decide) ?_
      rw [dec_div hl he]
      refine aw_iret hX (Nat.le_refl _) (Nat.le_refl _) dX4_decidingObject_48 (hq _ _ ?_)
      first
        | (rw [show mq_decidingObject S u o r = mQ S (mQc (S.1 0) u o r) 0 from mqQ_n (of_decide_eq_false b7)]
           exact ⟨rfl, hM⟩)
        | (rw [show mq_decidingObject S u (nI o) r = mQ S 0 (mD1 (mDec (S.1 0) u o r)) from by unfold mq_decidingObject; rw [mqQ_0 q7, mN_i (show o < 2147483648 by omega)]]
           exact ⟨by rw [hde]; rfl, hM.cg (by rw [q7]; rfl)⟩)
        | (rw [show mq_decidingObject S u (nI o) r = mQ S 0 (mD1 (mDec (S.1 0) u o r)) from by unfold mq_decidingObject; rw [mqQ_0 q7, mN_i (show o < 2147483648 by omega)]]
           exact ⟨by rw [mDec_no ok ho ho1 (Int32.not_le.mp c36)]; rfl, hM.cg (by rw [q7]; rfl)⟩)
    · refine aw_iconst (v := -1) hX dX4_decidingObject_39 (by decide) ?_
      refine aw_goto hX (tgt := 48) dX4_decidingObject_40 (by decide) ?_
      refine aw_iret hX (Nat.le_refl _) (Nat.le_refl _) dX4_decidingObject_48 (hq _ _ ?_)
      first
        | (rw [show mq_decidingObject S u o r = mQ S (mQc (S.1 0) u o r) 0 from mqQ_n (of_decide_eq_false b7)]
           exact ⟨rfl, hM⟩)
        | (rw [show mq_decidingObject S u (nI o) r = mQ S 0 (mD1 (mDec (S.1 0) u o r)) from by unfold mq_decidingObject; rw [mqQ_0 q7, mN_i (show o < 2147483648 by omega)]]
           exact ⟨by rw [hde]; rfl, hM.cg (by rw [q7]; rfl)⟩)
        | (rw [show mq_decidingObject S u (nI o) r = mQ S 0 (mD1 (mDec (S.1 0) u o r)) from by unfold mq_decidingObject; rw [mqQ_0 q7, mN_i (show o < 2147483648 by omega)]]
           exact ⟨by rw [mDec_no ok ho ho1 (Int32.not_le.mp c36)]; rfl, hM.cg (by rw [q7]; rfl)⟩)
set_option maxHeartbeats 4000000 in
set_option maxRecDepth 100000 in
theorem c_X4_decidingEntry {D : Gd} {fr : Nat} {m : Nat} {ad : Nat → Nat} {S : Ms} {h : Hm} (hM : MW m ad S h) (hf : 5 ≤ fr) (ok : mWf (S.1 0)) (u o r : Int32) : MC D fr yX4_decidingEntry cX4_decidingEntry 5 (some .int) m ad h [.int u, .int o, .int r] (some (.int (mq_decidingEntry S u o r).2.1)) ((mq_decidingEntry S u o r).2.2) := by
  refine AM.of (lv := [some (.ref m), some (.int u), some (.int o), some (.int r), none]) (by decide +kernel) (Nat.le_of_ble_eq_true rfl) rfl (fun z hX hq _ => ?_)
  have hM := hM.rf
  refine aw_ald0 hX dX4_decidingEntry_0 ?_
  refine aw_ild1 hX dX4_decidingEntry_1 ?_
  refine aw_ild2 hX dX4_decidingEntry_2 ?_
  refine aw_ild3 hX dX4_decidingEntry_3 ?_
  refine mm_call hX hM lk_X4_221 rfl (c_X4_isQuestion (fr := fr - 1) hM.1 (by omega) ok u o r) rfl rfl (Nat.le_of_ble_eq_true rfl) (by omega) (by decide) (Nat.le_refl _) (Nat.le_refl _) dX4_decidingEntry_4 (fun hp hM => ?_)
  refine aw_if_eq hX (tgt := 20) dX4_decidingEntry_7 (by decide) (fun c7 => ?_) (fun c7 => ?_)
  · have b7 := bI_0' c7
    try simp only [sV_1] at b7
    refine aw_iconst (v := 0) hX dX4_decidingEntry_20 (by decide) ?_
    refine aw_ist4 hX dX4_decidingEntry_21 (by decide) rfl ?_
    refine aw_ald0 hX dX4_decidingEntry_23 ?_
    refine mm_get hX hM fg_X4_39 rfl dX4_decidingEntry_24 ?_
    refine aw_if_le hX (tgt := 34) dX4_decidingEntry_27 (by decide) (fun c => absurd c (by rw [sV_at]; exact mQc_pos (of_decide_eq_false b7))) (fun _ => ?_)
    refine aw_iconst (v := 0) hX dX4_decidingEntry_30 (by decide) ?_
    refine aw_goto hX (tgt := 48) dX4_decidingEntry_31 (by decide) ?_
    refine aw_iret hX (Nat.le_refl _) (Nat.le_refl _) dX4_decidingEntry_48 (hq _ _ ?_)
    first
      | (rw [show mq_decidingEntry S u o r = mQ S (mQc (S.1 0) u o r) 0 from mqQ_n (of_decide_eq_false b7)]
         exact ⟨rfl, hM⟩)
      | (rw [show mq_decidingEntry S u (nI o) r = mQ S 0 (mD2 (mDec (S.1 0) u o r)) from by unfold mq_decidingEntry; rw [mqQ_0 q7, mN_i (show o < 2147483648 by omega)]]
         exact ⟨by rw [hde]; rfl, hM.cg (by rw [q7]; rfl)⟩)
      | (rw [show mq_decidingEntry S u (nI o) r = mQ S 0 (mD2 (mDec (S.1 0) u o r)) from by unfold mq_decidingEntry; rw [mqQ_0 q7, mN_i (show o < 2147483648 by omega)]]
         exact ⟨by rw [mDec_no ok ho ho1 (Int32.not_le.mp c36)]; rfl, hM.cg (by rw [q7]; rfl)⟩)
  · have b7 := bI_n0 c7
    try simp only [sV_1] at b7
    have q7 := of_decide_eq_true b7
    obtain ⟨-, hq2, -⟩ := mQc_0 q7
    obtain ⟨o, ho, rfl, ho1⟩ := mObj_of hq2
    refine aw_ald0 hX dX4_decidingEntry_10 ?_
    refine aw_ild1 hX dX4_decidingEntry_11 ?_
    refine aw_ild2 hX dX4_decidingEntry_12 ?_
    refine aw_ild3 hX dX4_decidingEntry_13 ?_
    refine mm_call hX hM lk_X4_144 rfl (c_X4_decides (fr := fr - 1) hM.1 (by omega) ok u r o ho ho1) rfl rfl (Nat.le_of_ble_eq_true rfl) (by omega) (by decide) (Nat.le_refl _) (Nat.le_refl _) dX4_decidingEntry_14 (fun hp hM => ?_)
    refine aw_goto hX (tgt := 21) dX4_decidingEntry_17 (by decide) ?_
    refine aw_ist4 hX dX4_decidingEntry_21 (by decide) rfl ?_
    refine aw_ald0 hX dX4_decidingEntry_23 ?_
    refine mm_get hX hM fg_X4_39 rfl dX4_decidingEntry_24 ?_
    refine aw_if_le hX (tgt := 34) dX4_decidingEntry_27 (by decide) (fun _ => ?_) (fun c => absurd (by rw [sV_at, q7]; decide) c)
    refine aw_ild4 hX dX4_decidingEntry_34 ?_
    refine aw_if_ge hX (tgt := 43) dX4_decidingEntry_36 (by decide) (fun c36 => ?_) (fun c36 => ?_)
    · obtain ⟨l, e, hde, hl, he, hd9⟩ := mDec_ex ok ho ho1 (Int32.not_lt.mpr c36)
      rw [show mDecI (mDec ((sV S 1 _).1 0) u o r) = _ from hd9]
      refine aw_ild4 hX dX4_decidingEntry_43 ?_
      refine aw_bipush (v := 6) hX dX4_decidingEntry_45 (by decide) ?_
      refine aw_irem hX dX4_decidingEntry_47 (by decide) ?_
      rw [dec_rem hl he]
      refine aw_iret hX (Nat.le_refl _) (Nat.le_refl _) dX4_decidingEntry_48 (hq _ _ ?_)
      first
        | (rw [show mq_decidingEntry S u o r = mQ S (mQc (S.1 0) u o r) 0 from mqQ_n (of_decide_eq_false b7)]
           exact ⟨rfl, hM⟩)
        | (rw [show mq_decidingEntry S u (nI o) r = mQ S 0 (mD2 (mDec (S.1 0) u o r)) from by unfold mq_decidingEntry; rw [mqQ_0 q7, mN_i (show o < 2147483648 by omega)]]
           exact ⟨by rw [hde]; rfl, hM.cg (by rw [q7]; rfl)⟩)
        | (rw [show mq_decidingEntry S u (nI o) r = mQ S 0 (mD2 (mDec (S.1 0) u o r)) from by unfold mq_decidingEntry; rw [mqQ_0 q7, mN_i (show o < 2147483648 by omega)]]
           exact ⟨by rw [mDec_no ok ho ho1 (Int32.not_le.mp c36)]; rfl, hM.cg (by rw [q7]; rfl)⟩)
    · refine aw_iconst (v := -1) hX dX4_decidingEntry_39 (by decide) ?_
      refine aw_goto hX (tgt := 48) dX4_decidingEntry_40 (by decide) ?_
      refine aw_iret hX (Nat.le_refl _) (Nat.le_refl _) dX4_decidingEntry_48 (hq _ _ ?_)
      first
        | (rw [show mq_decidingEntry S u o r = mQ S (mQc (S.1 0) u o r) 0 from mqQ_n (of_decide_eq_false b7)]
           exact ⟨rfl, hM⟩)
        | (rw [show mq_decidingEntry S u (nI o) r = mQ S 0 (mD2 (mDec (S.1 0) u o r)) from by unfold mq_decidingEntry; rw [mqQ_0 q7, mN_i (show o < 2147483648 by omega)]]
           exact ⟨by rw [hde]; rfl, hM.cg (by rw [q7]; rfl)⟩)
        | (rw [show mq_decidingEntry S u (nI o) r = mQ S 0 (mD2 (mDec (S.1 0) u o r)) from by unfold mq_decidingEntry; rw [mqQ_0 q7, mN_i (show o < 2147483648 by omega)]]
           exact ⟨by rw [mDec_no ok ho ho1 (Int32.not_le.mp c36)]; rfl, hM.cg (by rw [q7]; rfl)⟩)
set_option maxHeartbeats 4000000 in
set_option maxRecDepth 100000 in
theorem c_X4_rightsOf {D : Gd} {fr : Nat} {m : Nat} {ad : Nat → Nat} {S : Ms} {h : Hm} (hM : MW m ad S h) (hf : 8 ≤ fr) (ok : mWf (S.1 0)) (u o : Int32) : MC D fr yX4_rightsOf cX4_rightsOf 3 (some .int) m ad h [.int u, .int o] (some (.int (mq_rightsOf S u o).2.1)) ((mq_rightsOf S u o).2.2) := by
  refine AM.of (lv := [some (.ref m), some (.int u), some (.int o)]) (by decide +kernel) (Nat.le_of_ble_eq_true rfl) rfl (fun z hX hq _ => ?_)
  have hM := hM.rf
  refine aw_ald0 hX dX4_rightsOf_0 ?_
  refine aw_ald0 hX dX4_rightsOf_1 ?_
  refine aw_ild1 hX dX4_rightsOf_2 ?_
  refine mm_call hX hM lk_X4_82 rfl (c_X4_isUser (fr := fr - 1) hM.1 (by omega) _) rfl rfl (Nat.le_of_ble_eq_true rfl) (by omega) (by decide) (Nat.le_refl _) (Nat.le_refl _) dX4_rightsOf_3 (fun hp hM => ?_)
  refine aw_if_eq hX (tgt := 21) dX4_rightsOf_6 (by decide) (fun c6 => ?_) (fun c6 => ?_)
  · have b6 := bI_0' c6
    try simp only [sV_1] at b6
    refine aw_iconst (v := 1) hX dX4_rightsOf_21 (by decide) ?_
    refine mm_put hX hM 1 fp_X4_39 (by decide) dX4_rightsOf_22 (fun hp hM => ?_)
    refine aw_ald0 hX dX4_rightsOf_25 ?_
    refine mm_get hX hM fg_X4_39 rfl dX4_rightsOf_26 ?_
    refine aw_if_ne hX (tgt := 41) dX4_rightsOf_29 (by decide) (fun _ => ?_) (fun c => absurd c (by first | (rw [sV_at]; done) | (rw [sV_at]; decide)))
    refine aw_iconst (v := 0) hX dX4_rightsOf_41 (by decide) ?_
    refine aw_iret hX (Nat.le_refl _) (Nat.le_refl _) dX4_rightsOf_42 (hq _ _ ?_)
    first
      | (have e9 : mq_rightsOf S u o = mQ S 1 (0) := by (unfold mq_rightsOf; simp [mUO, show mUser (S.1 0) u = false from b6])
         rw [e9]
         exact ⟨rfl, hM⟩)
      | (have e9 : mq_rightsOf S u o = mQ S 1 (0) := by (unfold mq_rightsOf; simp [mUO, show mUser (S.1 0) u = true from b6, show mObj (S.1 0) o = false from b14])
         rw [e9]
         exact ⟨rfl, hM⟩)
      | (have e9 : mq_rightsOf S u (nI o) = mQ S 0 (mRights (S.1 0) u o) := by (unfold mq_rightsOf; simp [mUO, show mUser (S.1 0) u = true from b6, show mObj (S.1 0) (nI o) = true from b14, mN_i (show o < 2147483648 by omega)])
         rw [e9]
         exact ⟨rfl, hM⟩)
  · have b6 := bI_n0 c6
    try simp only [sV_1] at b6
    refine aw_ald0 hX dX4_rightsOf_9 ?_
    refine aw_ild2 hX dX4_rightsOf_10 ?_
    refine mm_call hX hM lk_X4_57 rfl (c_X4_isObject (fr := fr - 1) hM.1 (by omega) _) rfl rfl (Nat.le_of_ble_eq_true rfl) (by omega) (by decide) (Nat.le_refl _) (Nat.le_refl _) dX4_rightsOf_11 (fun hp hM => ?_)
    refine aw_if_eq hX (tgt := 21) dX4_rightsOf_14 (by decide) (fun c14 => ?_) (fun c14 => ?_)
    · have b14 := bI_0' c14
      try simp only [sV_1] at b14
      refine aw_iconst (v := 1) hX dX4_rightsOf_21 (by decide) ?_
      refine mm_put hX hM 1 fp_X4_39 (by decide) dX4_rightsOf_22 (fun hp hM => ?_)
      refine aw_ald0 hX dX4_rightsOf_25 ?_
      refine mm_get hX hM fg_X4_39 rfl dX4_rightsOf_26 ?_
      refine aw_if_ne hX (tgt := 41) dX4_rightsOf_29 (by decide) (fun _ => ?_) (fun c => absurd c (by first | (rw [sV_at]; done) | (rw [sV_at]; decide)))
      refine aw_iconst (v := 0) hX dX4_rightsOf_41 (by decide) ?_
      refine aw_iret hX (Nat.le_refl _) (Nat.le_refl _) dX4_rightsOf_42 (hq _ _ ?_)
      first
        | (have e9 : mq_rightsOf S u o = mQ S 1 (0) := by (unfold mq_rightsOf; simp [mUO, show mUser (S.1 0) u = false from b6])
           rw [e9]
           exact ⟨rfl, hM⟩)
        | (have e9 : mq_rightsOf S u o = mQ S 1 (0) := by (unfold mq_rightsOf; simp [mUO, show mUser (S.1 0) u = true from b6, show mObj (S.1 0) o = false from b14])
           rw [e9]
           exact ⟨rfl, hM⟩)
        | (have e9 : mq_rightsOf S u (nI o) = mQ S 0 (mRights (S.1 0) u o) := by (unfold mq_rightsOf; simp [mUO, show mUser (S.1 0) u = true from b6, show mObj (S.1 0) (nI o) = true from b14, mN_i (show o < 2147483648 by omega)])
           rw [e9]
           exact ⟨rfl, hM⟩)
    · have b14 := bI_n0 c14
      try simp only [sV_1] at b14
      refine aw_iconst (v := 0) hX dX4_rightsOf_17 (by decide) ?_
      refine aw_goto hX (tgt := 22) dX4_rightsOf_18 (by decide) ?_
      refine mm_put hX hM 1 fp_X4_39 (by decide) dX4_rightsOf_22 (fun hp hM => ?_)
      refine aw_ald0 hX dX4_rightsOf_25 ?_
      refine mm_get hX hM fg_X4_39 rfl dX4_rightsOf_26 ?_
      refine aw_if_ne hX (tgt := 41) dX4_rightsOf_29 (by decide) (fun c => absurd (by rw [sV_at]) c) (fun _ => ?_)
      obtain ⟨o, ho, rfl, ho1⟩ := mObj_of b14
      refine aw_ald0 hX dX4_rightsOf_32 ?_
      refine aw_ild1 hX dX4_rightsOf_33 ?_
      refine aw_ild2 hX dX4_rightsOf_34 ?_
      refine mm_call hX hM lk_X4_119 rfl (c_X4_rights (fr := fr - 1) hM.1 (by omega) ok u o ho ho1) rfl rfl (Nat.le_of_ble_eq_true rfl) (by omega) (by decide) (Nat.le_refl _) (Nat.le_refl _) dX4_rightsOf_35 (fun hp hM => ?_)
      refine aw_goto hX (tgt := 42) dX4_rightsOf_38 (by decide) ?_
      refine aw_iret hX (Nat.le_refl _) (Nat.le_refl _) dX4_rightsOf_42 (hq _ _ ?_)
      first
        | (have e9 : mq_rightsOf S u o = mQ S 1 (0) := by (unfold mq_rightsOf; simp [mUO, show mUser (S.1 0) u = false from b6])
           rw [e9]
           exact ⟨rfl, hM⟩)
        | (have e9 : mq_rightsOf S u o = mQ S 1 (0) := by (unfold mq_rightsOf; simp [mUO, show mUser (S.1 0) u = true from b6, show mObj (S.1 0) o = false from b14])
           rw [e9]
           exact ⟨rfl, hM⟩)
        | (have e9 : mq_rightsOf S u (nI o) = mQ S 0 (mRights (S.1 0) u o) := by (unfold mq_rightsOf; simp [mUO, show mUser (S.1 0) u = true from b6, show mObj (S.1 0) (nI o) = true from b14, mN_i (show o < 2147483648 by omega)])
           rw [e9]
           exact ⟨rfl, hM⟩)
set_option maxHeartbeats 4000000 in
set_option maxRecDepth 100000 in
theorem c_X4_usersWith {D : Gd} {fr : Nat} {m : Nat} {ad : Nat → Nat} {S : Ms} {h : Hm} (hM : MW m ad S h) (hf : 7 ≤ fr) (ok : mWf (S.1 0)) (o r : Int32) : MC D fr yX4_usersWith cX4_usersWith 5 (some .int) m ad h [.int o, .int r] (some (.int (mq_usersWith S o r).2.1)) ((mq_usersWith S o r).2.2) := by
  refine AM.of (lv := [some (.ref m), some (.int o), some (.int r), none, none]) (by decide +kernel) (Nat.le_of_ble_eq_true rfl) rfl (fun z hX hq _ => ?_)
  have hM := hM.rf
  refine aw_ald0 hX dX4_usersWith_0 ?_
  refine aw_ald0 hX dX4_usersWith_1 ?_
  refine aw_ild1 hX dX4_usersWith_2 ?_
  refine mm_call hX hM lk_X4_57 rfl (c_X4_isObject (fr := fr - 1) hM.1 (by omega) _) rfl rfl (Nat.le_of_ble_eq_true rfl) (by omega) (by decide) (Nat.le_refl _) (Nat.le_refl _) dX4_usersWith_3 (fun hp hM => ?_)
  refine aw_if_ne hX (tgt := 13) dX4_usersWith_6 (by decide) (fun c6 => ?_) (fun c6 => ?_)
  · have b6 := bI_n0 c6
    try simp only [sV_1] at b6
    refine aw_ild2 hX dX4_usersWith_13 ?_
    refine ss_call hX lk_X4_156 (c_X4_isRight (fr := fr - 1) (by omega) _) rfl rfl (Nat.le_of_ble_eq_true rfl) (by omega) (by decide) (Nat.le_refl _) (Nat.le_refl _) dX4_usersWith_14 ?_
    refine aw_if_eq hX (tgt := 24) dX4_usersWith_17 (by decide) (fun c17 => ?_) (fun c17 => ?_)
    · have b17 := bI_0' c17
      try simp only [sV_1] at b17
      refine aw_iconst (v := 2) hX dX4_usersWith_24 (by decide) ?_
      refine mm_put hX hM 1 fp_X4_39 (by decide) dX4_usersWith_25 (fun hp hM => ?_)
      refine aw_iconst (v := 0) hX dX4_usersWith_28 (by decide) ?_
      refine aw_ist3 hX dX4_usersWith_29 (by decide) rfl ?_
      refine aw_iconst (v := 0) hX dX4_usersWith_30 (by decide) ?_
      refine aw_ist4 hX dX4_usersWith_31 (by decide) rfl ?_
      obtain ⟨nu, -, hu2, eu⟩ := ok.u
      refine aw_ild4 hX dX4_usersWith_33 ?_
      refine aw_ald0 hX dX4_usersWith_35 ?_
      refine mm_get hX hM fg_X4_7 rfl dX4_usersWith_36 ?_
      refine aw_iconst (v := 0) hX dX4_usersWith_39 (by decide) ?_
      refine mm_ld hX hM (by decide) (0) (rfl) (by decide) dX4_usersWith_40 ?_
      rw [show (sV S 1 _).1 0 0 = nI nu from eu]
      refine aw_icmp_ge hX (tgt := 76) dX4_usersWith_41 (by decide) (fun c41 => ?_) (fun c41 => ?_)
      · refine aw_ild3 hX dX4_usersWith_76 ?_
        refine aw_iret hX (Nat.le_refl _) (Nat.le_refl _) dX4_usersWith_77 (hq _ _ ?_)
        first
          | (rw [show mq_usersWith S o r = mQ S 1 (0) from by unfold mq_usersWith; simp [show mObj (S.1 0) o = false from b6]]
             exact ⟨rfl, hM⟩)
          | (rw [show mq_usersWith S o r = mQ S 2 (0) from by unfold mq_usersWith; simp [show mObj (S.1 0) o = true from b6, of_decide_eq_false b17]]
             exact ⟨rfl, hM⟩)
          | (have hi9 : i = nu := Nat.le_antisymm hi (nle c41 (by omega) (by omega))
             subst hi9
             have e8 : mUses (S.1 0) o r (mN (S.1 0 0)) = cnt (fun k => mAllows (S.1 0) (nI k) o r) i := by rw [eu, mN_i (by omega)]; rfl
             rw [show mq_usersWith S (nI o) r = mQ S 0 (nI (mUses (S.1 0) o r (mN (S.1 0 0)))) from by unfold mq_usersWith; rw [if_pos b6, if_pos b17, mN_i (show o < 2147483648 by omega)], e8]
             exact ⟨rfl, hM⟩)
      · refine aw_ald0 hX dX4_usersWith_44 ?_
        refine mm_get hX hM fg_X4_39 rfl dX4_usersWith_45 ?_
        refine aw_if_ne hX (tgt := 76) dX4_usersWith_48 (by decide) (fun _ => ?_) (fun c => absurd c (by first | (rw [sV_at]; done) | (rw [sV_at]; decide)))
        refine aw_ild3 hX dX4_usersWith_76 ?_
        refine aw_iret hX (Nat.le_refl _) (Nat.le_refl _) dX4_usersWith_77 (hq _ _ ?_)
        first
          | (rw [show mq_usersWith S o r = mQ S 1 (0) from by unfold mq_usersWith; simp [show mObj (S.1 0) o = false from b6]]
             exact ⟨rfl, hM⟩)
          | (rw [show mq_usersWith S o r = mQ S 2 (0) from by unfold mq_usersWith; simp [show mObj (S.1 0) o = true from b6, of_decide_eq_false b17]]
             exact ⟨rfl, hM⟩)
          | (have hi9 : i = nu := Nat.le_antisymm hi (nle c41 (by omega) (by omega))
             subst hi9
             have e8 : mUses (S.1 0) o r (mN (S.1 0 0)) = cnt (fun k => mAllows (S.1 0) (nI k) o r) i := by rw [eu, mN_i (by omega)]; rfl
             rw [show mq_usersWith S (nI o) r = mQ S 0 (nI (mUses (S.1 0) o r (mN (S.1 0 0)))) from by unfold mq_usersWith; rw [if_pos b6, if_pos b17, mN_i (show o < 2147483648 by omega)], e8]
             exact ⟨rfl, hM⟩)
    · have b17 := bI_n0 c17
      try simp only [sV_1] at b17
      refine aw_iconst (v := 0) hX dX4_usersWith_20 (by decide) ?_
      refine aw_goto hX (tgt := 25) dX4_usersWith_21 (by decide) ?_
      refine mm_put hX hM 1 fp_X4_39 (by decide) dX4_usersWith_25 (fun hp hM => ?_)
      refine aw_iconst (v := 0) hX dX4_usersWith_28 (by decide) ?_
      refine aw_ist3 hX dX4_usersWith_29 (by decide) rfl ?_
      refine aw_iconst (v := 0) hX dX4_usersWith_30 (by decide) ?_
      refine aw_ist4 hX dX4_usersWith_31 (by decide) rfl ?_
      obtain ⟨o, ho, rfl, ho1⟩ := mObj_of b6
      obtain ⟨nu, -, hu2, eu⟩ := ok.u
      refine gdown (N := nu) (P := fun i => ∀ (h9 : Hm), MR m ad (sV S 1 0) h h9 → gW z 33 [some (.ref m), some (.int (nI o)), some (.int r), some (.int (nI (cnt (fun k => mAllows (S.1 0) (nI k) o r) i))), some (.int (nI i))] [] h9 0 0) (fun i hi ih h9 hM => ?_) 0 (Nat.zero_le _) _ hM
      refine aw_ild4 hX dX4_usersWith_33 ?_
      refine aw_ald0 hX dX4_usersWith_35 ?_
      refine mm_get hX hM fg_X4_7 rfl dX4_usersWith_36 ?_
      refine aw_iconst (v := 0) hX dX4_usersWith_39 (by decide) ?_
      refine mm_ld hX hM (by decide) (0) (rfl) (by decide) dX4_usersWith_40 ?_
      rw [show (sV S 1 _).1 0 0 = nI nu from eu]
      refine aw_icmp_ge hX (tgt := 76) dX4_usersWith_41 (by decide) (fun c41 => ?_) (fun c41 => ?_)
      · refine aw_ild3 hX dX4_usersWith_76 ?_
        refine aw_iret hX (Nat.le_refl _) (Nat.le_refl _) dX4_usersWith_77 (hq _ _ ?_)
        first
          | (rw [show mq_usersWith S o r = mQ S 1 (0) from by unfold mq_usersWith; simp [show mObj (S.1 0) o = false from b6]]
             exact ⟨rfl, hM⟩)
          | (rw [show mq_usersWith S o r = mQ S 2 (0) from by unfold mq_usersWith; simp [show mObj (S.1 0) o = true from b6, of_decide_eq_false b17]]
             exact ⟨rfl, hM⟩)
          | (have hi9 : i = nu := Nat.le_antisymm hi (nle c41 (by omega) (by omega))
             subst hi9
             have e8 : mUses (S.1 0) o r (mN (S.1 0 0)) = cnt (fun k => mAllows (S.1 0) (nI k) o r) i := by rw [eu, mN_i (by omega)]; rfl
             rw [show mq_usersWith S (nI o) r = mQ S 0 (nI (mUses (S.1 0) o r (mN (S.1 0 0)))) from by unfold mq_usersWith; rw [if_pos b6, if_pos b17, mN_i (show o < 2147483648 by omega)], e8]
             exact ⟨rfl, hM⟩)
      · have hlt := nnle c41 (by omega) (by omega)
        refine aw_ald0 hX dX4_usersWith_44 ?_
        refine mm_get hX hM fg_X4_39 rfl dX4_usersWith_45 ?_
        refine aw_if_ne hX (tgt := 76) dX4_usersWith_48 (by decide) (fun c => absurd (by rw [sV_at]) c) (fun _ => ?_)
        refine aw_ild3 hX dX4_usersWith_51 ?_
        refine aw_ald0 hX dX4_usersWith_52 ?_
        refine aw_ild4 hX dX4_usersWith_53 ?_
        refine aw_ild1 hX dX4_usersWith_55 ?_
        refine aw_ild2 hX dX4_usersWith_56 ?_
        refine mm_call hX hM lk_X4_150 rfl (c_X4_allows (fr := fr - 1) hM.1 (by omega) ok (nI i) r o ho ho1) rfl rfl (Nat.le_of_ble_eq_true rfl) (by omega) (by decide) (Nat.le_refl _) (Nat.le_refl _) dX4_usersWith_57 (fun hp hM => ?_)
        refine aw_if_eq hX (tgt := 67) dX4_usersWith_60 (by decide) (fun c60 => ?_) (fun c60 => ?_)
        · have b60 := bI_0' c60
          try simp only [sV_1] at b60
          refine aw_iconst (v := 0) hX dX4_usersWith_67 (by decide) ?_
          refine aw_iadd hX dX4_usersWith_68 ?_
          refine aw_ist3 hX dX4_usersWith_69 (by decide) rfl ?_
          refine aw_inc4 hX dX4_usersWith_70 (by decide) rfl ?_
          refine aw_goto hX (tgt := 33) dX4_usersWith_73 (by decide) ?_
          refine gW.to rfl ?_ rfl rfl (ih hlt _ hM)
          first | rw [cnt_t (f := fun k => mAllows (S.1 0) (nI k) o r) b60] | rw [cnt_f (f := fun k => mAllows (S.1 0) (nI k) o r) b60]
        · have b60 := bI_n0 c60
          try simp only [sV_1] at b60
          refine aw_iconst (v := 1) hX dX4_usersWith_63 (by decide) ?_
          refine aw_goto hX (tgt := 68) dX4_usersWith_64 (by decide) ?_
          refine aw_iadd hX dX4_usersWith_68 ?_
          refine aw_ist3 hX dX4_usersWith_69 (by decide) rfl ?_
          refine aw_inc4 hX dX4_usersWith_70 (by decide) rfl ?_
          refine aw_goto hX (tgt := 33) dX4_usersWith_73 (by decide) ?_
          refine gW.to rfl ?_ rfl rfl (ih hlt _ hM)
          first | rw [cnt_t (f := fun k => mAllows (S.1 0) (nI k) o r) b60] | rw [cnt_f (f := fun k => mAllows (S.1 0) (nI k) o r) b60]
  · have b6 := bI_0' c6
    try simp only [sV_1] at b6
    refine aw_iconst (v := 1) hX dX4_usersWith_9 (by decide) ?_
    refine aw_goto hX (tgt := 25) dX4_usersWith_10 (by decide) ?_
    refine mm_put hX hM 1 fp_X4_39 (by decide) dX4_usersWith_25 (fun hp hM => ?_)
    refine aw_iconst (v := 0) hX dX4_usersWith_28 (by decide) ?_
    refine aw_ist3 hX dX4_usersWith_29 (by decide) rfl ?_
    refine aw_iconst (v := 0) hX dX4_usersWith_30 (by decide) ?_
    refine aw_ist4 hX dX4_usersWith_31 (by decide) rfl ?_
    obtain ⟨nu, -, hu2, eu⟩ := ok.u
    refine aw_ild4 hX dX4_usersWith_33 ?_
    refine aw_ald0 hX dX4_usersWith_35 ?_
    refine mm_get hX hM fg_X4_7 rfl dX4_usersWith_36 ?_
    refine aw_iconst (v := 0) hX dX4_usersWith_39 (by decide) ?_
    refine mm_ld hX hM (by decide) (0) (rfl) (by decide) dX4_usersWith_40 ?_
    rw [show (sV S 1 _).1 0 0 = nI nu from eu]
    refine aw_icmp_ge hX (tgt := 76) dX4_usersWith_41 (by decide) (fun c41 => ?_) (fun c41 => ?_)
    · refine aw_ild3 hX dX4_usersWith_76 ?_
      refine aw_iret hX (Nat.le_refl _) (Nat.le_refl _) dX4_usersWith_77 (hq _ _ ?_)
      first
        | (rw [show mq_usersWith S o r = mQ S 1 (0) from by unfold mq_usersWith; simp [show mObj (S.1 0) o = false from b6]]
           exact ⟨rfl, hM⟩)
        | (rw [show mq_usersWith S o r = mQ S 2 (0) from by unfold mq_usersWith; simp [show mObj (S.1 0) o = true from b6, of_decide_eq_false b17]]
           exact ⟨rfl, hM⟩)
        | (have hi9 : i = nu := Nat.le_antisymm hi (nle c41 (by omega) (by omega))
           subst hi9
           have e8 : mUses (S.1 0) o r (mN (S.1 0 0)) = cnt (fun k => mAllows (S.1 0) (nI k) o r) i := by rw [eu, mN_i (by omega)]; rfl
           rw [show mq_usersWith S (nI o) r = mQ S 0 (nI (mUses (S.1 0) o r (mN (S.1 0 0)))) from by unfold mq_usersWith; rw [if_pos b6, if_pos b17, mN_i (show o < 2147483648 by omega)], e8]
           exact ⟨rfl, hM⟩)
    · refine aw_ald0 hX dX4_usersWith_44 ?_
      refine mm_get hX hM fg_X4_39 rfl dX4_usersWith_45 ?_
      refine aw_if_ne hX (tgt := 76) dX4_usersWith_48 (by decide) (fun _ => ?_) (fun c => absurd c (by first | (rw [sV_at]; done) | (rw [sV_at]; decide)))
      refine aw_ild3 hX dX4_usersWith_76 ?_
      refine aw_iret hX (Nat.le_refl _) (Nat.le_refl _) dX4_usersWith_77 (hq _ _ ?_)
      first
        | (rw [show mq_usersWith S o r = mQ S 1 (0) from by unfold mq_usersWith; simp [show mObj (S.1 0) o = false from b6]]
           exact ⟨rfl, hM⟩)
        | (rw [show mq_usersWith S o r = mQ S 2 (0) from by unfold mq_usersWith; simp [show mObj (S.1 0) o = true from b6, of_decide_eq_false b17]]
           exact ⟨rfl, hM⟩)
        | (have hi9 : i = nu := Nat.le_antisymm hi (nle c41 (by omega) (by omega))
           subst hi9
           have e8 : mUses (S.1 0) o r (mN (S.1 0 0)) = cnt (fun k => mAllows (S.1 0) (nI k) o r) i := by rw [eu, mN_i (by omega)]; rfl
           rw [show mq_usersWith S (nI o) r = mQ S 0 (nI (mUses (S.1 0) o r (mN (S.1 0 0)))) from by unfold mq_usersWith; rw [if_pos b6, if_pos b17, mN_i (show o < 2147483648 by omega)], e8]
           exact ⟨rfl, hM⟩)
set_option maxHeartbeats 4000000 in
set_option maxRecDepth 100000 in
theorem c_X4_isThrough {D : Gd} {fr : Nat} {m : Nat} {ad : Nat → Nat} {S : Ms} {h : Hm} (hM : MW m ad S h) (hf : 7 ≤ fr) (ok : mWf (S.1 0))(u r g : Int32) (o : Nat) (ho : o < 20) (ho1 : S.1 0 (mO o 0) = 1) : MC D fr yX4_isThrough cX4_isThrough 8 (some .boolean) m ad h [.int u, .int (nI o), .int r, .int g] (some (.int (bI (mThr (S.1 0) u o r g)))) (S) := by
  refine AM.of (lv := [some (.ref m), some (.int u), some (.int (nI o)), some (.int r), some (.int g), none, none, none]) (by decide +kernel) (Nat.le_of_ble_eq_true rfl) rfl (fun z hX hq _ => ?_)
  have hM := hM.rf
  refine aw_ald0 hX dX4_isThrough_0 ?_
  refine aw_ild1 hX dX4_isThrough_1 ?_
  refine aw_ild2 hX dX4_isThrough_2 ?_
  refine aw_ild3 hX dX4_isThrough_3 ?_
  refine mm_call hX hM lk_X4_150 rfl (c_X4_allows (fr := fr - 1) hM.1 (by omega) ok u r o ho ho1) rfl rfl (Nat.le_of_ble_eq_true rfl) (by omega) (by decide) (Nat.le_refl _) (Nat.le_refl _) dX4_isThrough_4 (fun hp hM => ?_)
  refine aw_if_eq hX (tgt := 20) dX4_isThrough_7 (by decide) (fun c7 => ?_) (fun c7 => ?_)
  · have b7 := bI_0' c7
    refine aw_iconst (v := -1) hX dX4_isThrough_20 (by decide) ?_
    refine aw_ist5 hX dX4_isThrough_21 (by decide) rfl ?_
    refine aw_ild5 hX dX4_isThrough_23 ?_
    refine aw_if_ge hX (tgt := 30) dX4_isThrough_25 (by decide) (fun c => absurd c (by decide)) (fun _ => ?_)
    refine aw_iconst (v := 0) hX dX4_isThrough_28 (by decide) ?_
    refine aw_zret hX (by first | rfl | exact bI_n _ | (split <;> rfl)) (Nat.le_refl _) (Nat.le_refl _) dX4_isThrough_29 (hq _ _ ?_)
    refine ⟨?_, hM⟩
    first
      | exact rv0 (by unfold mThr; rw [b7]; rfl)
      | exact rv0 (by unfold mThr; rw [mDec_no ok ho ho1 (Int32.not_le.mp c25)]; simp)
  · have b7 := bI_n0 c7
    refine aw_ald0 hX dX4_isThrough_10 ?_
    refine aw_ild1 hX dX4_isThrough_11 ?_
    refine aw_ild2 hX dX4_isThrough_12 ?_
    refine aw_ild3 hX dX4_isThrough_13 ?_
    refine mm_call hX hM lk_X4_144 rfl (c_X4_decides (fr := fr - 1) hM.1 (by omega) ok u r o ho ho1) rfl rfl (Nat.le_of_ble_eq_true rfl) (by omega) (by decide) (Nat.le_refl _) (Nat.le_refl _) dX4_isThrough_14 (fun hp hM => ?_)
    refine aw_goto hX (tgt := 21) dX4_isThrough_17 (by decide) ?_
    refine aw_ist5 hX dX4_isThrough_21 (by decide) rfl ?_
    refine aw_ild5 hX dX4_isThrough_23 ?_
    refine aw_if_ge hX (tgt := 30) dX4_isThrough_25 (by decide) (fun c25 => ?_) (fun c25 => ?_)
    · obtain ⟨l, e, hde, hl, he, hd9⟩ := mDec_ex ok ho ho1 (Int32.not_lt.mpr c25)
      rw [hd9]
      refine aw_ild5 hX dX4_isThrough_30 ?_
      refine aw_bipush (v := 6) hX dX4_isThrough_32 (by decide) ?_
      refine aw_idiv hX dX4_isThrough_34 (by decide) ?_
      rw [dec_div hl he]
      refine aw_ist6 hX dX4_isThrough_35 (by decide) rfl ?_
      refine aw_ild5 hX dX4_isThrough_37 ?_
      refine aw_bipush (v := 6) hX dX4_isThrough_39 (by decide) ?_
      refine aw_irem hX dX4_isThrough_41 (by decide) ?_
      rw [dec_rem hl he]
      refine aw_ist7 hX dX4_isThrough_42 (by decide) rfl ?_
      refine aw_ald0 hX dX4_isThrough_44 ?_
      refine aw_ild6 hX dX4_isThrough_45 ?_
      refine aw_ild7 hX dX4_isThrough_47 ?_
      refine aw_iconst (v := 3) hX dX4_isThrough_49 (by decide) ?_
      refine mm_call hX hM lk_X4_122 rfl (c_X4_ofEntry (fr := fr - 1) hM.1 (by omega) l e 3 hl he (by decide)) rfl rfl (Nat.le_of_ble_eq_true rfl) (by omega) (by decide) (Nat.le_refl _) (Nat.le_refl _) dX4_isThrough_50 (fun hp hM => ?_)
      refine aw_iconst (v := 1) hX dX4_isThrough_53 (by decide) ?_
      refine aw_icmp_ne hX (tgt := 88) dX4_isThrough_54 (by decide) (fun c54 => ?_) (fun c54 => ?_)
      · refine aw_iconst (v := 0) hX dX4_isThrough_88 (by decide) ?_
        refine aw_zret hX (by first | rfl | exact bI_n _ | (split <;> rfl)) (Nat.le_refl _) (Nat.le_refl _) dX4_isThrough_89 (hq _ _ ?_)
        refine ⟨?_, hM⟩
        first
          | exact rv1 (by unfold mThr; rw [b7, hde]; simp only [decide_eq_true c54, decide_eq_true c67, decide_eq_true c81]; rfl)
          | exact rv0 (by unfold mThr; rw [hde]; dsimp only; rw [decide_eq_false c81]; simp)
          | exact rv0 (by unfold mThr; rw [hde]; dsimp only; rw [decide_eq_false c67]; simp)
          | exact rv0 (by unfold mThr; rw [hde]; dsimp only; rw [decide_eq_false c54]; simp)
      · refine aw_ald0 hX dX4_isThrough_57 ?_
        refine aw_ild6 hX dX4_isThrough_58 ?_
        refine aw_ild7 hX dX4_isThrough_60 ?_
        refine aw_iconst (v := 0) hX dX4_isThrough_62 (by decide) ?_
        refine mm_call hX hM lk_X4_122 rfl (c_X4_ofEntry (fr := fr - 1) hM.1 (by omega) l e 0 hl he (by decide)) rfl rfl (Nat.le_of_ble_eq_true rfl) (by omega) (by decide) (Nat.le_refl _) (Nat.le_refl _) dX4_isThrough_63 (fun hp hM => ?_)
        refine aw_iconst (v := 1) hX dX4_isThrough_66 (by decide) ?_
        refine aw_icmp_ne hX (tgt := 88) dX4_isThrough_67 (by decide) (fun c67 => ?_) (fun c67 => ?_)
        · refine aw_iconst (v := 0) hX dX4_isThrough_88 (by decide) ?_
          refine aw_zret hX (by first | rfl | exact bI_n _ | (split <;> rfl)) (Nat.le_refl _) (Nat.le_refl _) dX4_isThrough_89 (hq _ _ ?_)
          refine ⟨?_, hM⟩
          first
            | exact rv1 (by unfold mThr; rw [b7, hde]; simp only [decide_eq_true c54, decide_eq_true c67, decide_eq_true c81]; rfl)
            | exact rv0 (by unfold mThr; rw [hde]; dsimp only; rw [decide_eq_false c81]; simp)
            | exact rv0 (by unfold mThr; rw [hde]; dsimp only; rw [decide_eq_false c67]; simp)
            | exact rv0 (by unfold mThr; rw [hde]; dsimp only; rw [decide_eq_false c54]; simp)
        · refine aw_ald0 hX dX4_isThrough_70 ?_
          refine aw_ild6 hX dX4_isThrough_71 ?_
          refine aw_ild7 hX dX4_isThrough_73 ?_
          refine aw_iconst (v := 1) hX dX4_isThrough_75 (by decide) ?_
          refine mm_call hX hM lk_X4_122 rfl (c_X4_ofEntry (fr := fr - 1) hM.1 (by omega) l e 1 hl he (by decide)) rfl rfl (Nat.le_of_ble_eq_true rfl) (by omega) (by decide) (Nat.le_refl _) (Nat.le_refl _) dX4_isThrough_76 (fun hp hM => ?_)
          refine aw_ild4 hX dX4_isThrough_79 ?_
          refine aw_icmp_ne hX (tgt := 88) dX4_isThrough_81 (by decide) (fun c81 => ?_) (fun c81 => ?_)
          · refine aw_iconst (v := 0) hX dX4_isThrough_88 (by decide) ?_
            refine aw_zret hX (by first | rfl | exact bI_n _ | (split <;> rfl)) (Nat.le_refl _) (Nat.le_refl _) dX4_isThrough_89 (hq _ _ ?_)
            refine ⟨?_, hM⟩
            first
              | exact rv1 (by unfold mThr; rw [b7, hde]; simp only [decide_eq_true c54, decide_eq_true c67, decide_eq_true c81]; rfl)
              | exact rv0 (by unfold mThr; rw [hde]; dsimp only; rw [decide_eq_false c81]; simp)
              | exact rv0 (by unfold mThr; rw [hde]; dsimp only; rw [decide_eq_false c67]; simp)
              | exact rv0 (by unfold mThr; rw [hde]; dsimp only; rw [decide_eq_false c54]; simp)
          · refine aw_iconst (v := 1) hX dX4_isThrough_84 (by decide) ?_
            refine aw_goto hX (tgt := 89) dX4_isThrough_85 (by decide) ?_
            refine aw_zret hX (by first | rfl | exact bI_n _ | (split <;> rfl)) (Nat.le_refl _) (Nat.le_refl _) dX4_isThrough_89 (hq _ _ ?_)
            refine ⟨?_, hM⟩
            first
              | exact rv1 (by unfold mThr; rw [b7, hde]; simp only [decide_eq_true c54, decide_eq_true c67, decide_eq_true c81]; rfl)
              | exact rv0 (by unfold mThr; rw [hde]; dsimp only; rw [decide_eq_false c81]; simp)
              | exact rv0 (by unfold mThr; rw [hde]; dsimp only; rw [decide_eq_false c67]; simp)
              | exact rv0 (by unfold mThr; rw [hde]; dsimp only; rw [decide_eq_false c54]; simp)
    · refine aw_iconst (v := 0) hX dX4_isThrough_28 (by decide) ?_
      refine aw_zret hX (by first | rfl | exact bI_n _ | (split <;> rfl)) (Nat.le_refl _) (Nat.le_refl _) dX4_isThrough_29 (hq _ _ ?_)
      refine ⟨?_, hM⟩
      first
        | exact rv0 (by unfold mThr; rw [b7]; rfl)
        | exact rv0 (by unfold mThr; rw [mDec_no ok ho ho1 (Int32.not_le.mp c25)]; simp)
set_option maxHeartbeats 4000000 in
set_option maxRecDepth 100000 in
theorem c_X4_rightsThrough {D : Gd} {fr : Nat} {m : Nat} {ad : Nat → Nat} {S : Ms} {h : Hm} (hM : MW m ad S h) (hf : 8 ≤ fr) (ok : mWf (S.1 0)) (u g : Int32) : MC D fr yX4_rightsThrough cX4_rightsThrough 5 (some .int) m ad h [.int u, .int g] (some (.int (mq_rightsThrough S u g).2.1)) ((mq_rightsThrough S u g).2.2) := by
  refine AM.of (lv := [some (.ref m), some (.int u), some (.int g), none, none]) (by decide +kernel) (Nat.le_of_ble_eq_true rfl) rfl (fun z hX hq _ => ?_)
  have hM := hM.rf
  refine aw_ald0 hX dX4_rightsThrough_0 ?_
  refine aw_ald0 hX dX4_rightsThrough_1 ?_
  refine aw_ild1 hX dX4_rightsThrough_2 ?_
  refine mm_call hX hM lk_X4_82 rfl (c_X4_isUser (fr := fr - 1) hM.1 (by omega) _) rfl rfl (Nat.le_of_ble_eq_true rfl) (by omega) (by decide) (Nat.le_refl _) (Nat.le_refl _) dX4_rightsThrough_3 (fun hp hM => ?_)
  refine aw_if_eq hX (tgt := 21) dX4_rightsThrough_6 (by decide) (fun c6 => ?_) (fun c6 => ?_)
  · have b6 := bI_0' c6
    try simp only [sV_1] at b6
    refine aw_iconst (v := 1) hX dX4_rightsThrough_21 (by decide) ?_
    refine mm_put hX hM 1 fp_X4_39 (by decide) dX4_rightsThrough_22 (fun hp hM => ?_)
    refine aw_iconst (v := 0) hX dX4_rightsThrough_25 (by decide) ?_
    refine aw_ist3 hX dX4_rightsThrough_26 (by decide) rfl ?_
    refine aw_iconst (v := 0) hX dX4_rightsThrough_27 (by decide) ?_
    refine aw_ist4 hX dX4_rightsThrough_28 (by decide) rfl ?_
    refine aw_ild4 hX dX4_rightsThrough_30 ?_
    refine aw_bipush (v := 80) hX dX4_rightsThrough_32 (by decide) ?_
    refine aw_icmp_ge hX (tgt := 86) dX4_rightsThrough_34 (by decide) (fun c => absurd c (by decide)) (fun _ => ?_)
    refine aw_ald0 hX dX4_rightsThrough_37 ?_
    refine mm_get hX hM fg_X4_39 rfl dX4_rightsThrough_38 ?_
    refine aw_if_ne hX (tgt := 86) dX4_rightsThrough_41 (by decide) (fun _ => ?_) (fun c => absurd c (by first | (rw [sV_at]; done) | (rw [sV_at]; decide)))
    refine aw_ild3 hX dX4_rightsThrough_86 ?_
    refine aw_iret hX (Nat.le_refl _) (Nat.le_refl _) dX4_rightsThrough_87 (hq _ _ ?_)
    first
      | (have e9 : mq_rightsThrough S u g = mQ S 1 0 := by (unfold mq_rightsThrough; simp [mUG, show mUser (S.1 0) u = false from b6])
         rw [e9]
         exact ⟨rfl, hM⟩)
      | (have e9 : mq_rightsThrough S u g = mQ S 1 0 := by (unfold mq_rightsThrough; simp [mUG, show mUser (S.1 0) u = true from b6, show mGroup (S.1 0) g = false from b14])
         rw [e9]
         exact ⟨rfl, hM⟩)
      | (have hi9 : i = 80 := Nat.le_antisymm hi (nle (a := 80) c34 (by omega) (by omega))
         subst hi9
         rw [show mq_rightsThrough S u g = mQ S 0 (nI (mRT (S.1 0) u g 80)) from by unfold mq_rightsThrough; simp [mUG, show mUser (S.1 0) u = true from b6, show mGroup (S.1 0) g = true from b14]]
         exact ⟨rfl, hM⟩)
  · have b6 := bI_n0 c6
    try simp only [sV_1] at b6
    refine aw_ald0 hX dX4_rightsThrough_9 ?_
    refine aw_ild2 hX dX4_rightsThrough_10 ?_
    refine mm_call hX hM lk_X4_85 rfl (c_X4_isGroup (fr := fr - 1) hM.1 (by omega) _) rfl rfl (Nat.le_of_ble_eq_true rfl) (by omega) (by decide) (Nat.le_refl _) (Nat.le_refl _) dX4_rightsThrough_11 (fun hp hM => ?_)
    refine aw_if_eq hX (tgt := 21) dX4_rightsThrough_14 (by decide) (fun c14 => ?_) (fun c14 => ?_)
    · have b14 := bI_0' c14
      try simp only [sV_1] at b14
      refine aw_iconst (v := 1) hX dX4_rightsThrough_21 (by decide) ?_
      refine mm_put hX hM 1 fp_X4_39 (by decide) dX4_rightsThrough_22 (fun hp hM => ?_)
      refine aw_iconst (v := 0) hX dX4_rightsThrough_25 (by decide) ?_
      refine aw_ist3 hX dX4_rightsThrough_26 (by decide) rfl ?_
      refine aw_iconst (v := 0) hX dX4_rightsThrough_27 (by decide) ?_
      refine aw_ist4 hX dX4_rightsThrough_28 (by decide) rfl ?_
      refine aw_ild4 hX dX4_rightsThrough_30 ?_
      refine aw_bipush (v := 80) hX dX4_rightsThrough_32 (by decide) ?_
      refine aw_icmp_ge hX (tgt := 86) dX4_rightsThrough_34 (by decide) (fun c => absurd c (by decide)) (fun _ => ?_)
      refine aw_ald0 hX dX4_rightsThrough_37 ?_
      refine mm_get hX hM fg_X4_39 rfl dX4_rightsThrough_38 ?_
      refine aw_if_ne hX (tgt := 86) dX4_rightsThrough_41 (by decide) (fun _ => ?_) (fun c => absurd c (by first | (rw [sV_at]; done) | (rw [sV_at]; decide)))
      refine aw_ild3 hX dX4_rightsThrough_86 ?_
      refine aw_iret hX (Nat.le_refl _) (Nat.le_refl _) dX4_rightsThrough_87 (hq _ _ ?_)
      first
        | (have e9 : mq_rightsThrough S u g = mQ S 1 0 := by (unfold mq_rightsThrough; simp [mUG, show mUser (S.1 0) u = false from b6])
           rw [e9]
           exact ⟨rfl, hM⟩)
        | (have e9 : mq_rightsThrough S u g = mQ S 1 0 := by (unfold mq_rightsThrough; simp [mUG, show mUser (S.1 0) u = true from b6, show mGroup (S.1 0) g = false from b14])
           rw [e9]
           exact ⟨rfl, hM⟩)
        | (have hi9 : i = 80 := Nat.le_antisymm hi (nle (a := 80) c34 (by omega) (by omega))
           subst hi9
           rw [show mq_rightsThrough S u g = mQ S 0 (nI (mRT (S.1 0) u g 80)) from by unfold mq_rightsThrough; simp [mUG, show mUser (S.1 0) u = true from b6, show mGroup (S.1 0) g = true from b14]]
           exact ⟨rfl, hM⟩)
    · have b14 := bI_n0 c14
      try simp only [sV_1] at b14
      refine aw_iconst (v := 0) hX dX4_rightsThrough_17 (by decide) ?_
      refine aw_goto hX (tgt := 22) dX4_rightsThrough_18 (by decide) ?_
      refine mm_put hX hM 1 fp_X4_39 (by decide) dX4_rightsThrough_22 (fun hp hM => ?_)
      refine aw_iconst (v := 0) hX dX4_rightsThrough_25 (by decide) ?_
      refine aw_ist3 hX dX4_rightsThrough_26 (by decide) rfl ?_
      refine aw_iconst (v := 0) hX dX4_rightsThrough_27 (by decide) ?_
      refine aw_ist4 hX dX4_rightsThrough_28 (by decide) rfl ?_
      refine gdown (N := 80) (P := fun i => ∀ (h9 : Hm), MR m ad (sV S 1 0) h h9 → gW z 30 [some (.ref m), some (.int u), some (.int g), some (.int (nI (cnt (fun i => mObj (S.1 0) (nI (i / 4)) && mThr (S.1 0) u (i / 4) (nI (i % 4)) g) i))), some (.int (nI i))] [] h9 0 0) (fun i hi ih h9 hM => ?_) 0 (Nat.zero_le _) _ hM
      refine aw_ild4 hX dX4_rightsThrough_30 ?_
      refine aw_bipush (v := 80) hX dX4_rightsThrough_32 (by decide) ?_
      refine aw_icmp_ge hX (tgt := 86) dX4_rightsThrough_34 (by decide) (fun c34 => ?_) (fun c34 => ?_)
      · refine aw_ild3 hX dX4_rightsThrough_86 ?_
        refine aw_iret hX (Nat.le_refl _) (Nat.le_refl _) dX4_rightsThrough_87 (hq _ _ ?_)
        first
          | (have e9 : mq_rightsThrough S u g = mQ S 1 0 := by (unfold mq_rightsThrough; simp [mUG, show mUser (S.1 0) u = false from b6])
             rw [e9]
             exact ⟨rfl, hM⟩)
          | (have e9 : mq_rightsThrough S u g = mQ S 1 0 := by (unfold mq_rightsThrough; simp [mUG, show mUser (S.1 0) u = true from b6, show mGroup (S.1 0) g = false from b14])
             rw [e9]
             exact ⟨rfl, hM⟩)
          | (have hi9 : i = 80 := Nat.le_antisymm hi (nle (a := 80) c34 (by omega) (by omega))
             subst hi9
             rw [show mq_rightsThrough S u g = mQ S 0 (nI (mRT (S.1 0) u g 80)) from by unfold mq_rightsThrough; simp [mUG, show mUser (S.1 0) u = true from b6, show mGroup (S.1 0) g = true from b14]]
             exact ⟨rfl, hM⟩)
      · have hlt := nnle (a := 80) c34 (by omega) (by omega)
        refine aw_ald0 hX dX4_rightsThrough_37 ?_
        refine mm_get hX hM fg_X4_39 rfl dX4_rightsThrough_38 ?_
        refine aw_if_ne hX (tgt := 86) dX4_rightsThrough_41 (by decide) (fun c => absurd (by rw [sV_at]) c) (fun _ => ?_)
        refine aw_ild3 hX dX4_rightsThrough_44 ?_
        refine aw_ald0 hX dX4_rightsThrough_45 ?_
        refine aw_ild4 hX dX4_rightsThrough_46 ?_
        refine aw_iconst (v := 4) hX dX4_rightsThrough_48 (by decide) ?_
        refine aw_idiv hX dX4_rightsThrough_49 (by decide) ?_
        rw [d4 hlt]
        refine mm_call hX hM lk_X4_57 rfl (c_X4_isObject (fr := fr - 1) hM.1 (by omega) (nI (i / 4))) rfl rfl (Nat.le_of_ble_eq_true rfl) (by omega) (by decide) (Nat.le_refl _) (Nat.le_refl _) dX4_rightsThrough_50 (fun hp hM => ?_)
        refine aw_if_eq hX (tgt := 77) dX4_rightsThrough_53 (by decide) (fun c53 => ?_) (fun c53 => ?_)
        · have b53 := bI_0' c53
          try simp only [sV_1] at b53
          refine aw_iconst (v := 0) hX dX4_rightsThrough_77 (by decide) ?_
          refine aw_iadd hX dX4_rightsThrough_78 ?_
          refine aw_ist3 hX dX4_rightsThrough_79 (by decide) rfl ?_
          refine aw_inc4 hX dX4_rightsThrough_80 (by decide) rfl ?_
          refine aw_goto hX (tgt := 30) dX4_rightsThrough_83 (by decide) ?_
          refine gW.to rfl ?_ rfl rfl (ih hlt _ hM)
          first | rw [cnt_t (f := (fun i => mObj (S.1 0) (nI (i / 4)) && mThr (S.1 0) u (i / 4) (nI (i % 4)) g)) (by show (mObj (S.1 0) _ && mThr (S.1 0) u _ _ g) = true; rw [b53, b70]; rfl)] | rw [cnt_f (f := (fun i => mObj (S.1 0) (nI (i / 4)) && mThr (S.1 0) u (i / 4) (nI (i % 4)) g)) (by show (mObj (S.1 0) _ && mThr (S.1 0) u _ _ g) = false; rw [b53, b70]; rfl)] | rw [cnt_f (f := (fun i => mObj (S.1 0) (nI (i / 4)) && mThr (S.1 0) u (i / 4) (nI (i % 4)) g)) (by show (mObj (S.1 0) _ && mThr (S.1 0) u _ _ g) = false; rw [b53]; rfl)]
        · have b53 := bI_n0 c53
          try simp only [sV_1] at b53
          refine aw_ald0 hX dX4_rightsThrough_56 ?_
          refine aw_ild1 hX dX4_rightsThrough_57 ?_
          refine aw_ild4 hX dX4_rightsThrough_58 ?_
          refine aw_iconst (v := 4) hX dX4_rightsThrough_60 (by decide) ?_
          refine aw_idiv hX dX4_rightsThrough_61 (by decide) ?_
          refine aw_ild4 hX dX4_rightsThrough_62 ?_
          refine aw_iconst (v := 4) hX dX4_rightsThrough_64 (by decide) ?_
          refine aw_irem hX dX4_rightsThrough_65 (by decide) ?_
          refine aw_ild2 hX dX4_rightsThrough_66 ?_
          rw [r4 hlt, d4 hlt]
          refine mm_call hX hM lk_X4_224 rfl (c_X4_isThrough (fr := fr - 1) hM.1 (by omega) ok u (nI (i % 4)) g (i / 4) (by omega) (mObj_th (by omega) b53)) rfl rfl (Nat.le_of_ble_eq_true rfl) (by omega) (by decide) (Nat.le_refl _) (Nat.le_refl _) dX4_rightsThrough_67 (fun hp hM => ?_)
          refine aw_if_eq hX (tgt := 77) dX4_rightsThrough_70 (by decide) (fun c70 => ?_) (fun c70 => ?_)
          · have b70 := bI_0' c70
            try simp only [sV_1] at b70
            refine aw_iconst (v := 0) hX dX4_rightsThrough_77 (by decide) ?_
            refine aw_iadd hX dX4_rightsThrough_78 ?_
            refine aw_ist3 hX dX4_rightsThrough_79 (by decide) rfl ?_
            refine aw_inc4 hX dX4_rightsThrough_80 (by decide) rfl ?_
            refine aw_goto hX (tgt := 30) dX4_rightsThrough_83 (by decide) ?_
            refine gW.to rfl ?_ rfl rfl (ih hlt _ hM)
            first | rw [cnt_t (f := (fun i => mObj (S.1 0) (nI (i / 4)) && mThr (S.1 0) u (i / 4) (nI (i % 4)) g)) (by show (mObj (S.1 0) _ && mThr (S.1 0) u _ _ g) = true; rw [b53, b70]; rfl)] | rw [cnt_f (f := (fun i => mObj (S.1 0) (nI (i / 4)) && mThr (S.1 0) u (i / 4) (nI (i % 4)) g)) (by show (mObj (S.1 0) _ && mThr (S.1 0) u _ _ g) = false; rw [b53, b70]; rfl)] | rw [cnt_f (f := (fun i => mObj (S.1 0) (nI (i / 4)) && mThr (S.1 0) u (i / 4) (nI (i % 4)) g)) (by show (mObj (S.1 0) _ && mThr (S.1 0) u _ _ g) = false; rw [b53]; rfl)]
          · have b70 := bI_n0 c70
            try simp only [sV_1] at b70
            refine aw_iconst (v := 1) hX dX4_rightsThrough_73 (by decide) ?_
            refine aw_goto hX (tgt := 78) dX4_rightsThrough_74 (by decide) ?_
            refine aw_iadd hX dX4_rightsThrough_78 ?_
            refine aw_ist3 hX dX4_rightsThrough_79 (by decide) rfl ?_
            refine aw_inc4 hX dX4_rightsThrough_80 (by decide) rfl ?_
            refine aw_goto hX (tgt := 30) dX4_rightsThrough_83 (by decide) ?_
            refine gW.to rfl ?_ rfl rfl (ih hlt _ hM)
            first | rw [cnt_t (f := (fun i => mObj (S.1 0) (nI (i / 4)) && mThr (S.1 0) u (i / 4) (nI (i % 4)) g)) (by show (mObj (S.1 0) _ && mThr (S.1 0) u _ _ g) = true; rw [b53, b70]; rfl)] | rw [cnt_f (f := (fun i => mObj (S.1 0) (nI (i / 4)) && mThr (S.1 0) u (i / 4) (nI (i % 4)) g)) (by show (mObj (S.1 0) _ && mThr (S.1 0) u _ _ g) = false; rw [b53, b70]; rfl)] | rw [cnt_f (f := (fun i => mObj (S.1 0) (nI (i / 4)) && mThr (S.1 0) u (i / 4) (nI (i % 4)) g)) (by show (mObj (S.1 0) _ && mThr (S.1 0) u _ _ g) = false; rw [b53]; rfl)]
set_option maxHeartbeats 4000000 in
set_option maxRecDepth 100000 in
theorem c_X4_allRights {D : Gd} {fr : Nat} {m : Nat} {ad : Nat → Nat} {S : Ms} {h : Hm} (hM : MW m ad S h) (hf : 9 ≤ fr) (ok : mWf (S.1 0))  : MC D fr yX4_allRights cX4_allRights 1 (some .int) m ad h [] (some (.int (mQ S 0 (mEv (S.1 0) (mN (S.1 0 0)))).2.1)) ((mQ S 0 (mEv (S.1 0) (mN (S.1 0 0)))).2.2) := by
  refine AM.of (lv := [some (.ref m)]) (by decide +kernel) (Nat.le_of_ble_eq_true rfl) rfl (fun z hX hq _ => ?_)
  have hM := hM.rf
  refine aw_ald0 hX dX4_allRights_0 ?_
  refine aw_iconst (v := 0) hX dX4_allRights_1 (by decide) ?_
  refine mm_put hX hM 1 fp_X4_39 (by decide) dX4_allRights_2 (fun hp hM => ?_)
  refine aw_ald0 hX dX4_allRights_5 ?_
  refine mm_call hX hM lk_X4_227 rfl (c_X4_everything (fr := fr - 1) hM.1 (by omega) ok) rfl rfl (Nat.le_of_ble_eq_true rfl) (by omega) (by decide) (Nat.le_refl _) (Nat.le_refl _) dX4_allRights_6 (fun hp hM => ?_)
  refine aw_iret hX (Nat.le_refl _) (Nat.le_refl _) dX4_allRights_9 (hq _ _ ?_)
  exact ⟨rfl, hM⟩
set_option maxHeartbeats 4000000 in
set_option maxRecDepth 100000 in
theorem c_X4_requests {D : Gd} {fr : Nat} {m : Nat} {ad : Nat → Nat} {S : Ms} {h : Hm} (hM : MW m ad S h) (hf : 0 ≤ fr) (ok : mWf (S.1 0))  : MC D fr yX4_requests cX4_requests 1 (some .int) m ad h [] (some (.int (mQ S 0 (S.1 0 763)).2.1)) ((mQ S 0 (S.1 0 763)).2.2) := by
  refine AM.of (lv := [some (.ref m)]) (by decide +kernel) (Nat.le_of_ble_eq_true rfl) rfl (fun z hX hq _ => ?_)
  have hM := hM.rf
  refine aw_ald0 hX dX4_requests_0 ?_
  refine aw_iconst (v := 0) hX dX4_requests_1 (by decide) ?_
  refine mm_put hX hM 1 fp_X4_39 (by decide) dX4_requests_2 (fun hp hM => ?_)
  refine aw_ald0 hX dX4_requests_5 ?_
  refine mm_get hX hM fg_X4_7 rfl dX4_requests_6 ?_
  refine aw_sipush (v := 763) hX dX4_requests_9 (by decide) ?_
  refine mm_ld hX hM (by decide) (763) (rfl) (by decide) dX4_requests_12 ?_
  refine aw_iret hX (Nat.le_refl _) (Nat.le_refl _) dX4_requests_13 (hq _ _ ?_)
  exact ⟨rfl, hM⟩
set_option maxHeartbeats 4000000 in
set_option maxRecDepth 100000 in
theorem c_X4_refusals {D : Gd} {fr : Nat} {m : Nat} {ad : Nat → Nat} {S : Ms} {h : Hm} (hM : MW m ad S h) (hf : 0 ≤ fr) (ok : mWf (S.1 0))  : MC D fr yX4_refusals cX4_refusals 1 (some .int) m ad h [] (some (.int (mQ S 0 (S.1 0 764)).2.1)) ((mQ S 0 (S.1 0 764)).2.2) := by
  refine AM.of (lv := [some (.ref m)]) (by decide +kernel) (Nat.le_of_ble_eq_true rfl) rfl (fun z hX hq _ => ?_)
  have hM := hM.rf
  refine aw_ald0 hX dX4_refusals_0 ?_
  refine aw_iconst (v := 0) hX dX4_refusals_1 (by decide) ?_
  refine mm_put hX hM 1 fp_X4_39 (by decide) dX4_refusals_2 (fun hp hM => ?_)
  refine aw_ald0 hX dX4_refusals_5 ?_
  refine mm_get hX hM fg_X4_7 rfl dX4_refusals_6 ?_
  refine aw_sipush (v := 764) hX dX4_refusals_9 (by decide) ?_
  refine mm_ld hX hM (by decide) (764) (rfl) (by decide) dX4_refusals_12 ?_
  refine aw_iret hX (Nat.le_refl _) (Nat.le_refl _) dX4_refusals_13 (hq _ _ ?_)
  exact ⟨rfl, hM⟩
set_option maxHeartbeats 4000000 in
set_option maxRecDepth 100000 in
theorem c_X4_logged {D : Gd} {fr : Nat} {m : Nat} {ad : Nat → Nat} {S : Ms} {h : Hm} (hM : MW m ad S h) (hf : 2 ≤ fr) (ok : mWf (S.1 0)) (i : Int32) (w : Nat) (hw : w < 3) : MC D fr yX4_logged cX4_logged 3 (some .int) m ad h [.int i, .int (nI w)] (some (.int (mq_logged S i w).2.1)) ((mq_logged S i w).2.2) := by
  refine AM.of (lv := [some (.ref m), some (.int i), some (.int (nI w))]) (by decide +kernel) (Nat.le_of_ble_eq_true rfl) rfl (fun z hX hq _ => ?_)
  have hM := hM.rf
  refine aw_ald0 hX dX4_logged_0 ?_
  refine aw_ild1 hX dX4_logged_1 ?_
  refine aw_iconst (v := 0) hX dX4_logged_2 (by decide) ?_
  refine aw_ald0 hX dX4_logged_3 ?_
  refine mm_get hX hM fg_X4_7 rfl dX4_logged_4 ?_
  refine aw_sipush (v := 762) hX dX4_logged_7 (by decide) ?_
  refine mm_ld hX hM (by decide) (762) (rfl) (by decide) dX4_logged_10 ?_
  refine aw_iconst (v := 1) hX dX4_logged_11 (by decide) ?_
  refine aw_isub hX dX4_logged_12 ?_
  refine ss_call hX lk_X4_46 (c_X4_in (fr := fr - 1) (by omega) _ _ _) rfl rfl (Nat.le_of_ble_eq_true rfl) (by omega) (by decide) (Nat.le_refl _) (Nat.le_refl _) dX4_logged_13 ?_
  refine aw_if_eq hX (tgt := 23) dX4_logged_16 (by decide) (fun c16 => ?_) (fun c16 => ?_)
  · have b16 := bI_0' c16
    try simp only [sV_1] at b16
    refine aw_iconst (v := 1) hX dX4_logged_23 (by decide) ?_
    refine mm_put hX hM 1 fp_X4_39 (by decide) dX4_logged_24 (fun hp hM => ?_)
    refine aw_ald0 hX dX4_logged_27 ?_
    refine mm_get hX hM fg_X4_39 rfl dX4_logged_28 ?_
    refine aw_if_ne hX (tgt := 51) dX4_logged_31 (by decide) (fun _ => ?_) (fun c => absurd c (by first | (rw [sV_at]; done) | (rw [sV_at]; decide)))
    refine aw_iconst (v := 0) hX dX4_logged_51 (by decide) ?_
    refine aw_iret hX (Nat.le_refl _) (Nat.le_refl _) dX4_logged_52 (hq _ _ ?_)
    first
      | (have e9 : mq_logged S i w = mQ S 1 (0) := by (unfold mq_logged; simp [show mLg (S.1 0) i = false from b16])
         rw [e9]
         exact ⟨rfl, hM⟩)
      | (have e9 : mq_logged S (nI i) w = mQ S 0 (S.1 0 (738 + 3 * i + w)) := by (unfold mq_logged; simp [show mLg (S.1 0) (nI i) = true from b16, mN_i (show i < 2147483648 by omega)])
         rw [e9]
         exact ⟨rfl, hM⟩)
  · have b16 := bI_n0 c16
    try simp only [sV_1] at b16
    refine aw_iconst (v := 0) hX dX4_logged_19 (by decide) ?_
    refine aw_goto hX (tgt := 24) dX4_logged_20 (by decide) ?_
    refine mm_put hX hM 1 fp_X4_39 (by decide) dX4_logged_24 (fun hp hM => ?_)
    refine aw_ald0 hX dX4_logged_27 ?_
    refine mm_get hX hM fg_X4_39 rfl dX4_logged_28 ?_
    refine aw_if_ne hX (tgt := 51) dX4_logged_31 (by decide) (fun c => absurd (by rw [sV_at]) c) (fun _ => ?_)
    obtain ⟨i, hi, rfl⟩ := mLg_of ok b16
    refine aw_ald0 hX dX4_logged_34 ?_
    refine mm_get hX hM fg_X4_7 rfl dX4_logged_35 ?_
    refine aw_sipush (v := 738) hX dX4_logged_38 (by decide) ?_
    refine aw_iconst (v := 3) hX dX4_logged_41 (by decide) ?_
    refine aw_ild1 hX dX4_logged_42 ?_
    refine aw_imul hX dX4_logged_43 ?_
    refine aw_iadd hX dX4_logged_44 ?_
    refine aw_ild2 hX dX4_logged_45 ?_
    refine aw_iadd hX dX4_logged_46 ?_
    refine mm_ld hX hM (by decide) (738 + 3 * i + w) (l738 i w) (by simp only [mLen]; omega) dX4_logged_47 ?_
    refine aw_goto hX (tgt := 52) dX4_logged_48 (by decide) ?_
    refine aw_iret hX (Nat.le_refl _) (Nat.le_refl _) dX4_logged_52 (hq _ _ ?_)
    first
      | (have e9 : mq_logged S i w = mQ S 1 (0) := by (unfold mq_logged; simp [show mLg (S.1 0) i = false from b16])
         rw [e9]
         exact ⟨rfl, hM⟩)
      | (have e9 : mq_logged S (nI i) w = mQ S 0 (S.1 0 (738 + 3 * i + w)) := by (unfold mq_logged; simp [show mLg (S.1 0) (nI i) = true from b16, mN_i (show i < 2147483648 by omega)])
         rw [e9]
         exact ⟨rfl, hM⟩)
set_option maxHeartbeats 4000000 in
set_option maxRecDepth 100000 in
theorem c_X4_userOfRequest {D : Gd} {fr : Nat} {m : Nat} {ad : Nat → Nat} {S : Ms} {h : Hm} (hM : MW m ad S h) (hf : 3 ≤ fr) (ok : mWf (S.1 0)) (i : Int32) : MC D fr yX4_userOfRequest cX4_userOfRequest 2 (some .int) m ad h [.int i] (some (.int (mq_logged S i 0).2.1)) ((mq_logged S i 0).2.2) := by
  refine AM.of (lv := [some (.ref m), some (.int i)]) (by decide +kernel) (Nat.le_of_ble_eq_true rfl) rfl (fun z hX hq _ => ?_)
  have hM := hM.rf
  refine aw_ald0 hX dX4_userOfRequest_0 ?_
  refine aw_ild1 hX dX4_userOfRequest_1 ?_
  refine aw_iconst (v := 0) hX dX4_userOfRequest_2 (by decide) ?_
  refine mm_call hX hM lk_X4_230 rfl (c_X4_logged (fr := fr - 1) hM.1 (by omega) ok i 0 (by decide)) rfl rfl (Nat.le_of_ble_eq_true rfl) (by omega) (by decide) (Nat.le_refl _) (Nat.le_refl _) dX4_userOfRequest_3 (fun hp hM => ?_)
  refine aw_iret hX (Nat.le_refl _) (Nat.le_refl _) dX4_userOfRequest_6 (hq _ _ ?_)
  exact ⟨rfl, hM⟩
set_option maxHeartbeats 4000000 in
set_option maxRecDepth 100000 in
theorem c_X4_objectOfRequest {D : Gd} {fr : Nat} {m : Nat} {ad : Nat → Nat} {S : Ms} {h : Hm} (hM : MW m ad S h) (hf : 3 ≤ fr) (ok : mWf (S.1 0)) (i : Int32) : MC D fr yX4_objectOfRequest cX4_objectOfRequest 2 (some .int) m ad h [.int i] (some (.int (mq_logged S i 1).2.1)) ((mq_logged S i 1).2.2) := by
  refine AM.of (lv := [some (.ref m), some (.int i)]) (by decide +kernel) (Nat.le_of_ble_eq_true rfl) rfl (fun z hX hq _ => ?_)
  have hM := hM.rf
  refine aw_ald0 hX dX4_objectOfRequest_0 ?_
  refine aw_ild1 hX dX4_objectOfRequest_1 ?_
  refine aw_iconst (v := 1) hX dX4_objectOfRequest_2 (by decide) ?_
  refine mm_call hX hM lk_X4_230 rfl (c_X4_logged (fr := fr - 1) hM.1 (by omega) ok i 1 (by decide)) rfl rfl (Nat.le_of_ble_eq_true rfl) (by omega) (by decide) (Nat.le_refl _) (Nat.le_refl _) dX4_objectOfRequest_3 (fun hp hM => ?_)
  refine aw_iret hX (Nat.le_refl _) (Nat.le_refl _) dX4_objectOfRequest_6 (hq _ _ ?_)
  exact ⟨rfl, hM⟩
set_option maxHeartbeats 4000000 in
set_option maxRecDepth 100000 in
theorem c_X4_wasAllowed {D : Gd} {fr : Nat} {m : Nat} {ad : Nat → Nat} {S : Ms} {h : Hm} (hM : MW m ad S h) (hf : 3 ≤ fr) (ok : mWf (S.1 0)) (i : Int32) : MC D fr yX4_wasAllowed cX4_wasAllowed 2 (some .boolean) m ad h [.int i] (some (.int (mq_wasAllowed S i).2.1)) ((mq_wasAllowed S i).2.2) := by
  refine AM.of (lv := [some (.ref m), some (.int i)]) (by decide +kernel) (Nat.le_of_ble_eq_true rfl) rfl (fun z hX hq _ => ?_)
  have hM := hM.rf
  refine aw_ald0 hX dX4_wasAllowed_0 ?_
  refine aw_ild1 hX dX4_wasAllowed_1 ?_
  refine aw_iconst (v := 2) hX dX4_wasAllowed_2 (by decide) ?_
  refine mm_call hX hM lk_X4_230 rfl (c_X4_logged (fr := fr - 1) hM.1 (by omega) ok i 2 (by decide)) rfl rfl (Nat.le_of_ble_eq_true rfl) (by omega) (by decide) (Nat.le_refl _) (Nat.le_refl _) dX4_wasAllowed_3 (fun hp hM => ?_)
  refine aw_iconst (v := 1) hX dX4_wasAllowed_6 (by decide) ?_
  refine aw_icmp_ne hX (tgt := 14) dX4_wasAllowed_7 (by decide) (fun c7 => ?_) (fun c7 => ?_)
  · refine aw_iconst (v := 0) hX dX4_wasAllowed_14 (by decide) ?_
    refine aw_zret hX (by first | rfl | exact bI_n _ | (split <;> rfl)) (Nat.le_refl _) (Nat.le_refl _) dX4_wasAllowed_15 (hq _ _ ?_)
    refine ⟨?_, hM.cg ?_⟩
    · cases hb : mLg (S.1 0) i
      · simp_all [mq_wasAllowed, mq_logged, mQ]
      · simp_all [mq_wasAllowed, mq_logged, mQ, bI]
    · unfold mq_logged mq_wasAllowed; split <;> rfl
  · refine aw_iconst (v := 1) hX dX4_wasAllowed_10 (by decide) ?_
    refine aw_goto hX (tgt := 15) dX4_wasAllowed_11 (by decide) ?_
    refine aw_zret hX (by first | rfl | exact bI_n _ | (split <;> rfl)) (Nat.le_refl _) (Nat.le_refl _) dX4_wasAllowed_15 (hq _ _ ?_)
    refine ⟨?_, hM.cg ?_⟩
    · cases hb : mLg (S.1 0) i
      · simp_all [mq_wasAllowed, mq_logged, mQ]
      · simp_all [mq_wasAllowed, mq_logged, mQ, bI]
    · unfold mq_logged mq_wasAllowed; split <;> rfl
