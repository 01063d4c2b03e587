/-! THE REFERENCE, printed by m14.py: reading a text -/
set_option maxHeartbeats 4000000 in
set_option maxRecDepth 100000 in
theorem c_X4_sees {D : Gd} {fr : Nat} {m : Nat} {ad : Nat → Nat} {S : Ms} {h : Hm} (hM : MW m ad S h) (hf : 1 ≤ fr) (t k : Nat) (ht : Tk S k t) (lo hi : Int32) : MC D fr yX4_sees cX4_sees 3 (some .boolean) m ad h [.int lo, .int hi] (some (.int (bI (pAt (S.1 4) t k lo hi)))) (S) := by
  refine AM.of (lv := [some (.ref m), some (.int lo), some (.int hi)]) (by decide +kernel) (Nat.le_of_ble_eq_true rfl) rfl (fun z hX hq _ => ?_)
  have hM := hM.rf
  obtain ⟨e3, e2, hkt, ht8⟩ := ht
  refine aw_ald0 hX dX4_sees_0 ?_
  refine mm_get hX hM fg_X4_162 rfl dX4_sees_1 ?_
  refine aw_ald0 hX dX4_sees_4 ?_
  refine mm_get hX hM fg_X4_159 rfl dX4_sees_5 ?_
  rw [e3, e2]
  refine aw_icmp_ge hX (tgt := 32) dX4_sees_8 (by decide) (fun c8 => ?_) (fun c8 => ?_)
  · refine aw_iconst (v := 0) hX dX4_sees_32 (by decide) ?_
    refine aw_zret hX (by first | rfl | exact bI_n _ | (split <;> rfl)) (Nat.le_refl _) (Nat.le_refl _) dX4_sees_33 (hq _ _ ?_)
    refine ⟨?_, hM⟩
    first
      | exact rv0 (by unfold pAt; rw [decide_eq_false (show ¬ k < t from Nat.not_lt.mpr (nle c8 (by omega) (by omega)))]; rfl)
      | exact rv1 (by unfold pAt; rw [decide_eq_true hlt, b25]; rfl)
      | exact rv0 (by unfold pAt; rw [decide_eq_true hlt, b25]; rfl)
  · have hlt : k < t := nnle c8 (by omega) (by omega)
    refine aw_ald0 hX dX4_sees_11 ?_
    refine mm_get hX hM fg_X4_23 rfl dX4_sees_12 ?_
    refine aw_ald0 hX dX4_sees_15 ?_
    refine mm_get hX hM fg_X4_162 rfl dX4_sees_16 ?_
    rw [e3]
    refine mm_ld hX hM (by decide) (k) (rfl) (by simp only [mLen]; omega) dX4_sees_19 ?_
    refine aw_ild1 hX dX4_sees_20 ?_
    refine aw_ild2 hX dX4_sees_21 ?_
    refine ss_call hX lk_X4_46 (c_X4_in (fr := fr - 1) (by omega) _ _ _) rfl rfl (Nat.le_of_ble_eq_true rfl) (by omega) (by decide) (Nat.le_refl _) (Nat.le_refl _) dX4_sees_22 ?_
    refine aw_if_eq hX (tgt := 32) dX4_sees_25 (by decide) (fun c25 => ?_) (fun c25 => ?_)
    · have b25 := bI_0' c25
      refine aw_iconst (v := 0) hX dX4_sees_32 (by decide) ?_
      refine aw_zret hX (by first | rfl | exact bI_n _ | (split <;> rfl)) (Nat.le_refl _) (Nat.le_refl _) dX4_sees_33 (hq _ _ ?_)
      refine ⟨?_, hM⟩
      first
        | exact rv0 (by unfold pAt; rw [decide_eq_false (show ¬ k < t from Nat.not_lt.mpr (nle c8 (by omega) (by omega)))]; rfl)
        | exact rv1 (by unfold pAt; rw [decide_eq_true hlt, b25]; rfl)
        | exact rv0 (by unfold pAt; rw [decide_eq_true hlt, b25]; rfl)
    · have b25 := bI_n0 c25
      refine aw_iconst (v := 1) hX dX4_sees_28 (by decide) ?_
      refine aw_goto hX (tgt := 33) dX4_sees_29 (by decide) ?_
      refine aw_zret hX (by first | rfl | exact bI_n _ | (split <;> rfl)) (Nat.le_refl _) (Nat.le_refl _) dX4_sees_33 (hq _ _ ?_)
      refine ⟨?_, hM⟩
      first
        | exact rv0 (by unfold pAt; rw [decide_eq_false (show ¬ k < t from Nat.not_lt.mpr (nle c8 (by omega) (by omega)))]; rfl)
        | exact rv1 (by unfold pAt; rw [decide_eq_true hlt, b25]; rfl)
        | exact rv0 (by unfold pAt; rw [decide_eq_true hlt, b25]; rfl)
set_option maxHeartbeats 4000000 in
set_option maxRecDepth 100000 in
theorem c_X4_sign {D : Gd} {fr : Nat} {m : Nat} {ad : Nat → Nat} {S : Ms} {h : Hm} (hM : MW m ad S h) (hf : 2 ≤ fr) (t k : Nat) (ht : Tk S k t) (c : Int32) : MC D fr yX4_sign cX4_sign 3 (some .boolean) m ad h [.int c] (some (.int (bI (pAt (S.1 4) t k c c)))) (sV S 3 (nI (pNx (S.1 4) t k c))) := by
  refine AM.of (lv := [some (.ref m), some (.int c), none]) (by decide +kernel) (Nat.le_of_ble_eq_true rfl) rfl (fun z hX hq _ => ?_)
  have hM := hM.rf
  refine aw_ald0 hX dX4_sign_0 ?_
  refine aw_ild1 hX dX4_sign_1 ?_
  refine aw_ild1 hX dX4_sign_2 ?_
  refine mm_call hX hM lk_X4_165 rfl (c_X4_sees (fr := fr - 1) hM.1 (by omega) t k ht c c) rfl rfl (Nat.le_of_ble_eq_true rfl) (by omega) (by decide) (Nat.le_refl _) (Nat.le_refl _) dX4_sign_3 (fun hp hM => ?_)
  refine aw_ist2 hX dX4_sign_6 (by decide) rfl ?_
  refine aw_ald0 hX dX4_sign_7 ?_
  refine aw_dup hX dX4_sign_8 rfl ?_
  refine mm_get hX hM fg_X4_162 rfl dX4_sign_9 ?_
  refine aw_ild2 hX dX4_sign_12 ?_
  refine aw_if_eq hX (tgt := 20) dX4_sign_13 (by decide) (fun c13 => ?_) (fun c13 => ?_)
  · have b13 := bI_0' c13
    refine aw_iconst (v := 0) hX dX4_sign_20 (by decide) ?_
    refine aw_iadd hX dX4_sign_21 ?_
    refine mm_put hX hM 3 fp_X4_162 (by decide) dX4_sign_22 (fun hp hM => ?_)
    refine aw_ild2 hX dX4_sign_25 ?_
    refine aw_zret hX (by first | rfl | exact bI_n _ | (split <;> rfl)) (Nat.le_refl _) (Nat.le_refl _) dX4_sign_26 (hq _ _ ?_)
    refine ⟨rfl, hM.cg ?_⟩
    first
      | (rw [pNx_1 b13, ht.1, nI_1])
      | (rw [pNx_0 b13, ht.1, Int32.add_zero])
  · have b13 := bI_n0 c13
    refine aw_iconst (v := 1) hX dX4_sign_16 (by decide) ?_
    refine aw_goto hX (tgt := 21) dX4_sign_17 (by decide) ?_
    refine aw_iadd hX dX4_sign_21 ?_
    refine mm_put hX hM 3 fp_X4_162 (by decide) dX4_sign_22 (fun hp hM => ?_)
    refine aw_ild2 hX dX4_sign_25 ?_
    refine aw_zret hX (by first | rfl | exact bI_n _ | (split <;> rfl)) (Nat.le_refl _) (Nat.le_refl _) dX4_sign_26 (hq _ _ ?_)
    refine ⟨rfl, hM.cg ?_⟩
    first
      | (rw [pNx_1 b13, ht.1, nI_1])
      | (rw [pNx_0 b13, ht.1, Int32.add_zero])
set_option maxHeartbeats 4000000 in
set_option maxRecDepth 100000 in
theorem c_X4_number {D : Gd} {fr : Nat} {m : Nat} {ad : Nat → Nat} {S : Ms} {h : Hm} (hM : MW m ad S h) (hf : 2 ≤ fr) (t k : Nat) (ht : Tk S k t) (mx : Int32) : MC D fr yX4_number cX4_number 2 (some .boolean) m ad h [.int mx] (some (.int (bI (pNum (S.1 4) t k mx).1))) (pNumS S (pNum (S.1 4) t k mx)) := by
  refine AM.of (lv := [some (.ref m), some (.int mx)]) (by decide +kernel) (Nat.le_of_ble_eq_true rfl) rfl (fun z hX hq _ => ?_)
  have hM := hM.rf
  refine aw_ald0 hX dX4_number_0 ?_
  refine aw_bipush (v := 48) hX dX4_number_1 (by decide) ?_
  refine aw_bipush (v := 48) hX dX4_number_3 (by decide) ?_
  refine aw_ild1 hX dX4_number_5 ?_
  refine aw_bipush (v := 9) hX dX4_number_6 (by decide) ?_
  refine aw_icmp_ge hX (tgt := 15) dX4_number_8 (by decide) (fun c8 => ?_) (fun c8 => ?_)
  · refine aw_bipush (v := 9) hX dX4_number_15 (by decide) ?_
    refine aw_iadd hX dX4_number_17 ?_
    refine mm_call hX hM lk_X4_165 rfl (c_X4_sees (fr := fr - 1) hM.1 (by omega) t k ht _ _) rfl rfl (Nat.le_of_ble_eq_true rfl) (by omega) (by decide) (Nat.le_refl _) (Nat.le_refl _) dX4_number_18 (fun hp hM => ?_)
    refine aw_if_ne hX (tgt := 26) dX4_number_21 (by decide) (fun c21 => ?_) (fun c21 => ?_)
    · have b21 := bI_n0 c21
      have hlt := pAt_lt b21
      have e3 := ht.1
      have ht8 := ht.2.2.2
      refine aw_ald0 hX dX4_number_26 ?_
      refine aw_ald0 hX dX4_number_27 ?_
      refine mm_get hX hM fg_X4_23 rfl dX4_number_28 ?_
      refine aw_ald0 hX dX4_number_31 ?_
      refine mm_get hX hM fg_X4_162 rfl dX4_number_32 ?_
      refine mm_ld hX hM (by decide) (k) (e3) (by simp only [mLen]; omega) dX4_number_35 ?_
      refine aw_bipush (v := 48) hX dX4_number_36 (by decide) ?_
      refine aw_isub hX dX4_number_38 ?_
      refine mm_put hX hM 6 fp_X4_168 (by decide) dX4_number_39 (fun hp hM => ?_)
      refine aw_ald0 hX dX4_number_42 ?_
      refine aw_dup hX dX4_number_43 rfl ?_
      refine mm_get hX hM fg_X4_162 rfl dX4_number_44 ?_
      refine aw_iconst (v := 1) hX dX4_number_47 (by decide) ?_
      refine aw_iadd hX dX4_number_48 ?_
      refine mm_put hX hM 3 fp_X4_162 (by decide) dX4_number_49 (fun hp hM => ?_)
      have ht2 : Tk (sV (sV S 6 (S.1 4 k - 48)) 3 (S.2 3 + 1)) (k + 1) t := ⟨(congrArg (· + 1) e3).trans (nI_1 k), ht.2.1, hlt, ht8⟩
      refine aw_ald0 hX dX4_number_52 ?_
      refine mm_get hX hM fg_X4_168 rfl dX4_number_53 ?_
      refine aw_iconst (v := 1) hX dX4_number_56 (by decide) ?_
      refine aw_icmp_ne hX (tgt := 111) dX4_number_57 (by decide) (fun c57 => ?_) (fun c57 => ?_)
      · refine aw_iconst (v := 1) hX dX4_number_111 (by decide) ?_
        refine aw_zret hX (rfl) (Nat.le_refl _) (Nat.le_refl _) dX4_number_112 (hq _ _ ?_)
        have e8 : pAt (S.1 4) t k 48 (48 + (if mx < 9 then mx else 9)) = true := by first | rw [if_pos (Int32.not_le.mp c8), b21] | rw [if_neg (Int32.not_lt.mpr c8), b21]
        rw [pNum_1 e8 (fun q => c57 q.1)]
        exact ⟨rfl, hM.cg (by show sV (sV S 6 _) 3 (S.2 3 + 1) = _; rw [e3, nI_1]; rfl)⟩
      · refine aw_ild1 hX dX4_number_60 ?_
        refine aw_bipush (v := 9) hX dX4_number_61 (by decide) ?_
        refine aw_icmp_le hX (tgt := 111) dX4_number_63 (by decide) (fun c63 => ?_) (fun c63 => ?_)
        · refine aw_iconst (v := 1) hX dX4_number_111 (by decide) ?_
          refine aw_zret hX (rfl) (Nat.le_refl _) (Nat.le_refl _) dX4_number_112 (hq _ _ ?_)
          have e8 : pAt (S.1 4) t k 48 (48 + (if mx < 9 then mx else 9)) = true := by first | rw [if_pos (Int32.not_le.mp c8), b21] | rw [if_neg (Int32.not_lt.mpr c8), b21]
          rw [pNum_1 e8 (fun q => absurd q.2.1 (Int32.not_lt.mpr c63))]
          exact ⟨rfl, hM.cg (by show sV (sV S 6 _) 3 (S.2 3 + 1) = _; rw [e3, nI_1]; rfl)⟩
        · refine aw_ald0 hX dX4_number_66 ?_
          refine aw_bipush (v := 48) hX dX4_number_67 (by decide) ?_
          refine aw_bipush (v := 48) hX dX4_number_69 (by decide) ?_
          refine aw_ild1 hX dX4_number_71 ?_
          refine aw_iadd hX dX4_number_72 ?_
          refine aw_bipush (v := 10) hX dX4_number_73 (by decide) ?_
          refine aw_isub hX dX4_number_75 ?_
          refine mm_call hX hM lk_X4_165 rfl (c_X4_sees (fr := fr - 1) hM.1 (by omega) t (k + 1) ht2 _ _) rfl rfl (Nat.le_of_ble_eq_true rfl) (by omega) (by decide) (Nat.le_refl _) (Nat.le_refl _) dX4_number_76 (fun hp hM => ?_)
          refine aw_if_eq hX (tgt := 111) dX4_number_79 (by decide) (fun c79 => ?_) (fun c79 => ?_)
          · have b79 := bI_0' c79
            refine aw_iconst (v := 1) hX dX4_number_111 (by decide) ?_
            refine aw_zret hX (rfl) (Nat.le_refl _) (Nat.le_refl _) dX4_number_112 (hq _ _ ?_)
            have e8 : pAt (S.1 4) t k 48 (48 + (if mx < 9 then mx else 9)) = true := by first | rw [if_pos (Int32.not_le.mp c8), b21] | rw [if_neg (Int32.not_lt.mpr c8), b21]
            rw [pNum_1 e8 (fun q => by have := q.2.2; rw [show pAt (S.1 4) t (k + 1) 48 (48 + mx - 10) = false from b79] at this; cases this)]
            exact ⟨rfl, hM.cg (by show sV (sV S 6 _) 3 (S.2 3 + 1) = _; rw [e3, nI_1]; rfl)⟩
          · have b79 := bI_n0 c79
            have hlt2 := pAt_lt b79
            have e4 := ht2.1
            refine aw_ald0 hX dX4_number_82 ?_
            refine aw_bipush (v := 10) hX dX4_number_83 (by decide) ?_
            refine aw_ald0 hX dX4_number_85 ?_
            refine mm_get hX hM fg_X4_23 rfl dX4_number_86 ?_
            refine aw_ald0 hX dX4_number_89 ?_
            refine mm_get hX hM fg_X4_162 rfl dX4_number_90 ?_
            refine mm_ld hX hM (by decide) (k + 1) (e4) (by simp only [mLen]; omega) dX4_number_93 ?_
            refine aw_iadd hX dX4_number_94 ?_
            refine aw_bipush (v := 48) hX dX4_number_95 (by decide) ?_
            refine aw_isub hX dX4_number_97 ?_
            refine mm_put hX hM 6 fp_X4_168 (by decide) dX4_number_98 (fun hp hM => ?_)
            refine aw_ald0 hX dX4_number_101 ?_
            refine aw_dup hX dX4_number_102 rfl ?_
            refine mm_get hX hM fg_X4_162 rfl dX4_number_103 ?_
            refine aw_iconst (v := 1) hX dX4_number_106 (by decide) ?_
            refine aw_iadd hX dX4_number_107 ?_
            refine mm_put hX hM 3 fp_X4_162 (by decide) dX4_number_108 (fun hp hM => ?_)
            refine aw_iconst (v := 1) hX dX4_number_111 (by decide) ?_
            refine aw_zret hX (rfl) (Nat.le_refl _) (Nat.le_refl _) dX4_number_112 (hq _ _ ?_)
            have e8 : pAt (S.1 4) t k 48 (48 + (if mx < 9 then mx else 9)) = true := by first | rw [if_pos (Int32.not_le.mp c8), b21] | rw [if_neg (Int32.not_lt.mpr c8), b21]
            rw [pNum_2 e8 c57 (Int32.not_le.mp c63) b79]
            exact ⟨rfl, hM.cg (sV_3 S e3)⟩
    · have b21 := bI_0' c21
      refine aw_iconst (v := 0) hX dX4_number_24 (by decide) ?_
      refine aw_zret hX (rfl) (Nat.le_refl _) (Nat.le_refl _) dX4_number_25 (hq _ _ ?_)
      have e9 := pNum_0 (mx := mx) (by first | rw [if_pos (Int32.not_le.mp c8), b21] | rw [if_neg (Int32.not_lt.mpr c8), b21])
      rw [e9]
      exact ⟨rfl, hM⟩
  · refine aw_ild1 hX dX4_number_11 ?_
    refine aw_goto hX (tgt := 17) dX4_number_12 (by decide) ?_
    refine aw_iadd hX dX4_number_17 ?_
    refine mm_call hX hM lk_X4_165 rfl (c_X4_sees (fr := fr - 1) hM.1 (by omega) t k ht _ _) rfl rfl (Nat.le_of_ble_eq_true rfl) (by omega) (by decide) (Nat.le_refl _) (Nat.le_refl _) dX4_number_18 (fun hp hM => ?_)
    refine aw_if_ne hX (tgt := 26) dX4_number_21 (by decide) (fun c21 => ?_) (fun c21 => ?_)
    · have b21 := bI_n0 c21
      have hlt := pAt_lt b21
      have e3 := ht.1
      have ht8 := ht.2.2.2
      refine aw_ald0 hX dX4_number_26 ?_
      refine aw_ald0 hX dX4_number_27 ?_
      refine mm_get hX hM fg_X4_23 rfl dX4_number_28 ?_
      refine aw_ald0 hX dX4_number_31 ?_
      refine mm_get hX hM fg_X4_162 rfl dX4_number_32 ?_
      refine mm_ld hX hM (by decide) (k) (e3) (by simp only [mLen]; omega) dX4_number_35 ?_
      refine aw_bipush (v := 48) hX dX4_number_36 (by decide) ?_
      refine aw_isub hX dX4_number_38 ?_
      refine mm_put hX hM 6 fp_X4_168 (by decide) dX4_number_39 (fun hp hM => ?_)
      refine aw_ald0 hX dX4_number_42 ?_
      refine aw_dup hX dX4_number_43 rfl ?_
      refine mm_get hX hM fg_X4_162 rfl dX4_number_44 ?_
      refine aw_iconst (v := 1) hX dX4_number_47 (by decide) ?_
      refine aw_iadd hX dX4_number_48 ?_
      refine mm_put hX hM 3 fp_X4_162 (by decide) dX4_number_49 (fun hp hM => ?_)
      have ht2 : Tk (sV (sV S 6 (S.1 4 k - 48)) 3 (S.2 3 + 1)) (k + 1) t := ⟨(congrArg (· + 1) e3).trans (nI_1 k), ht.2.1, hlt, ht8⟩
      refine aw_ald0 hX dX4_number_52 ?_
      refine mm_get hX hM fg_X4_168 rfl dX4_number_53 ?_
      refine aw_iconst (v := 1) hX dX4_number_56 (by decide) ?_
      refine aw_icmp_ne hX (tgt := 111) dX4_number_57 (by decide) (fun c57 => ?_) (fun c57 => ?_)
      · refine aw_iconst (v := 1) hX dX4_number_111 (by decide) ?_
        refine aw_zret hX (rfl) (Nat.le_refl _) (Nat.le_refl _) dX4_number_112 (hq _ _ ?_)
        have e8 : pAt (S.1 4) t k 48 (48 + (if mx < 9 then mx else 9)) = true := by first | rw [if_pos (Int32.not_le.mp c8), b21] | rw [if_neg (Int32.not_lt.mpr c8), b21]
        rw [pNum_1 e8 (fun q => c57 q.1)]
        exact ⟨rfl, hM.cg (by show sV (sV S 6 _) 3 (S.2 3 + 1) = _; rw [e3, nI_1]; rfl)⟩
      · refine aw_ild1 hX dX4_number_60 ?_
        refine aw_bipush (v := 9) hX dX4_number_61 (by decide) ?_
        refine aw_icmp_le hX (tgt := 111) dX4_number_63 (by decide) (fun c63 => ?_) (fun c63 => ?_)
        · refine aw_iconst (v := 1) hX dX4_number_111 (by decide) ?_
          refine aw_zret hX (rfl) (Nat.le_refl _) (Nat.le_refl _) dX4_number_112 (hq _ _ ?_)
          have e8 : pAt (S.1 4) t k 48 (48 + (if mx < 9 then mx else 9)) = true := by first | rw [if_pos (Int32.not_le.mp c8), b21] | rw [if_neg (Int32.not_lt.mpr c8), b21]
          rw [pNum_1 e8 (fun q => absurd q.2.1 (Int32.not_lt.mpr c63))]
          exact ⟨rfl, hM.cg (by show sV (sV S 6 _) 3 (S.2 3 + 1) = _; rw [e3, nI_1]; rfl)⟩
        · refine aw_ald0 hX dX4_number_66 ?_
          refine aw_bipush (v := 48) hX dX4_number_67 (by decide) ?_
          refine aw_bipush (v := 48) hX dX4_number_69 (by decide) ?_
          refine aw_ild1 hX dX4_number_71 ?_
          refine aw_iadd hX dX4_number_72 ?_
          refine aw_bipush (v := 10) hX dX4_number_73 (by decide) ?_
          refine aw_isub hX dX4_number_75 ?_
          refine mm_call hX hM lk_X4_165 rfl (c_X4_sees (fr := fr - 1) hM.1 (by omega) t (k + 1) ht2 _ _) rfl rfl (Nat.le_of_ble_eq_true rfl) (by omega) (by decide) (Nat.le_refl _) (Nat.le_refl _) dX4_number_76 (fun hp hM => ?_)
          refine aw_if_eq hX (tgt := 111) dX4_number_79 (by decide) (fun c79 => ?_) (fun c79 => ?_)
          · have b79 := bI_0' c79
            refine aw_iconst (v := 1) hX dX4_number_111 (by decide) ?_
            refine aw_zret hX (rfl) (Nat.le_refl _) (Nat.le_refl _) dX4_number_112 (hq _ _ ?_)
            have e8 : pAt (S.1 4) t k 48 (48 + (if mx < 9 then mx else 9)) = true := by first | rw [if_pos (Int32.not_le.mp c8), b21] | rw [if_neg (Int32.not_lt.mpr c8), b21]
            rw [pNum_1 e8 (fun q => by have := q.2.2; rw [show pAt (S.1 4) t (k + 1) 48 (48 + mx - 10) = false from b79] at this; cases this)]
            exact ⟨rfl, hM.cg (by show sV (sV S 6 _) 3 (S.2 3 + 1) = _; rw [e3, nI_1]; rfl)⟩
          · have b79 := bI_n0 c79
            have hlt2 := pAt_lt b79
            have e4 := ht2.1
            refine aw_ald0 hX dX4_number_82 ?_
            refine aw_bipush (v := 10) hX dX4_number_83 (by decide) ?_
            refine aw_ald0 hX dX4_number_85 ?_
            refine mm_get hX hM fg_X4_23 rfl dX4_number_86 ?_
            refine aw_ald0 hX dX4_number_89 ?_
            refine mm_get hX hM fg_X4_162 rfl dX4_number_90 ?_
            refine mm_ld hX hM (by decide) (k + 1) (e4) (by simp only [mLen]; omega) dX4_number_93 ?_
            refine aw_iadd hX dX4_number_94 ?_
            refine aw_bipush (v := 48) hX dX4_number_95 (by decide) ?_
            refine aw_isub hX dX4_number_97 ?_
            refine mm_put hX hM 6 fp_X4_168 (by decide) dX4_number_98 (fun hp hM => ?_)
            refine aw_ald0 hX dX4_number_101 ?_
            refine aw_dup hX dX4_number_102 rfl ?_
            refine mm_get hX hM fg_X4_162 rfl dX4_number_103 ?_
            refine aw_iconst (v := 1) hX dX4_number_106 (by decide) ?_
            refine aw_iadd hX dX4_number_107 ?_
            refine mm_put hX hM 3 fp_X4_162 (by decide) dX4_number_108 (fun hp hM => ?_)
            refine aw_iconst (v := 1) hX dX4_number_111 (by decide) ?_
            refine aw_zret hX (rfl) (Nat.le_refl _) (Nat.le_refl _) dX4_number_112 (hq _ _ ?_)
            have e8 : pAt (S.1 4) t k 48 (48 + (if mx < 9 then mx else 9)) = true := by first | rw [if_pos (Int32.not_le.mp c8), b21] | rw [if_neg (Int32.not_lt.mpr c8), b21]
            rw [pNum_2 e8 c57 (Int32.not_le.mp c63) b79]
            exact ⟨rfl, hM.cg (sV_3 S e3)⟩
    · have b21 := bI_0' c21
      refine aw_iconst (v := 0) hX dX4_number_24 (by decide) ?_
      refine aw_zret hX (rfl) (Nat.le_refl _) (Nat.le_refl _) dX4_number_25 (hq _ _ ?_)
      have e9 := pNum_0 (mx := mx) (by first | rw [if_pos (Int32.not_le.mp c8), b21] | rw [if_neg (Int32.not_lt.mpr c8), b21])
      rw [e9]
      exact ⟨rfl, hM⟩
set_option maxHeartbeats 4000000 in
set_option maxRecDepth 100000 in
theorem c_X4_whomRead {D : Gd} {fr : Nat} {m : Nat} {ad : Nat → Nat} {S : Ms} {h : Hm} (hM : MW m ad S h) (hf : 3 ≤ fr) (t k n : Nat) (ht : Tk S k t) (hpn : S.2 5 = nI n) (hn : n ≤ 5) : MX D fr yX4_whomRead cX4_whomRead 3 (some .boolean) m ad h [] (pWhoP S t k n) := by
  refine AM.of (lv := [some (.ref m), none, none]) (by decide +kernel) (Nat.le_of_ble_eq_true rfl) rfl (fun z hX hq _ => ?_)
  have hM := hM.rf
  refine aw_iconst (v := 5) hX dX4_whomRead_0 (by decide) ?_
  refine aw_ald0 hX dX4_whomRead_1 ?_
  refine mm_get hX hM fg_X4_171 rfl dX4_whomRead_2 ?_
  refine aw_imul hX dX4_whomRead_5 ?_
  have e5 : (5 : Int32) * S.2 5 = nI (5 * n) := by rw [hpn, show (5 : Int32) = nI 5 from rfl, pk_mul]
  rw [e5]
  refine aw_ist1 hX dX4_whomRead_6 (by decide) rfl ?_
  refine aw_ald0 hX dX4_whomRead_7 ?_
  refine mm_get hX hM fg_X4_32 rfl dX4_whomRead_8 ?_
  refine aw_ild1 hX dX4_whomRead_11 ?_
  refine aw_iconst (v := 1) hX dX4_whomRead_12 (by decide) ?_
  refine aw_iadd hX dX4_whomRead_13 ?_
  refine aw_iconst (v := 0) hX dX4_whomRead_14 (by decide) ?_
  refine mm_st hX hM (by decide) (5 * n + 1) (nI_1 _) (by simp only [mLen]; omega) dX4_whomRead_15 (fun hp hM => ?_)
  refine aw_ald0 hX dX4_whomRead_16 ?_
  refine aw_bipush (v := 117) hX dX4_whomRead_17 (by decide) ?_
  refine mm_call hX hM lk_X4_174 rfl (c_X4_sign (fr := fr - 1) hM.1 (by omega) t k ht 117) rfl rfl (Nat.le_of_ble_eq_true rfl) (by omega) (by decide) (Nat.le_refl _) (Nat.le_refl _) dX4_whomRead_19 (fun hp hM => ?_)
  refine aw_if_eq hX (tgt := 55) dX4_whomRead_22 (by decide) (fun c22 => ?_) (fun c22 => ?_)
  · have b22 := bI_0' c22
    have hx0 := pNx_0 b22
    have ht1 := ht.nx (S2 := sV (sA S 7 (upd (S.1 7) (5 * n + 1) 0)) 3 (nI (pNx (S.1 4) t k 117))) rfl ht.2.2.1 (congrArg nI hx0)
    refine aw_ald0 hX dX4_whomRead_55 ?_
    refine aw_bipush (v := 103) hX dX4_whomRead_56 (by decide) ?_
    refine mm_call hX hM lk_X4_174 rfl (c_X4_sign (fr := fr - 1) hM.1 (by omega) t k ht1 103) rfl rfl (Nat.le_of_ble_eq_true rfl) (by omega) (by decide) (Nat.le_refl _) (Nat.le_refl _) dX4_whomRead_58 (fun hp hM => ?_)
    refine aw_if_eq hX (tgt := 94) dX4_whomRead_61 (by decide) (fun c61 => ?_) (fun c61 => ?_)
    · have b61 := bI_0' c61
      have hx1 := pNx_0 b61
      have ht2 := ht.nx (S2 := sV (sV (sA S 7 (upd (S.1 7) (5 * n + 1) 0)) 3 (nI (pNx (S.1 4) t k 117))) 3 (nI (pNx (S.1 4) t k 103))) rfl ht.2.2.1 (congrArg nI hx1)
      refine aw_ald0 hX dX4_whomRead_94 ?_
      refine aw_bipush (v := 111) hX dX4_whomRead_95 (by decide) ?_
      refine mm_call hX hM lk_X4_174 rfl (c_X4_sign (fr := fr - 1) hM.1 (by omega) t k ht2 111) rfl rfl (Nat.le_of_ble_eq_true rfl) (by omega) (by decide) (Nat.le_refl _) (Nat.le_refl _) dX4_whomRead_97 (fun hp hM => ?_)
      refine aw_ist2 hX dX4_whomRead_100 (by decide) rfl ?_
      refine aw_ald0 hX dX4_whomRead_101 ?_
      refine mm_get hX hM fg_X4_32 rfl dX4_whomRead_102 ?_
      refine aw_ild1 hX dX4_whomRead_105 ?_
      refine aw_iconst (v := 0) hX dX4_whomRead_106 (by decide) ?_
      refine aw_iadd hX dX4_whomRead_107 ?_
      refine aw_ild2 hX dX4_whomRead_108 ?_
      refine aw_if_eq hX (tgt := 116) dX4_whomRead_109 (by decide) (fun c109 => ?_) (fun c109 => ?_)
      · have b109 := bI_0' c109
        refine aw_iconst (v := 3) hX dX4_whomRead_116 (by decide) ?_
        refine mm_st hX hM (by decide) (5 * n) (Int32.add_zero _) (by simp only [mLen]; omega) dX4_whomRead_117 (fun hp hM => ?_)
        refine aw_ild2 hX dX4_whomRead_118 ?_
        refine aw_if_ne hX (tgt := 131) dX4_whomRead_119 (by decide) (fun c => absurd (bI_f b109) c) (fun _ => ?_)
        have hx2 := pNx_0 b109
        have ht3 : Tk _ k t := ht.nx (S2 := sA (sV (sV (sV (sA S 7 (upd (S.1 7) (5 * n + 1) 0)) 3 (nI (pNx (S.1 4) t k 117))) 3 (nI (pNx (S.1 4) t k 103))) 3 (nI (pNx (S.1 4) t k 111))) 7 (upd (upd (S.1 7) (5 * n + 1) 0) (5 * n) 3)) rfl ht.2.2.1 (congrArg nI hx2)
        refine aw_ald0 hX dX4_whomRead_122 ?_
        refine aw_bipush (v := 97) hX dX4_whomRead_123 (by decide) ?_
        refine mm_call hX hM lk_X4_174 rfl (c_X4_sign (fr := fr - 1) hM.1 (by omega) t k ht3 97) rfl rfl (Nat.le_of_ble_eq_true rfl) (by omega) (by decide) (Nat.le_refl _) (Nat.le_refl _) dX4_whomRead_125 (fun hp hM => ?_)
        refine aw_if_eq hX (tgt := 135) dX4_whomRead_128 (by decide) (fun c128 => ?_) (fun c128 => ?_)
        · have b128 := bI_0' c128
          refine aw_iconst (v := 0) hX dX4_whomRead_135 (by decide) ?_
          refine aw_zret hX (by first | rfl | exact bI_n _) (Nat.le_refl _) (Nat.le_refl _) dX4_whomRead_136 (hq _ _ ?_)
          refine ⟨_, ?_, hM⟩
          unfold pWhoP
          rw [pWho_n (p := S.1 4) b22 b61 b109 b128]
          refine ⟨rfl, ?_, ?_, hpn, fun i hi => ?_, fun ho => ?_⟩
          · repeat first | exact pSm.rf _ | refine pSm.V (by decide) ?_ | refine pSm.A ?_
          · exact congrArg nI (pNx_0 b128)
          · show upd (upd (S.1 7) (5 * n + 1) 0) (5 * n) 3 i = _
            rw [pk_un (by omega), pk_un (by omega)]
          · cases ho
        · have b128 := bI_n0 c128
          refine aw_iconst (v := 1) hX dX4_whomRead_131 (by decide) ?_
          refine aw_goto hX (tgt := 136) dX4_whomRead_132 (by decide) ?_
          refine aw_zret hX (by first | rfl | exact bI_n _) (Nat.le_refl _) (Nat.le_refl _) dX4_whomRead_136 (hq _ _ ?_)
          refine ⟨_, ?_, hM⟩
          unfold pWhoP
          rw [pWho_a (p := S.1 4) b22 b61 b109 b128]
          refine ⟨rfl, ?_, ?_, hpn, fun i hi => ?_, fun ho => ?_⟩
          · repeat first | exact pSm.rf _ | refine pSm.V (by decide) ?_ | refine pSm.A ?_
          · exact congrArg nI (pNx_1 b128)
          · show upd (upd (S.1 7) (5 * n + 1) 0) (5 * n) 3 i = _
            rw [pk_un (by omega), pk_un (by omega)]
          · exact ⟨pk_us, (pk_un (by omega)).trans pk_us⟩
      · have b109 := bI_n0 c109
        refine aw_iconst (v := 2) hX dX4_whomRead_112 (by decide) ?_
        refine aw_goto hX (tgt := 117) dX4_whomRead_113 (by decide) ?_
        refine mm_st hX hM (by decide) (5 * n) (Int32.add_zero _) (by simp only [mLen]; omega) dX4_whomRead_117 (fun hp hM => ?_)
        refine aw_ild2 hX dX4_whomRead_118 ?_
        refine aw_if_ne hX (tgt := 131) dX4_whomRead_119 (by decide) (fun _ => ?_) (fun c => absurd c (fun e => by rw [b109] at e; exact absurd e (by decide)))
        refine aw_iconst (v := 1) hX dX4_whomRead_131 (by decide) ?_
        refine aw_goto hX (tgt := 136) dX4_whomRead_132 (by decide) ?_
        refine aw_zret hX (by first | rfl | exact bI_n _) (Nat.le_refl _) (Nat.le_refl _) dX4_whomRead_136 (hq _ _ ?_)
        refine ⟨_, ?_, hM⟩
        unfold pWhoP
        rw [pWho_o (p := S.1 4) b22 b61 b109]
        refine ⟨rfl, ?_, ?_, hpn, fun i hi => ?_, fun ho => ?_⟩
        · repeat first | exact pSm.rf _ | refine pSm.V (by decide) ?_ | refine pSm.A ?_
        · exact congrArg nI (pNx_1 b109)
        · show upd (upd (S.1 7) (5 * n + 1) 0) (5 * n) 2 i = _
          rw [pk_un (by omega), pk_un (by omega)]
        · exact ⟨pk_us, (pk_un (by omega)).trans pk_us⟩
    · have b61 := bI_n0 c61
      have ht2 := ht.nx (S2 := sV (sV (sA S 7 (upd (S.1 7) (5 * n + 1) 0)) 3 (nI (pNx (S.1 4) t k 117))) 3 (nI (pNx (S.1 4) t k 103))) rfl (pAt_lt b61) (congrArg nI (pNx_1 b61))
      refine aw_ald0 hX dX4_whomRead_64 ?_
      refine aw_bipush (v := 7) hX dX4_whomRead_65 (by decide) ?_
      refine mm_call hX hM lk_X4_177 rfl (c_X4_number (fr := fr - 1) hM.1 (by omega) t (k + 1) ht2 7) rfl rfl (Nat.le_of_ble_eq_true rfl) (by omega) (by decide) (Nat.le_refl _) (Nat.le_refl _) dX4_whomRead_67 (fun hp hM => ?_)
      refine aw_ist2 hX dX4_whomRead_70 (by decide) rfl ?_
      refine aw_ald0 hX dX4_whomRead_71 ?_
      refine mm_get hX hM fg_X4_32 rfl dX4_whomRead_72 ?_
      refine aw_ild1 hX dX4_whomRead_75 ?_
      refine aw_iconst (v := 0) hX dX4_whomRead_76 (by decide) ?_
      refine aw_iadd hX dX4_whomRead_77 ?_
      refine aw_iconst (v := 1) hX dX4_whomRead_78 (by decide) ?_
      refine mm_st hX hM (by decide) (5 * n) (Int32.add_zero _) (by simp only [mLen]; omega) dX4_whomRead_79 (fun hp hM => ?_)
      refine aw_ald0 hX dX4_whomRead_80 ?_
      refine mm_get hX hM fg_X4_32 rfl dX4_whomRead_81 ?_
      refine aw_ild1 hX dX4_whomRead_84 ?_
      refine aw_iconst (v := 1) hX dX4_whomRead_85 (by decide) ?_
      refine aw_iadd hX dX4_whomRead_86 ?_
      refine aw_ald0 hX dX4_whomRead_87 ?_
      refine mm_get hX hM fg_X4_168 rfl dX4_whomRead_88 ?_
      refine mm_st hX hM (by decide) (5 * n + 1) (nI_1 _) (by simp only [mLen]; omega) dX4_whomRead_91 (fun hp hM => ?_)
      refine aw_ild2 hX dX4_whomRead_92 ?_
      refine aw_zret hX (by first | rfl | exact bI_n _) (Nat.le_refl _) (Nat.le_refl _) dX4_whomRead_93 (hq _ _ ?_)
      refine ⟨_, pWhoP_n ?_ ?_ ?_ ?_ (pWho_g b22 b61), hM⟩
      · repeat first | exact pSm.rf _ | refine pSm.V (by decide) ?_ | refine pSm.A ?_
      · exact congrArg nI (pNx_1 b61)
      · exact hpn
      · exact fun i hi => pk_un (by omega)
  · have b22 := bI_n0 c22
    have ht2 := ht.nx (S2 := sV (sA S 7 (upd (S.1 7) (5 * n + 1) 0)) 3 (nI (pNx (S.1 4) t k 117))) rfl (pAt_lt b22) (congrArg nI (pNx_1 b22))
    refine aw_ald0 hX dX4_whomRead_25 ?_
    refine aw_bipush (v := 11) hX dX4_whomRead_26 (by decide) ?_
    refine mm_call hX hM lk_X4_177 rfl (c_X4_number (fr := fr - 1) hM.1 (by omega) t (k + 1) ht2 11) rfl rfl (Nat.le_of_ble_eq_true rfl) (by omega) (by decide) (Nat.le_refl _) (Nat.le_refl _) dX4_whomRead_28 (fun hp hM => ?_)
    refine aw_ist2 hX dX4_whomRead_31 (by decide) rfl ?_
    refine aw_ald0 hX dX4_whomRead_32 ?_
    refine mm_get hX hM fg_X4_32 rfl dX4_whomRead_33 ?_
    refine aw_ild1 hX dX4_whomRead_36 ?_
    refine aw_iconst (v := 0) hX dX4_whomRead_37 (by decide) ?_
    refine aw_iadd hX dX4_whomRead_38 ?_
    refine aw_iconst (v := 0) hX dX4_whomRead_39 (by decide) ?_
    refine mm_st hX hM (by decide) (5 * n) (Int32.add_zero _) (by simp only [mLen]; omega) dX4_whomRead_40 (fun hp hM => ?_)
    refine aw_ald0 hX dX4_whomRead_41 ?_
    refine mm_get hX hM fg_X4_32 rfl dX4_whomRead_42 ?_
    refine aw_ild1 hX dX4_whomRead_45 ?_
    refine aw_iconst (v := 1) hX dX4_whomRead_46 (by decide) ?_
    refine aw_iadd hX dX4_whomRead_47 ?_
    refine aw_ald0 hX dX4_whomRead_48 ?_
    refine mm_get hX hM fg_X4_168 rfl dX4_whomRead_49 ?_
    refine mm_st hX hM (by decide) (5 * n + 1) (nI_1 _) (by simp only [mLen]; omega) dX4_whomRead_52 (fun hp hM => ?_)
    refine aw_ild2 hX dX4_whomRead_53 ?_
    refine aw_zret hX (by first | rfl | exact bI_n _) (Nat.le_refl _) (Nat.le_refl _) dX4_whomRead_54 (hq _ _ ?_)
    refine ⟨_, pWhoP_n ?_ ?_ ?_ ?_ (pWho_u b22), hM⟩
    · repeat first | exact pSm.rf _ | refine pSm.V (by decide) ?_ | refine pSm.A ?_
    · exact congrArg nI (pNx_1 b22)
    · exact hpn
    · exact fun i hi => pk_un (by omega)
